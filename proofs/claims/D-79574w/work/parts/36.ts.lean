/-! sums over tallies -/
abbrev wof (k : Int32) : Int32 := if k = 0 then 1 else if k = 1 then 8 else 20
abbrev wgt (c : Nat) : Int32 := wof (nI (c / 49))
def tsum (w : Bool) (t : Tal) : Int32 := t.foldl (fun s x => s + x.2 * (if w then wgt x.1 else 1)) 0
theorem tsum_app (w : Bool) (t : Tal) (x : Nat × Int32) : tsum w (t ++ [x]) = tsum w t + x.2 * (if w then wgt x.1 else 1) := by
  unfold tsum
  rw [List.foldl_append]
  rfl
theorem take_next {α : Type} {l : List α} {i : Nat} {x : α} (h : l[i]? = some x) : l.take (i + 1) = l.take i ++ [x] := by
  obtain ⟨h1, rfl⟩ := List.getElem?_eq_some_iff.mp h
  rw [List.take_append_getElem]
theorem get_lt {α : Type} {l : List α} {i : Nat} (h : i < l.length) : ∃ x, l[i]? = some x ∧ x ∈ l := ⟨l[i], List.getElem?_eq_getElem h, List.getElem_mem h⟩
theorem ads_get {es : List Ent} {i : Nat} {x : Ent} (h : es[i]? = some x) : (ads es)[i]? = some x.1 := by unfold ads; rw [List.getElem?_map, h]; rfl
theorem ads_end {es : List Ent} {i : Nat} (h : es.length ≤ i) : (ads es)[i]? = none := by unfold ads; rw [List.getElem?_map, List.getElem?_eq_none h]; rfl
set_option maxHeartbeats 4000000 in
set_option maxRecDepth 100000 in
theorem sp_X10_weightOf {l : Launch} {s0 : State} {D : va_G} {I : AI} {L : AL} {v : Int32} (hΓ : Gam l s0 D)  : Spc l s0 D yX10_weightOf 1 [.int v] I L 0 0 (pV (.int (wof v)) I L) noX := by
  refine Spc.of hΓ cX10_weightOf 1 (some FieldType.int) q1837 (by decide +kernel) (by decide) (Nat.le_of_ble_eq_true rfl) (fun G GX hG => ?_)
  refine hG.iload_n dX10_weightOf_0 rfl ?_
  refine hG.if_ne (tgt := 8) dX10_weightOf_1 rfl (fun c_1 => ?_) (fun c_1 => ?_)
  · refine hG.iload_n dX10_weightOf_8 rfl ?_
    refine hG.iconst (v := 1) dX10_weightOf_9 rfl ?_
    refine hG.icmp_ne (tgt := 18) dX10_weightOf_10 rfl (fun c_10 => ?_) (fun c_10 => ?_)
    · refine hG.bipush (v := 20) dX10_weightOf_18 rfl ?_
      refine hG.iret dX10_weightOf_20 rfl ?_ (by omega) (by omega) trivial
      refine ⟨?_, rfl, rfl⟩
      simp_all [wof]
    · refine hG.bipush (v := 8) dX10_weightOf_13 rfl ?_
      refine hG.goto (tgt := 20) dX10_weightOf_15 rfl ?_
      refine hG.iret dX10_weightOf_20 rfl ?_ (by omega) (by omega) trivial
      refine ⟨?_, rfl, rfl⟩
      simp_all [wof]
  · refine hG.iconst (v := 1) dX10_weightOf_4 rfl ?_
    refine hG.goto (tgt := 20) dX10_weightOf_5 rfl ?_
    refine hG.iret dX10_weightOf_20 rfl ?_ (by omega) (by omega) trivial
    refine ⟨?_, rfl, rfl⟩
    simp_all [wof]
theorem kf_X10_3_X9 : LkF RX10 3 RX9 ⟨"BraidedFerry$Weighed", "kind", "()I"⟩ yX9_kind 0 := ⟨q1827, q1830, q1832, q119, ⟨by decide +kernel, by decide +kernel, by decide +kernel⟩, q1829, q1828, q1833, q1831, q1821⟩
theorem ks_X10_9 : LkS RX10 9 yX10_weightOf 1 := ⟨q1835, q1836, q120, by decide +kernel, by decide +kernel, by decide +kernel⟩
set_option maxHeartbeats 4000000 in
set_option maxRecDepth 100000 in
theorem sp_X10_weight {l : Launch} {s0 : State} {D : va_G} {I : AI} {L : AL} {a : Nat} (hΓ : Gam l s0 D) {c : Nat} (h0 : Rd I L a (ob ciX9 (grp c))) : Spc l s0 D yX10_weight 2 [.ref a] I L 0 0 (pV (.int (wgt c)) I L) noX := by
  refine Spc.of hΓ cX10_weight 1 (some FieldType.int) q1825 (by decide +kernel) (by decide) (Nat.le_of_ble_eq_true rfl) (fun G GX hG => ?_)
  refine hG.aload_n dX10_weight_0 rfl ?_
  refine hG.callF dX10_weight_1 kf_X10_3_X9 (h0.rcv cl_X9) cl_X9 (sp_X9_kind hΓ h0) rfl rfl (Nat.le_of_ble_eq_true rfl) (by decide) (by omega) (by omega) (fun r1 I1 L1 hI1 h1 => ?_) (fun _ _ _ _ _ h => h.elim)
  obtain ⟨rfl, rfl, rfl⟩ := h1
  refine hG.callS dX10_weight_6 ks_X10_9 (sp_X10_weightOf hΓ) rfl rfl (Nat.le_of_ble_eq_true rfl) (by decide) (by omega) (by omega) (fun r6 I6 L6 hI6 h6 => ?_) (fun _ _ _ _ _ h => h.elim)
  obtain ⟨rfl, rfl, rfl⟩ := h6
  refine hG.iret dX10_weight_9 rfl ?_ (by omega) (by omega) trivial
  exact ⟨rfl, rfl, rfl⟩
theorem kf_X1_33_J23 : LkF RX1 33 RJ23 ⟨"java/util/Iterator", "hasNext", "()Z"⟩ yJ22_hasNext 0 := ⟨q1806, q449, q451, q102, ⟨by decide +kernel, by decide +kernel, by decide +kernel⟩, q441, q440, q452, q450, q448⟩
theorem kf_X1_39_J23 : LkF RX1 39 RJ23 ⟨"java/util/Iterator", "next", "()Ljava/lang/Object;"⟩ yJ23_next 0 := ⟨q1808, q539, q541, q103, ⟨by decide +kernel, by decide +kernel, by decide +kernel⟩, q457, q456, q542, q540, q448⟩
theorem kf_X1_45_J31 : LkF RX1 45 RJ31 ⟨"java/util/Map$Entry", "getValue", "()Ljava/lang/Object;"⟩ yJ30_getValue 0 := ⟨q1811, q754, q749, q111, ⟨by decide +kernel, by decide +kernel, by decide +kernel⟩, q746, q745, q750, q755, q739⟩
theorem kv_X1_50 : LkV RX1 50 yJ25_intValue 0 := ⟨q1813, q758, q759, q105, by decide +kernel, by decide +kernel, by decide +kernel⟩
theorem kf_X1_54_J31 : LkF RX1 54 RJ31 ⟨"java/util/Map$Entry", "getKey", "()Ljava/lang/Object;"⟩ yJ30_getKey 0 := ⟨q1815, q740, q733, q111, ⟨by decide +kernel, by decide +kernel, by decide +kernel⟩, q729, q728, q734, q741, q739⟩
theorem kf_X1_21_J5 : LkF RX1 21 RJ5 ⟨"java/util/Map", "entrySet", "()Ljava/util/Set;"⟩ yJ5_entrySet 0 := ⟨q1796, q1800, q662, q81, ⟨by decide +kernel, by decide +kernel, by decide +kernel⟩, q1798, q1797, q1802, q1801, q1799⟩
theorem kf_X1_27_J21 : LkF RX1 27 RJ21 ⟨"java/util/Set", "iterator", "()Ljava/util/Iterator;"⟩ yJ21_iterator 0 := ⟨q1804, q691, q693, q101, ⟨by decide +kernel, by decide +kernel, by decide +kernel⟩, q689, q688, q694, q692, q690⟩
set_option maxHeartbeats 4000000 in
set_option maxRecDepth 100000 in
theorem sp_X1_sum {l : Launch} {s0 : State} {D : va_G} {I : AI} {L : AL} {dE ca : Nat} {ad : Nat → Nat} {mp : Nat} {mo : Int32} {es : List Ent} {w : Bool} (hΓ : Gam l s0 D) (hZ : Std s0 D dE ca ad) (h0 : L mp = some (mpC mo es)) : Spc l s0 D yX1_sum 7 [.ref mp, .int (b2i w)] I L 2 7 (fun r I' L' => r = some (.int (tsum w (tal es))) ∧ L = L') noX := by
  refine Spc.of hΓ cX1_sum 5 (some FieldType.int) q1794 (by decide +kernel) (by decide) (Nat.le_of_ble_eq_true rfl) (fun G GX hG => ?_)
  refine hG.iconst (v := 0) dX1_sum_0 rfl ?_
  refine hG.istore_n dX1_sum_1 (by decide) ?_
  refine hG.aload_n dX1_sum_2 rfl ?_
  refine hG.callF dX1_sum_3 kf_X1_21_J5 (Rcv.mp h0) cl_J5 (sp_J5_entrySet hΓ h0) rfl rfl (Nat.le_of_ble_eq_true rfl) (by decide) (by omega) (by omega) (fun r3 I3 L3 hI3 h3 => ?_) (fun _ _ _ _ _ h => h.elim)
  obtain ⟨rfl, q, rfl, hq⟩ := h3
  refine hG.callF dX1_sum_8 kf_X1_27_J21 (Rcv.imm hq cl_J21) cl_J21 (sp_J21_iterator hΓ hq h0) rfl rfl (Nat.le_of_ble_eq_true rfl) (by decide) (by omega) (by omega) (fun r8 I8 L8 hI8 h8 => ?_) (fun _ _ _ _ _ h => h.elim)
  obtain ⟨rfl, it, hit, hitm, rfl, rfl⟩ := h8
  refine hG.astore_n dX1_sum_13 (by decide) ?_
  obtain ⟨I2, hI2⟩ : ∃ I2, I2 = I3 := ⟨_, rfl⟩
  rw [← hI2]
  have loop : ∀ (r i : Nat) (acc : Int32) (cv : Value), i + r = es.length → acc = tsum w (tal (es.take i)) → G 14 [(1, .int (b2i w)), (2, .int acc), (3, .ref it)] [] I2 (up1 L it (some (obC ciJ23 [va_rf (ads es)[i]?, cv, .int (mo), .int 0, .ref mp]))) 2 7 := by
    intro r
    induction r with
    | zero =>
      intro i acc cv hir hacc
      have hi : es.length = i := by omega
      rw [ads_end (by omega)]
      refine hG.aload_n dX1_sum_14 rfl ?_
      refine hG.callF dX1_sum_15 kf_X1_33_J23 (Rcv.raw up1_s cl_J23) cl_J23 (sp_J22_hasNext hΓ up1_s) rfl rfl (Nat.le_of_ble_eq_true rfl) (by decide) (by omega) (by omega) (fun r15 I15 L15 hI15 h15 => ?_) (fun _ _ _ _ _ h => h.elim)
      obtain ⟨rfl, rfl, rfl⟩ := h15
      refine hG.if_eq (tgt := 77) dX1_sum_20 rfl (fun c_20 => ?_) (fun c_20 => absurd rfl c_20)
      refine hG.sub (S := L) (fun q x hq => (up1_n (fun e => by subst e; rw [hit] at hq; cases hq)).trans hq) ?_
      refine hG.iload_n dX1_sum_77 rfl ?_
      refine hG.iret dX1_sum_78 rfl ?_ (by omega) (by omega) trivial
      exact ⟨by rw [hacc, List.take_of_length_le (by omega)], rfl⟩
    | succ r ih =>
      intro i acc cv hir hacc
      obtain ⟨x, hx, hxm⟩ := get_lt (show i < es.length by omega)
      refine hG.aload_n dX1_sum_14 rfl ?_
      refine hG.callF dX1_sum_15 kf_X1_33_J23 (Rcv.raw up1_s cl_J23) cl_J23 (sp_J22_hasNext hΓ up1_s) rfl rfl (Nat.le_of_ble_eq_true rfl) (by decide) (by omega) (by omega) (fun r15 I15 L15 hI15 h15 => ?_) (fun _ _ _ _ _ h => h.elim)
      obtain ⟨rfl, rfl, rfl⟩ := h15
      refine hG.if_eq (tgt := 77) dX1_sum_20 rfl (fun c_20 => absurd c_20 (by rw [ads_get hx]; exact (by decide : ¬ b2i true = 0))) (fun c_20 => ?_)
      refine hG.aload_n dX1_sum_23 rfl ?_
      refine hG.callF dX1_sum_24 kf_X1_39_J23 (Rcv.raw up1_s cl_J23) cl_J23 (sp_J23_next hΓ hx ((up1_n hitm.symm).trans h0) up1_s) rfl rfl (Nat.le_of_ble_eq_true rfl) (by decide) (by omega) (by omega) (fun r24 I24 L24 hI24 h24 => ?_) (fun _ _ _ _ _ h => h.elim)
      obtain ⟨rfl, rfl, rfl⟩ := h24
      rw [up1_up1]
      have h0m : ∀ c, (up1 L it c) mp = _ := fun c => (up1_n hitm.symm).trans h0
      refine hG.castY dX1_sum_29 q1809 (Rcv.en (h0m _) hxm) q739 ?_
      refine hG.astore dX1_sum_32 (by decide) ?_
      refine hG.iload_n dX1_sum_34 rfl ?_
      refine hG.aload dX1_sum_35 rfl ?_
      refine hG.callF dX1_sum_37 kf_X1_45_J31 (Rcv.en (h0m _) hxm) cl_J31 (sp_J30_getValue hΓ (h0m _) hxm) rfl rfl (Nat.le_of_ble_eq_true rfl) (by decide) (by omega) (by omega) (fun r37 I37 L37 hI37 h37 => ?_) (fun _ _ _ _ _ h => h.elim)
      obtain ⟨rfl, rfl, v, rfl, hv⟩ := h37
      refine hG.castS dX1_sum_42 q1812 (Rcv.imm hv cl_J25) cl_J25 ?_
      refine hG.callV dX1_sum_45 kv_X1_50 (Rcv.imm hv cl_J25) (sp_J25_intValue hΓ (Or.inr hv)) rfl rfl (Nat.le_of_ble_eq_true rfl) (by decide) (by omega) (by omega) (fun r45 I45 L45 hI45 h45 => ?_) (fun _ _ _ _ _ h => h.elim)
      obtain ⟨rfl, rfl, rfl⟩ := h45
      refine hG.iload_n dX1_sum_48 rfl ?_
      refine hG.if_eq (tgt := 70) dX1_sum_49 rfl (fun c_49 => ?_) (fun c_49 => ?_)
      · refine hG.iconst (v := 1) dX1_sum_70 rfl ?_
        refine hG.imul dX1_sum_71 ?_
        refine hG.iadd dX1_sum_72 ?_
        refine hG.istore_n dX1_sum_73 (by decide) ?_
        refine hG.goto (tgt := 14) dX1_sum_74 rfl ?_
        have hw : w = false := by cases w <;> first | rfl | exact absurd (show b2i false = 0 from rfl) c_49 | exact absurd c_49 (by decide +kernel)
        refine hG.lsb [(1, .int (b2i w)), (2, .int (acc + x.2.2 * (if w then wgt x.2.1 else 1))), (3, .ref it)] ⟨rfl, by rw [hw]; rfl, rfl, trivial⟩ (ih (i + 1) _ _ (by omega) ?_)
        rw [hacc, take_next hx]
        show _ = tsum w (List.map (·.2) (es.take i ++ [x]))
        rw [List.map_append]
        exact (tsum_app w _ _).symm
      · refine hG.aload dX1_sum_52 rfl ?_
        refine hG.callF dX1_sum_54 kf_X1_54_J31 (Rcv.en (h0m _) hxm) cl_J31 (sp_J30_getKey hΓ (h0m _) hxm) rfl rfl (Nat.le_of_ble_eq_true rfl) (by decide) (by omega) (by omega) (fun r54 I54 L54 hI54 h54 => ?_) (fun _ _ _ _ _ h => h.elim)
        obtain ⟨rfl, rfl, g, rfl, hg⟩ := h54
        refine hG.castY dX1_sum_59 q1816 (Rcv.imm hg cl_X9) q1821 ?_
        refine hG.callFD dX1_sum_62 q1818 hZ.wt (Rcv.imm hg cl_X9) (sp_X10_weight hΓ (Or.inr hg)) rfl (Nat.le_of_ble_eq_true rfl) (by decide) (by omega) (by omega) (fun r62 I62 L62 hI62 h62 => ?_) (fun _ _ _ _ _ h => h.elim)
        obtain ⟨rfl, rfl, rfl⟩ := h62
        refine hG.goto (tgt := 71) dX1_sum_67 rfl ?_
        refine hG.imul dX1_sum_71 ?_
        refine hG.iadd dX1_sum_72 ?_
        refine hG.istore_n dX1_sum_73 (by decide) ?_
        refine hG.goto (tgt := 14) dX1_sum_74 rfl ?_
        have hw : w = true := by cases w <;> first | rfl | exact absurd (show b2i false = 0 from rfl) c_49 | exact absurd c_49 (by decide +kernel)
        refine hG.lsb [(1, .int (b2i w)), (2, .int (acc + x.2.2 * (if w then wgt x.2.1 else 1))), (3, .ref it)] ⟨rfl, by rw [hw]; rfl, rfl, trivial⟩ (ih (i + 1) _ _ (by omega) ?_)
        rw [hacc, take_next hx]
        show _ = tsum w (List.map (·.2) (es.take i ++ [x]))
        rw [List.map_append]
        exact (tsum_app w _ _).symm
  exact hG.lsb [(1, .int (b2i w)), (2, .int 0), (3, .ref it)] ⟨rfl, rfl, rfl, trivial⟩ (loop es.length 0 0 .null (by omega) rfl)
theorem ks_X3_75 : LkNS RX3 75 yX1_sum 2 := ⟨⟨_, q1792⟩, q1793, q73, by decide +kernel, by decide +kernel, by decide +kernel⟩
set_option maxHeartbeats 4000000 in
set_option maxRecDepth 100000 in
theorem sp_X3_all {l : Launch} {s0 : State} {D : va_G} {I : AI} {L : AL} {dE ca : Nat} {ad : Nat → Nat} {a : Nat} {t : Tal} (hΓ : Gam l s0 D) (hZ : Std s0 D dE ca ad) (h0 : L a = some (taC t)) : Spc l s0 D yX3_all 8 [.ref a] I L 2 7 (fun r I' L' => r = some (.int (tsum false t)) ∧ L = L') noX := by
  refine Spc.of hΓ cX3_all 1 (some FieldType.int) q2794 (by decide +kernel) (by decide) (Nat.le_of_ble_eq_true rfl) (fun G GX hG => ?_)
  refine hG.opT h0 (fun mp mo es M hne hMa hMm ht hnc hlt hf => ?_)
  subst ht
  · refine hG.aload_n dX3_all_0 rfl ?_
    refine hG.get dX3_all_1 fg_X3_10_X3 (Or.inl hMa) rfl ?_
    refine hG.iconst (v := 0) dX3_all_4 rfl ?_
    refine hG.callNS dX3_all_5 ks_X3_75 (sp_X1_sum (w := false) hΓ hZ hMm) rfl rfl (Nat.le_of_ble_eq_true rfl) (by decide) (by omega) (by omega) (fun r5 I5 L5 hI5 h5 => ?_) (fun _ _ _ _ _ h => h.elim)
    obtain ⟨rfl, rfl⟩ := h5
    refine hG.clT L _ hne hMa hMm rfl hf ?_
    rw [← h0, up1_self]
    refine hG.iret dX3_all_8 rfl ?_ (by omega) (by omega) trivial
    exact ⟨rfl, rfl⟩
set_option maxHeartbeats 4000000 in
set_option maxRecDepth 100000 in
theorem sp_X3_weight {l : Launch} {s0 : State} {D : va_G} {I : AI} {L : AL} {dE ca : Nat} {ad : Nat → Nat} {a : Nat} {t : Tal} (hΓ : Gam l s0 D) (hZ : Std s0 D dE ca ad) (h0 : L a = some (taC t)) : Spc l s0 D yX3_weight 8 [.ref a] I L 2 7 (fun r I' L' => r = some (.int (tsum true t)) ∧ L = L') noX := by
  refine Spc.of hΓ cX3_weight 1 (some FieldType.int) q1791 (by decide +kernel) (by decide) (Nat.le_of_ble_eq_true rfl) (fun G GX hG => ?_)
  refine hG.opT h0 (fun mp mo es M hne hMa hMm ht hnc hlt hf => ?_)
  subst ht
  · refine hG.aload_n dX3_weight_0 rfl ?_
    refine hG.get dX3_weight_1 fg_X3_10_X3 (Or.inl hMa) rfl ?_
    refine hG.iconst (v := 1) dX3_weight_4 rfl ?_
    refine hG.callNS dX3_weight_5 ks_X3_75 (sp_X1_sum (w := true) hΓ hZ hMm) rfl rfl (Nat.le_of_ble_eq_true rfl) (by decide) (by omega) (by omega) (fun r5 I5 L5 hI5 h5 => ?_) (fun _ _ _ _ _ h => h.elim)
    obtain ⟨rfl, rfl⟩ := h5
    refine hG.clT L _ hne hMa hMm rfl hf ?_
    rw [← h0, up1_self]
    refine hG.iret dX3_weight_8 rfl ?_ (by omega) (by omega) trivial
    exact ⟨rfl, rfl⟩
