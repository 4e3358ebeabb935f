/-! tallies joined, split, landed -/
theorem tof_out {t : Tal} {c : Nat} (h : ∀ y ∈ t, y.1 ≠ c) : tof t c = 0 := by
  induction t with
  | nil => rfl
  | cons y l ih =>
    show (if y.1 = c then y.2 else tof l c) = 0
    rw [if_neg (h y (by simp)), ih (fun z hz => h z (by simp [hz]))]
theorem tadd_new {t : Tal} {c : Nat} {m : Int32} (h : ∀ y ∈ t, y.1 ≠ c) (hm : m ≠ 0) : tadd t c m = t ++ [(c, m)] := by
  unfold tadd
  rw [tof_out h, Int32.zero_add, if_neg hm, if_neg]
  intro q
  rw [List.any_eq_true] at q
  obtain ⟨y, hy, e⟩ := q
  exact h y hy (by simpa using e)
theorem take_new {es : List Ent} {i : Nat} {x : Ent} (hn : (cods es).Nodup) (hx : es[i]? = some x) : ∀ y ∈ tal (es.take i), y.1 ≠ x.2.1 := by
  intro y hy e
  obtain ⟨z, hz, rfl⟩ := List.mem_map.mp hy
  obtain ⟨hi, hxe⟩ := List.getElem?_eq_some_iff.mp hx
  have h1 : es = es.take i ++ es[i] :: es.drop (i + 1) := by rw [← List.drop_eq_getElem_cons hi, List.take_append_drop]
  rw [h1, hxe] at hn
  unfold cods at hn
  rw [List.map_append, List.map_cons, List.nodup_append] at hn
  exact hn.2.2 z.2.1 (List.mem_map.mpr ⟨z, hz, rfl⟩) x.2.1 (by simp) e
theorem tal_take {es : List Ent} {i : Nat} {x : Ent} (hx : es[i]? = some x) : tal (es.take (i + 1)) = tal (es.take i) ++ [x.2] := by
  rw [take_next hx]
  exact List.map_append
theorem tal_len {es : List Ent} {i : Nat} : (tal (es.take i)).length ≤ i := by simp [tal]; omega
theorem kf_X3_51_J23 : LkF RX3 51 RJ23 ⟨"java/util/Iterator", "hasNext", "()Z"⟩ yJ22_hasNext 0 := ⟨q722, q449, q451, q102, ⟨by decide +kernel, by decide +kernel, by decide +kernel⟩, q441, q440, q452, q450, q448⟩
theorem kf_X3_57_J23 : LkF RX3 57 RJ23 ⟨"java/util/Iterator", "next", "()Ljava/lang/Object;"⟩ yJ23_next 0 := ⟨q724, q539, q541, q103, ⟨by decide +kernel, by decide +kernel, by decide +kernel⟩, q457, q456, q542, q540, q448⟩
theorem kf_X3_63_J31 : LkF RX3 63 RJ31 ⟨"java/util/Map$Entry", "getKey", "()Ljava/lang/Object;"⟩ yJ30_getKey 0 := ⟨q727, q740, q733, q111, ⟨by decide +kernel, by decide +kernel, by decide +kernel⟩, q729, q728, q734, q741, q739⟩
theorem kf_X3_68_J31 : LkF RX3 68 RJ31 ⟨"java/util/Map$Entry", "getValue", "()Ljava/lang/Object;"⟩ yJ30_getValue 0 := ⟨q744, q754, q749, q111, ⟨by decide +kernel, by decide +kernel, by decide +kernel⟩, q746, q745, q750, q755, q739⟩
theorem kv_X3_71 : LkV RX3 71 yX3_add 2 := ⟨q761, q762, q763, q78, by decide +kernel, by decide +kernel, by decide +kernel⟩
theorem kv_X3_41 : LkV RX3 41 yJ5_entrySet 0 := ⟨q661, q662, q663, q81, by decide +kernel, by decide +kernel, by decide +kernel⟩
theorem kf_X3_45_J21 : LkF RX3 45 RJ21 ⟨"java/util/Set", "iterator", "()Ljava/util/Iterator;"⟩ yJ21_iterator 0 := ⟨q687, q691, q693, q101, ⟨by decide +kernel, by decide +kernel, by decide +kernel⟩, q689, q688, q694, q692, q690⟩
set_option maxHeartbeats 4000000 in
set_option maxRecDepth 100000 in
theorem sp_X3_addAll {l : Launch} {s0 : State} {D : va_G} {I : AI} {L : AL} {dE ca : Nat} {ad : Nat → Nat} {a b : Nat} {u : Tal} (hΓ : Gam l s0 D) (hZ : Std s0 D dE ca ad) (h0 : L a = some (taC [])) (h1 : L b = some (taC u)) (hab : a ≠ b) (hu : ∀ x ∈ u, x.2 ≠ 0) (hl : u.length ≤ 24) : Spc l s0 D yX3_addAll 9 [.ref a, .ref b] I L (2 + 3 * u.length) (7 + 39 * u.length) (fun r I' L' => r = none ∧ L' = up1 L a (some (taC u))) noX := by
  refine Spc.of hΓ cX3_addAll 4 none q660 (by decide +kernel) (by decide) (Nat.le_of_ble_eq_true rfl) (fun G GX hG => ?_)
  refine hG.opT h1 (fun mp mo es M hne hMa hMm ht hnc hlt hf => ?_)
  subst ht
  refine hG.aload_n dX3_addAll_0 rfl ?_
  refine hG.get dX3_addAll_1 fg_X3_10_X3 (Or.inl hMa) rfl ?_
  refine hG.callV dX3_addAll_4 kv_X3_41 (Rcv.mp hMm) (sp_J5_entrySet hΓ hMm) rfl rfl (Nat.le_of_ble_eq_true rfl) (by decide) (by omega) (by omega) (fun r4 I4 L4 hI4 h4 => ?_) (fun _ _ _ _ _ h => h.elim)
  obtain ⟨rfl, q, rfl, hq⟩ := h4
  refine hG.callF dX3_addAll_7 kf_X3_45_J21 (Rcv.imm hq cl_J21) cl_J21 (sp_J21_iterator hΓ hq hMm) rfl rfl (Nat.le_of_ble_eq_true rfl) (by decide) (by omega) (by omega) (fun r7 I7 L7 hI7 h7 => ?_) (fun _ _ _ _ _ h => h.elim)
  obtain ⟨rfl, it, hitn, hitm, rfl, rfl⟩ := h7
  have hM0 := (hf a _ h0 hab).2
  have hma : mp ≠ a := fun e => (hf a _ h0 hab).1 (by simp [e])
  have hait : a ≠ it := fun e => by rw [← e, hM0] at hitn; cases hitn
  have hbit : b ≠ it := fun e => by rw [← e, hMa] at hitn; cases hitn
  have hmit : mp ≠ it := hitm.symm
  refine hG.astore_n dX3_addAll_12 (by decide) ?_
  have loop : ∀ (r i : Nat) (cv : Value) (I1 : AI) (L1 : AL), i + r = es.length → L1 it = some (obC ciJ23 [va_rf (ads es)[i]?, cv, .int mo, .int 0, .ref mp]) → L1 mp = some (mpC mo es) → L1 a = some (taC (tal (es.take i))) → (∀ z, z ≠ a → z ≠ it → L1 z = M z) → G 13 [(0, .ref a), (2, .ref it)] [] I1 L1 (2 + 3 * i) (7 + 39 * i) := by
    intro r
    induction r with
    | zero =>
      intro i cv I1 L1 hir hit hmp ha ho
      have hi : es.length = i := by omega
      refine hG.aload_n dX3_addAll_13 rfl ?_
      refine hG.callF dX3_addAll_14 kf_X3_51_J23 (Rcv.raw hit cl_J23) cl_J23 (sp_J22_hasNext hΓ hit) rfl rfl (Nat.le_of_ble_eq_true rfl) (by decide) (by rw [show (tal es).length = es.length by simp [tal]]; omega) (by rw [show (tal es).length = es.length by simp [tal]]; omega) (fun r14 I14 L14 hI14 h14 => ?_) (fun _ _ _ _ _ h => h.elim)
      obtain ⟨rfl, rfl, rfl⟩ := h14
      refine hG.if_eq (tgt := 60) dX3_addAll_19 rfl (fun c_19 => ?_) (fun c_19 => absurd (by rw [ads_end (by omega)]; rfl) c_19)
      refine hG.sub (S := up1 (up1 M a (some (taC (tal es)))) it none) (fun q x hq => ?_) ?_
      · by_cases e1 : q = it
        · rw [e1, up1_s] at hq; cases hq
        · rw [up1_n e1] at hq
          by_cases e2 : q = a
          · rw [e2, up1_s] at hq
            rw [e2, ha, List.take_of_length_le (by omega)]
            exact hq
          · rw [up1_n e2] at hq
            rw [ho q e2 e1]
            exact hq
      refine hG.clT (up1 L a (some (taC (tal es)))) (tal es) hne (by rw [up1_n hbit, up1_n hab.symm]; exact hMa) (by rw [up1_n hmit, up1_n hma]; exact hMm) rfl (fun q x hq hqb => ?_) ?_
      · by_cases e2 : q = a
        · subst e2
          rw [up1_s] at hq
          exact ⟨by simp [hab, hma.symm], by rw [up1_n hait, up1_s]; exact hq⟩
        · rw [up1_n e2] at hq
          obtain ⟨k1, k2⟩ := hf q x hq hqb
          have e3 : q ≠ it := fun e => by rw [e, hitn] at k2; cases k2
          exact ⟨k1, by rw [up1_n e3, up1_n e2]; exact k2⟩
      rw [up1_comm hab, show up1 L b (some (taC (tal es))) = L by rw [← h1, up1_self]]
      refine hG.vret dX3_addAll_60 rfl ?_ (by rw [show (tal es).length = es.length by simp [tal]]; omega) (by rw [show (tal es).length = es.length by simp [tal]]; omega) trivial
      exact ⟨rfl, rfl⟩
    | succ r ih =>
      intro i cv I1 L1 hir hit hmp ha ho
      obtain ⟨x, hx, hxm⟩ := get_lt (show i < es.length by omega)
      have hxv : x.2.2 ≠ 0 := hu x.2 (List.mem_map.mpr ⟨x, hxm, rfl⟩)
      have hnew := take_new hnc hx
      refine hG.aload_n dX3_addAll_13 rfl ?_
      refine hG.callF dX3_addAll_14 kf_X3_51_J23 (Rcv.raw hit cl_J23) cl_J23 (sp_J22_hasNext hΓ hit) rfl rfl (Nat.le_of_ble_eq_true rfl) (by decide) (by rw [show (tal es).length = es.length by simp [tal]]; omega) (by rw [show (tal es).length = es.length by simp [tal]]; omega) (fun r14 I14 L14 hI14 h14 => ?_) (fun _ _ _ _ _ h => h.elim)
      obtain ⟨rfl, rfl, rfl⟩ := h14
      refine hG.if_eq (tgt := 60) dX3_addAll_19 rfl (fun c_19 => absurd c_19 (by rw [ads_get hx]; exact (by decide : ¬ b2i true = 0))) (fun c_19 => ?_)
      refine hG.aload_n dX3_addAll_22 rfl ?_
      refine hG.callF dX3_addAll_23 kf_X3_57_J23 (Rcv.raw hit cl_J23) cl_J23 (sp_J23_next hΓ hx hmp hit) rfl rfl (Nat.le_of_ble_eq_true rfl) (by decide) (by rw [show (tal es).length = es.length by simp [tal]]; omega) (by rw [show (tal es).length = es.length by simp [tal]]; omega) (fun r23 I23 L23 hI23 h23 => ?_) (fun _ _ _ _ _ h => h.elim)
      obtain ⟨rfl, rfl, rfl⟩ := h23
      have hmp2 := (up1_n (x := some (obC ciJ23 [va_rf (ads es)[i + 1]?, .ref x.1, .int mo, .int 0, .ref mp])) hmit).trans hmp
      refine hG.castY dX3_addAll_28 q725 (Rcv.en hmp2 hxm) q739 ?_
      refine hG.astore_n dX3_addAll_31 (by decide) ?_
      refine hG.aload_n dX3_addAll_32 rfl ?_
      refine hG.aload_n dX3_addAll_33 rfl ?_
      refine hG.callF dX3_addAll_34 kf_X3_63_J31 (Rcv.en hmp2 hxm) cl_J31 (sp_J30_getKey hΓ hmp2 hxm) rfl rfl (Nat.le_of_ble_eq_true rfl) (by decide) (by rw [show (tal es).length = es.length by simp [tal]]; omega) (by rw [show (tal es).length = es.length by simp [tal]]; omega) (fun r34 I34 L34 hI34 h34 => ?_) (fun _ _ _ _ _ h => h.elim)
      obtain ⟨rfl, rfl, g, rfl, hg⟩ := h34
      refine hG.castY dX3_addAll_39 q742 (Rcv.imm hg cl_X9) q1821 ?_
      refine hG.aload_n dX3_addAll_42 rfl ?_
      refine hG.callF dX3_addAll_43 kf_X3_68_J31 (Rcv.en hmp2 hxm) cl_J31 (sp_J30_getValue hΓ hmp2 hxm) rfl rfl (Nat.le_of_ble_eq_true rfl) (by decide) (by rw [show (tal es).length = es.length by simp [tal]]; omega) (by rw [show (tal es).length = es.length by simp [tal]]; omega) (fun r43 I43 L43 hI43 h43 => ?_) (fun _ _ _ _ _ h => h.elim)
      obtain ⟨rfl, rfl, v, rfl, hv⟩ := h43
      refine hG.castS dX3_addAll_48 q756 (Rcv.imm hv cl_J25) cl_J25 ?_
      refine hG.callV dX3_addAll_51 kv_X3_22 (Rcv.imm hv cl_J25) (sp_J25_intValue hΓ (Or.inr hv)) rfl rfl (Nat.le_of_ble_eq_true rfl) (by decide) (by rw [show (tal es).length = es.length by simp [tal]]; omega) (by rw [show (tal es).length = es.length by simp [tal]]; omega) (fun r51 I51 L51 hI51 h51 => ?_) (fun _ _ _ _ _ h => h.elim)
      obtain ⟨rfl, rfl, rfl⟩ := h51
      refine hG.callV dX3_addAll_54 kv_X3_71 (Rcv.ta ((up1_n hait).trans ha)) (sp_X3_add hΓ hZ ((up1_n hait).trans ha) (hlt x hxm) hg (Nat.le_trans tal_len (by have := (List.getElem?_eq_some_iff.mp hx).1; have e : (tal es).length = es.length := (by simp [tal]); omega)) (fun e => absurd (by rw [tof_out hnew, Int32.zero_add] at e; exact e) hxv)) rfl rfl (Nat.le_of_ble_eq_true rfl) (by decide) (by rw [show (tal es).length = es.length by simp [tal]]; omega) (by rw [show (tal es).length = es.length by simp [tal]]; omega) (fun r54 I54 L54 hI54 h54 => ?_) (fun _ _ _ _ _ h => h.elim)
      obtain ⟨rfl, rfl⟩ := h54
      refine hG.goto (tgt := 13) dX3_addAll_57 rfl ?_
      rw [tadd_new hnew hxv, ← tal_take hx]
      refine hG.lsb [(0, .ref a), (2, .ref it)] ⟨rfl, rfl, trivial⟩ ?_
      exact ih (i + 1) (.ref x.1) _ _ (by omega) ((up1_n hait.symm).trans up1_s) ((up1_n hma).trans hmp2) up1_s (fun z z1 z2 => by rw [up1_n z1, up1_n z2]; exact ho z z1 z2)
  exact hG.lsb [(0, .ref a), (2, .ref it)] ⟨rfl, rfl, trivial⟩ (loop es.length 0 .null _ _ (by omega) up1_s ((up1_n hmit).trans hMm) ((up1_n hait).trans hM0) (fun z z1 z2 => up1_n z2))
