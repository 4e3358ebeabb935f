/-! groups behind a split channel -/
abbrev bh (j s : Nat) : Nat := if j < s then s + 1 else s
abbrev gsp (j c : Nat) : Nat := 49 * (c / 49) + 7 * bh j (c / 7 % 7) + bh j (c % 7)
theorem bh_le {j s : Nat} (h : s ≤ 5) : bh j s ≤ 6 := by unfold bh; split <;> omega
theorem gsp_k {j c : Nat} (h1 : c / 7 % 7 ≤ 5) (h2 : c % 7 ≤ 5) : gsp j c / 49 = c / 49 ∧ gsp j c / 7 % 7 = bh j (c / 7 % 7) ∧ gsp j c % 7 = bh j (c % 7) := by
  have a1 := bh_le (j := j) h1
  have a2 := bh_le (j := j) h2
  unfold gsp
  generalize bh j (c / 7 % 7) = x at *
  generalize bh j (c % 7) = y at *
  omega
theorem gsp_lt {j c : Nat} (hc : c < 147) (h1 : c / 7 % 7 ≤ 5) (h2 : c % 7 ≤ 5) : gsp j c < 147 := by
  have a1 := bh_le (j := j) h1
  have a2 := bh_le (j := j) h2
  unfold gsp
  generalize bh j (c / 7 % 7) = x at *
  generalize bh j (c % 7) = y at *
  omega
theorem bh_inj {j s t : Nat} (h : bh j s = bh j t) : s = t := by
  unfold bh at h
  split at h <;> split at h <;> omega
theorem gsp_inj {j c e : Nat} (hc1 : c / 7 % 7 ≤ 5) (hc2 : c % 7 ≤ 5) (he1 : e / 7 % 7 ≤ 5) (he2 : e % 7 ≤ 5) (h : gsp j c = gsp j e) : c = e := by
  obtain ⟨a1, a2, a3⟩ := gsp_k (j := j) hc1 hc2
  obtain ⟨b1, b2, b3⟩ := gsp_k (j := j) he1 he2
  rw [h] at a1 a2 a3
  exact code_eq (a1.symm.trans b1) (bh_inj (a2.symm.trans b2)) (bh_inj (a3.symm.trans b3))
theorem nI_bh {j s : Nat} (hj : j ≤ 6) (hs : s ≤ 6) : (if nI s ≤ nI j then nI s else nI s + 1) = nI (bh j s) := by
  unfold bh
  by_cases h : j < s
  · rw [if_pos h, if_neg (nI_ge h (by omega)), nI_1]
  · rw [if_neg h, if_pos (nI_le (by omega) (by omega))]
set_option maxHeartbeats 4000000 in
set_option maxRecDepth 100000 in
theorem sp_X9_behind {l : Launch} {s0 : State} {D : va_G} {I : AI} {L : AL} (hΓ : Gam l s0 D) {j s : Nat} (hj : j ≤ 6) (hs : s ≤ 6) : Spc l s0 D yX9_behind 1 [.int (nI s), .int (nI j)] I L 0 0 (pV (.int (nI (bh j s))) I L) noX := by
  refine Spc.of hΓ cX9_behind 2 (some FieldType.int) q2185 (by decide +kernel) (by decide) (Nat.le_of_ble_eq_true rfl) (fun G GX hG => ?_)
  refine hG.iload_n dX9_behind_0 rfl ?_
  refine hG.iload_n dX9_behind_1 rfl ?_
  refine hG.icmp_le (tgt := 11) dX9_behind_2 rfl (fun c_2 => ?_) (fun c_2 => ?_)
  · refine hG.iload_n dX9_behind_11 rfl ?_
    refine hG.iret dX9_behind_12 rfl ?_ (by omega) (by omega) trivial
    first
    | exact ⟨by rw [← nI_bh hj hs, if_pos c_2], rfl, rfl⟩
    | exact ⟨by rw [← nI_bh hj hs, if_neg c_2], rfl, rfl⟩
  · refine hG.iload_n dX9_behind_5 rfl ?_
    refine hG.iconst (v := 1) dX9_behind_6 rfl ?_
    refine hG.iadd dX9_behind_7 ?_
    refine hG.goto (tgt := 12) dX9_behind_8 rfl ?_
    refine hG.iret dX9_behind_12 rfl ?_ (by omega) (by omega) trivial
    first
    | exact ⟨by rw [← nI_bh hj hs, if_pos c_2], rfl, rfl⟩
    | exact ⟨by rw [← nI_bh hj hs, if_neg c_2], rfl, rfl⟩
theorem nw_X9_8 : LkN RX9 8 ciX9 [.int 0, .int 0, .int 0] 3 := ⟨RX9, TX9, tyX9, cls_X9, q1125, q1758, q119, rfl, fun j hj => by
  match j, hj with
  | 0, _ => rfl
  | 1, _ => rfl
  | 2, _ => rfl
  | _ + 3, h => exact absurd h (by omega)⟩
theorem ks_X9_25 : LkS RX9 25 yX9_behind 2 := ⟨q2183, q2184, q119, by decide +kernel, by decide +kernel, by decide +kernel⟩
theorem ki_X9_29 : LkI RX9 29 yX9_init 3 := ⟨q2186, q1760, q119, rfl, ⟨by decide +kernel, by decide +kernel, by decide +kernel⟩, by decide +kernel⟩
set_option maxHeartbeats 4000000 in
set_option maxRecDepth 100000 in
theorem sp_X9_split {l : Launch} {s0 : State} {D : va_G} {I : AI} {L : AL} (hΓ : Gam l s0 D) {a j c : Nat} (hj : j ≤ 6) (hc : c < 147) (h1 : c / 7 % 7 ≤ 5) (h2 : c % 7 ≤ 5) (h0 : I a (ob ciX9 (grp c))) : Spc l s0 D yX9_split 3 [.ref a, .int (nI j)] I L 1 3 (fun r I' L' => L = L' ∧ ∃ q, r = some (.ref q) ∧ I' q (ob ciX9 (grp (gsp j c)))) noX := by
  refine Spc.of hΓ cX9_split 2 (some (FieldType.object "BraidedFerry$Group")) q2182 (by decide +kernel) (by decide) (Nat.le_of_ble_eq_true rfl) (fun G GX hG => ?_)
  refine hG.new dX9_split_0 nw_X9_8 (by omega) (by omega) (fun q hLq hIq => ?_)
  refine hG.dup dX9_split_3 rfl ?_
  refine hG.aload_n dX9_split_4 rfl ?_
  refine hG.get dX9_split_5 fg_X9_7_X9 (Or.inr h0) rfl ?_
  refine hG.aload_n dX9_split_8 rfl ?_
  refine hG.get dX9_split_9 fg_X9_13_X9 (Or.inr h0) rfl ?_
  refine hG.iload_n dX9_split_12 rfl ?_
  refine hG.callS dX9_split_13 ks_X9_25 (sp_X9_behind hΓ hj (by omega)) rfl rfl (Nat.le_of_ble_eq_true rfl) (by decide) (by omega) (by omega) (fun r13 I13 L13 hI13 h13 => ?_) (fun _ _ _ _ _ h => h.elim)
  obtain ⟨rfl, rfl, rfl⟩ := h13
  refine hG.aload_n dX9_split_16 rfl ?_
  refine hG.get dX9_split_17 fg_X9_16_X9 (Or.inr h0) rfl ?_
  refine hG.iload_n dX9_split_20 rfl ?_
  refine hG.callS dX9_split_21 ks_X9_25 (sp_X9_behind hΓ hj (by omega)) rfl rfl (Nat.le_of_ble_eq_true rfl) (by decide) (by omega) (by omega) (fun r21 I21 L21 hI21 h21 => ?_) (fun _ _ _ _ _ h => h.elim)
  obtain ⟨rfl, rfl, rfl⟩ := h21
  refine hG.callI dX9_split_24 ki_X9_29 (sp_X9_init hΓ up1_s) rfl rfl (Nat.le_of_ble_eq_true rfl) (by decide) (by omega) (by omega) (fun r24 I24 L24 hI24 h24 => ?_) (fun _ _ _ _ _ h => h.elim)
  obtain ⟨rfl, rfl, rfl⟩ := h24
  rw [up1_up1]
  refine hG.fr (a := q) up1_s ?_
  rw [up1_up1, show up1 L q none = L by rw [← hLq, up1_self]]
  refine hG.aret dX9_split_27 rfl (by first | exact Or.inl ⟨_, rfl⟩ | exact Or.inr ⟨_, rfl⟩) (by first | exact Or.inr ⟨_, rfl⟩ | exact Or.inl rfl) ?_ (by omega) (by omega) trivial
  refine ⟨rfl, q, rfl, ?_⟩
  obtain ⟨e1, e2, e3⟩ := gsp_k (j := j) h1 h2
  unfold grp
  rw [e1, e2, e3]
  exact frI_s
abbrev tsp (j : Nat) (t : Tal) : Tal := t.map (fun x => (gsp j x.1, x.2))
theorem tsp_new {es : List Ent} {i j : Nat} {x : Ent} (hn : (cods es).Nodup) (hs : ∀ y ∈ es, y.2.1 / 7 % 7 ≤ 5 ∧ y.2.1 % 7 ≤ 5) (hx : es[i]? = some x) : ∀ y ∈ tsp j (tal (es.take i)), y.1 ≠ gsp j x.2.1 := by
  intro y hy e
  obtain ⟨z, hz, rfl⟩ := List.mem_map.mp hy
  obtain ⟨w, hw, rfl⟩ := List.mem_map.mp hz
  have hxs := hs x (List.mem_of_getElem? hx)
  have hws := hs w (List.mem_of_mem_take hw)
  exact take_new hn hx w.2 hz (gsp_inj hws.1 hws.2 hxs.1 hxs.2 e)
theorem tsp_take {es : List Ent} {i j : Nat} {x : Ent} (hx : es[i]? = some x) : tsp j (tal (es.take (i + 1))) = tsp j (tal (es.take i)) ++ [(gsp j x.2.1, x.2.2)] := by
  rw [tal_take hx]
  exact List.map_append
theorem kf_X2_51_J23 : LkF RX2 51 RJ23 ⟨"java/util/Iterator", "hasNext", "()Z"⟩ yJ22_hasNext 0 := ⟨q439, q449, q451, q102, ⟨by decide +kernel, by decide +kernel, by decide +kernel⟩, q441, q440, q452, q450, q448⟩
theorem kf_X2_57_J23 : LkF RX2 57 RJ23 ⟨"java/util/Iterator", "next", "()Ljava/lang/Object;"⟩ yJ23_next 0 := ⟨q455, q539, q541, q103, ⟨by decide +kernel, by decide +kernel, by decide +kernel⟩, q457, q456, q542, q540, q448⟩
theorem kf_X2_205_J31 : LkF RX2 205 RJ31 ⟨"java/util/Map$Entry", "getKey", "()Ljava/lang/Object;"⟩ yJ30_getKey 0 := ⟨q2045, q740, q733, q111, ⟨by decide +kernel, by decide +kernel, by decide +kernel⟩, q729, q728, q734, q741, q739⟩
theorem kv_X2_210 : LkV RX2 210 yX9_split 1 := ⟨q2179, q2180, q2181, q119, by decide +kernel, by decide +kernel, by decide +kernel⟩
theorem kf_X2_214_J31 : LkF RX2 214 RJ31 ⟨"java/util/Map$Entry", "getValue", "()Ljava/lang/Object;"⟩ yJ30_getValue 0 := ⟨q2048, q754, q749, q111, ⟨by decide +kernel, by decide +kernel, by decide +kernel⟩, q746, q745, q750, q755, q739⟩
theorem kv_X2_219 : LkV RX2 219 yJ25_intValue 0 := ⟨q2050, q758, q759, q105, by decide +kernel, by decide +kernel, by decide +kernel⟩
theorem kv_X2_222 : LkV RX2 222 yX3_add 2 := ⟨q1857, q762, q763, q78, by decide +kernel, by decide +kernel, by decide +kernel⟩
theorem nw_X2_24 : LkN RX2 24 ciX3 [.null] 1 := ⟨RX3, TX3, tyX3, cls_X3, q187, q188, q78, rfl, fun j hj => by
  match j, hj with
  | 0, _ => rfl
  | _ + 1, h => exact absurd h (by omega)⟩
theorem ki_X2_26 : LkNI RX2 26 yX3_init 0 := ⟨⟨_, q189⟩, q190, q78, rfl, ⟨by decide +kernel, by decide +kernel, by decide +kernel⟩, by decide +kernel⟩
theorem fg_X2_190_X3 : LkG RX2 190 ciX3 0 := ⟨RX3, TX3, 1, tyX3, _, cls_X3, by decide, Or.inl rfl, Or.inr ⟨_, q248⟩⟩
theorem kv_X2_194 : LkV RX2 194 yJ5_entrySet 0 := ⟨q2040, q662, q663, q81, by decide +kernel, by decide +kernel, by decide +kernel⟩
theorem kf_X2_200_J21 : LkF RX2 200 RJ21 ⟨"java/util/Set", "iterator", "()Ljava/util/Iterator;"⟩ yJ21_iterator 0 := ⟨q2042, q691, q693, q101, ⟨by decide +kernel, by decide +kernel, by decide +kernel⟩, q689, q688, q694, q692, q690⟩
set_option maxHeartbeats 4000000 in
set_option maxRecDepth 100000 in
theorem sp_X2_split_2 {l : Launch} {s0 : State} {D : va_G} {I : AI} {L : AL} {dE ca : Nat} {ad : Nat → Nat} {b j : Nat} {u : Tal} (hΓ : Gam l s0 D) (hZ : Std s0 D dE ca ad) (hj : j ≤ 6) (h1 : L b = some (taC u)) (hu : ∀ x ∈ u, x.2 ≠ 0) (hs : ∀ x ∈ u, x.1 / 7 % 7 ≤ 5 ∧ x.1 % 7 ≤ 5) (hl : u.length ≤ 24) : Spc l s0 D yX2_split_2 9 [.ref b, .int (nI j)] I L (4 + 4 * u.length) (20 + 42 * u.length) (fun r I' L' => ∃ q, L q = none ∧ r = some (.ref q) ∧ L' = up1 L q (some (taC (tsp j u)))) noX := by
  refine Spc.of hΓ cX2_split_2 5 (some (FieldType.object "BraidedFerry$Tally")) q2178 (by decide +kernel) (by decide) (Nat.le_of_ble_eq_true rfl) (fun G GX hG => ?_)
  refine hG.new dX2_split_2_0 nw_X2_24 (by omega) (by omega) (fun a hLa hIa => ?_)
  refine hG.dup dX2_split_2_3 rfl ?_
  refine hG.callNI dX2_split_2_4 ki_X2_26 (sp_X3_init hΓ up1_s) rfl rfl (Nat.le_of_ble_eq_true rfl) (by decide) (by omega) (by omega) (fun r4 I4 L4 hI4 h4 => ?_) (fun _ _ _ _ _ h => h.elim)
  obtain ⟨rfl, rfl, rfl⟩ := h4
  rw [up1_up1]
  have hab : a ≠ b := fun e => by rw [e, h1] at hLa; cases hLa
  refine hG.opT (a := b) ((up1_n hab.symm).trans h1) (fun mp mo es M hne hMa hMm ht hnc hlt hf => ?_)
  subst ht
  refine hG.astore_n dX2_split_2_7 (by decide) ?_
  refine hG.aload_n dX2_split_2_8 rfl ?_
  refine hG.get dX2_split_2_9 fg_X2_190_X3 (Or.inl hMa) rfl ?_
  refine hG.callV dX2_split_2_12 kv_X2_194 (Rcv.mp hMm) (sp_J5_entrySet hΓ hMm) rfl rfl (Nat.le_of_ble_eq_true rfl) (by decide) (by omega) (by omega) (fun r12 I12 L12 hI12 h12 => ?_) (fun _ _ _ _ _ h => h.elim)
  obtain ⟨rfl, q, rfl, hq⟩ := h12
  refine hG.callF dX2_split_2_15 kf_X2_200_J21 (Rcv.imm hq cl_J21) cl_J21 (sp_J21_iterator hΓ hq hMm) rfl rfl (Nat.le_of_ble_eq_true rfl) (by decide) (by omega) (by omega) (fun r15 I15 L15 hI15 h15 => ?_) (fun _ _ _ _ _ h => h.elim)
  obtain ⟨rfl, it, hitn, hitm, rfl, rfl⟩ := h15
  have hM0 := (hf a _ up1_s hab).2
  have hma : mp ≠ a := fun e => (hf a _ up1_s hab).1 (by simp [e])
  have hait : a ≠ it := fun e => by rw [← e, hM0] at hitn; cases hitn
  have hbit : b ≠ it := fun e => by rw [← e, hMa] at hitn; cases hitn
  have hmit : mp ≠ it := hitm.symm
  refine hG.astore_n dX2_split_2_20 (by decide) ?_
  have loop : ∀ (r i : Nat) (cv : Value) (I1 : AI) (L1 : AL), i + r = es.length → L1 it = some (obC ciJ23 [va_rf (ads es)[i]?, cv, .int mo, .int 0, .ref mp]) → L1 mp = some (mpC mo es) → L1 a = some (taC (tsp j (tal (es.take i)))) → (∀ z, z ≠ a → z ≠ it → L1 z = M z) → G 21 [(1, .int (nI j)), (2, .ref a), (3, .ref it)] [] I1 L1 (4 + 4 * i) (20 + 42 * i) := by
    intro r
    induction r with
    | zero =>
      intro i cv I1 L1 hir hit hmp ha ho
      have hi : es.length = i := by omega
      refine hG.aload_n dX2_split_2_21 rfl ?_
      refine hG.callF dX2_split_2_22 kf_X2_51_J23 (Rcv.raw hit cl_J23) cl_J23 (sp_J22_hasNext hΓ hit) rfl rfl (Nat.le_of_ble_eq_true rfl) (by decide) (by rw [show (tal es).length = es.length by simp [tal]]; omega) (by rw [show (tal es).length = es.length by simp [tal]]; omega) (fun r22 I22 L22 hI22 h22 => ?_) (fun _ _ _ _ _ h => h.elim)
      obtain ⟨rfl, rfl, rfl⟩ := h22
      refine hG.if_eq (tgt := 75) dX2_split_2_27 rfl (fun c_27 => ?_) (fun c_27 => absurd (by rw [ads_end (by omega)]; rfl) c_27)
      refine hG.sub (S := up1 (up1 M a (some (taC (tsp j (tal es))))) it none) (fun q x hq => ?_) ?_
      · by_cases e1 : q = it
        · rw [e1, up1_s] at hq; cases hq
        · rw [up1_n e1] at hq
          by_cases e2 : q = a
          · rw [e2, up1_s] at hq
            rw [e2, ha, List.take_of_length_le (by omega)]
            exact hq
          · rw [up1_n e2] at hq
            rw [ho q e2 e1]
            exact hq
      refine hG.clT (up1 L a (some (taC (tsp j (tal es))))) (tal es) hne (by rw [up1_n hbit, up1_n hab.symm]; exact hMa) (by rw [up1_n hmit, up1_n hma]; exact hMm) rfl (fun q x hq hqb => ?_) ?_
      · by_cases e2 : q = a
        · subst e2
          rw [up1_s] at hq
          exact ⟨by simp [hab, hma.symm], by rw [up1_n hait, up1_s]; exact hq⟩
        · rw [up1_n e2] at hq
          obtain ⟨k1, k2⟩ := hf q x ((up1_n e2).trans hq) hqb
          have e3 : q ≠ it := fun e => by rw [e, hitn] at k2; cases k2
          exact ⟨k1, by rw [up1_n e3, up1_n e2]; exact k2⟩
      rw [up1_comm hab, show up1 L b (some (taC (tal es))) = L by rw [← h1, up1_self]]
      refine hG.aload_n dX2_split_2_75 rfl ?_
      refine hG.aret dX2_split_2_76 rfl (by first | exact Or.inl ⟨_, rfl⟩ | exact Or.inr ⟨_, rfl⟩) (by first | exact Or.inr ⟨_, rfl⟩ | exact Or.inl rfl) ?_ (by rw [show (tal es).length = es.length by simp [tal]]; omega) (by rw [show (tal es).length = es.length by simp [tal]]; omega) trivial
      exact ⟨a, hLa, rfl, rfl⟩
    | succ r ih =>
      intro i cv I1 L1 hir hit hmp ha ho
      obtain ⟨x, hx, hxm⟩ := get_lt (show i < es.length by omega)
      have hxu : x.2 ∈ tal es := List.mem_map.mpr ⟨x, hxm, rfl⟩
      have hxv : x.2.2 ≠ 0 := hu x.2 hxu
      have hxs := hs x.2 hxu
      have hnew := tsp_new (j := j) hnc (fun y hy => hs y.2 (List.mem_map.mpr ⟨y, hy, rfl⟩)) hx
      refine hG.aload_n dX2_split_2_21 rfl ?_
      refine hG.callF dX2_split_2_22 kf_X2_51_J23 (Rcv.raw hit cl_J23) cl_J23 (sp_J22_hasNext hΓ hit) rfl rfl (Nat.le_of_ble_eq_true rfl) (by decide) (by rw [show (tal es).length = es.length by simp [tal]]; omega) (by rw [show (tal es).length = es.length by simp [tal]]; omega) (fun r22 I22 L22 hI22 h22 => ?_) (fun _ _ _ _ _ h => h.elim)
      obtain ⟨rfl, rfl, rfl⟩ := h22
      refine hG.if_eq (tgt := 75) dX2_split_2_27 rfl (fun c_27 => absurd c_27 (by rw [ads_get hx]; exact (by decide : ¬ b2i true = 0))) (fun c_27 => ?_)
      refine hG.aload_n dX2_split_2_30 rfl ?_
      refine hG.callF dX2_split_2_31 kf_X2_57_J23 (Rcv.raw hit cl_J23) cl_J23 (sp_J23_next hΓ hx hmp hit) rfl rfl (Nat.le_of_ble_eq_true rfl) (by decide) (by rw [show (tal es).length = es.length by simp [tal]]; omega) (by rw [show (tal es).length = es.length by simp [tal]]; omega) (fun r31 I31 L31 hI31 h31 => ?_) (fun _ _ _ _ _ h => h.elim)
      obtain ⟨rfl, rfl, rfl⟩ := h31
      have hmp2 := (up1_n (x := some (obC ciJ23 [va_rf (ads es)[i + 1]?, .ref x.1, .int mo, .int 0, .ref mp])) hmit).trans hmp
      refine hG.castY dX2_split_2_36 q2043 (Rcv.en hmp2 hxm) q739 ?_
      refine hG.astore dX2_split_2_39 (by decide) ?_
      refine hG.aload_n dX2_split_2_41 rfl ?_
      refine hG.aload dX2_split_2_42 rfl ?_
      refine hG.callF dX2_split_2_44 kf_X2_205_J31 (Rcv.en hmp2 hxm) cl_J31 (sp_J30_getKey hΓ hmp2 hxm) rfl rfl (Nat.le_of_ble_eq_true rfl) (by decide) (by rw [show (tal es).length = es.length by simp [tal]]; omega) (by rw [show (tal es).length = es.length by simp [tal]]; omega) (fun r44 I44 L44 hI44 h44 => ?_) (fun _ _ _ _ _ h => h.elim)
      obtain ⟨rfl, rfl, g, rfl, hg⟩ := h44
      refine hG.castS dX2_split_2_49 q2046 (Rcv.imm hg cl_X9) cl_X9 ?_
      refine hG.iload_n dX2_split_2_52 rfl ?_
      refine hG.callV dX2_split_2_53 kv_X2_210 (Rcv.imm hg cl_X9) (sp_X9_split hΓ hj (hlt x hxm) hxs.1 hxs.2 hg) rfl rfl (Nat.le_of_ble_eq_true rfl) (by decide) (by rw [show (tal es).length = es.length by simp [tal]]; omega) (by rw [show (tal es).length = es.length by simp [tal]]; omega) (fun r53 I53 L53 hI53 h53 => ?_) (fun _ _ _ _ _ h => h.elim)
      obtain ⟨rfl, g2, rfl, hg2⟩ := h53
      refine hG.aload dX2_split_2_56 rfl ?_
      refine hG.callF dX2_split_2_58 kf_X2_214_J31 (Rcv.en hmp2 hxm) cl_J31 (sp_J30_getValue hΓ hmp2 hxm) rfl rfl (Nat.le_of_ble_eq_true rfl) (by decide) (by rw [show (tal es).length = es.length by simp [tal]]; omega) (by rw [show (tal es).length = es.length by simp [tal]]; omega) (fun r58 I58 L58 hI58 h58 => ?_) (fun _ _ _ _ _ h => h.elim)
      obtain ⟨rfl, rfl, v, rfl, hv⟩ := h58
      refine hG.castS dX2_split_2_63 q2049 (Rcv.imm hv cl_J25) cl_J25 ?_
      refine hG.callV dX2_split_2_66 kv_X2_219 (Rcv.imm hv cl_J25) (sp_J25_intValue hΓ (Or.inr hv)) rfl rfl (Nat.le_of_ble_eq_true rfl) (by decide) (by rw [show (tal es).length = es.length by simp [tal]]; omega) (by rw [show (tal es).length = es.length by simp [tal]]; omega) (fun r66 I66 L66 hI66 h66 => ?_) (fun _ _ _ _ _ h => h.elim)
      obtain ⟨rfl, rfl, rfl⟩ := h66
      refine hG.callV dX2_split_2_69 kv_X2_222 (Rcv.ta ((up1_n hait).trans ha)) (sp_X3_add hΓ hZ ((up1_n hait).trans ha) (gsp_lt (hlt x hxm) hxs.1 hxs.2) hg2 (by rw [List.length_map]; exact Nat.le_trans tal_len (by have := (List.getElem?_eq_some_iff.mp hx).1; have e : (tal es).length = es.length := (by simp [tal]); omega)) (fun e => absurd (by rw [tof_out hnew, Int32.zero_add] at e; exact e) hxv)) rfl rfl (Nat.le_of_ble_eq_true rfl) (by decide) (by rw [show (tal es).length = es.length by simp [tal]]; omega) (by rw [show (tal es).length = es.length by simp [tal]]; omega) (fun r69 I69 L69 hI69 h69 => ?_) (fun _ _ _ _ _ h => h.elim)
      obtain ⟨rfl, rfl⟩ := h69
      refine hG.goto (tgt := 21) dX2_split_2_72 rfl ?_
      rw [tadd_new hnew hxv, ← tsp_take hx]
      refine hG.lsb [(1, .int (nI j)), (2, .ref a), (3, .ref it)] ⟨rfl, rfl, rfl, trivial⟩ ?_
      exact ih (i + 1) (.ref x.1) _ _ (by omega) ((up1_n hait.symm).trans up1_s) ((up1_n hma).trans hmp2) up1_s (fun z z1 z2 => by rw [up1_n z1, up1_n z2]; exact ho z z1 z2)
  exact hG.lsb [(1, .int (nI j)), (2, .ref a), (3, .ref it)] ⟨rfl, rfl, rfl, trivial⟩ (loop es.length 0 .null _ _ (by omega) up1_s ((up1_n hmit).trans hMm) ((up1_n hait).trans hM0) (fun z z1 z2 => up1_n z2))
theorem kv_X2_225 : LkV RX2 225 yJ5_clear 0 := ⟨q2190, q2191, q2192, q81, by decide +kernel, by decide +kernel, by decide +kernel⟩
theorem kv_X2_71 : LkV RX2 71 yX3_addAll 1 := ⟨q657, q658, q659, q78, by decide +kernel, by decide +kernel, by decide +kernel⟩
set_option maxHeartbeats 4000000 in
set_option maxRecDepth 100000 in
theorem sp_X2_replace {l : Launch} {s0 : State} {D : va_G} {I : AI} {L : AL} {dE ca : Nat} {ad : Nat → Nat} {a b : Nat} {t u : Tal} (hΓ : Gam l s0 D) (hZ : Std s0 D dE ca ad) (h0 : L a = some (taC t)) (h1 : L b = some (taC u)) (hab : a ≠ b) (hu : ∀ x ∈ u, x.2 ≠ 0) (hl : u.length ≤ 24) : Spc l s0 D yX2_replace 10 [.ref a, .ref b] I L (2 + 3 * u.length) (7 + 39 * u.length) (fun r I' L' => r = none ∧ L' = up1 L a (some (taC u))) noX := by
  refine Spc.of hΓ cX2_replace 2 none q2189 (by decide +kernel) (by decide) (Nat.le_of_ble_eq_true rfl) (fun G GX hG => ?_)
  refine hG.opT h0 (fun mp mo es M hne hMa hMm ht hnc hlt hf => ?_)
  refine hG.aload_n dX2_replace_0 rfl ?_
  refine hG.get dX2_replace_1 fg_X2_190_X3 (Or.inl hMa) rfl ?_
  refine hG.callV dX2_replace_4 kv_X2_225 (Rcv.mp hMm) (sp_J5_clear hΓ hMm) rfl rfl (Nat.le_of_ble_eq_true rfl) (by decide) (by omega) (by omega) (fun r4 I4 L4 hI4 h4 => ?_) (fun _ _ _ _ _ h => h.elim)
  obtain ⟨rfl, rfl, rfl⟩ := h4
  refine hG.clT L [] hne ((up1_n hne.symm).trans hMa) up1_s rfl (hf.up (by simp) _) ?_
  refine hG.aload_n dX2_replace_7 rfl ?_
  refine hG.aload_n dX2_replace_8 rfl ?_
  refine hG.callV dX2_replace_9 kv_X2_71 (Rcv.ta up1_s) (sp_X3_addAll hΓ hZ up1_s ((up1_n hab.symm).trans h1) hab hu hl) rfl rfl (Nat.le_of_ble_eq_true rfl) (by decide) (by omega) (by omega) (fun r9 I9 L9 hI9 h9 => ?_) (fun _ _ _ _ _ h => h.elim)
  obtain ⟨rfl, rfl⟩ := h9
  refine hG.vret dX2_replace_12 rfl ?_ (by omega) (by omega) trivial
  exact ⟨rfl, by rw [up1_up1]⟩
