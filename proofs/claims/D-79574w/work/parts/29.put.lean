/-! an entry put -/
def MpN (I : AI) (S : AL) (m : Nat) (mo : Int32) (sz : Nat) (es : List Ent) (tb : Nat) (esV : Value) (cap : Nat) (lf : UInt32) (kr vr : Nat → Nat) : Prop :=
  S m = some (obC ciJ5 [.ref tb, esV, .int (nI sz), .int mo, .int (nI (3 * cap / 4)), .float lf, .null, .null, va_rf (ads es).head?, va_rf (ads es).getLast?, .int 0, .int 0]) ∧ (ads es).Nodup ∧ (cods es).Nodup ∧ m ∉ ads es ∧ EntG I S es (nxB es cap) (ads es) kr vr ∧ (esV = .null ∨ ∃ q, esV = .ref q ∧ I q (ob ciJ21 [.int 0, .ref m])) ∧ cap ∈ caps ∧ tb ≠ m ∧ tb ∉ ads es ∧ ∃ f, S tb = some (.inl (arQ NODE cap f)) ∧ ∀ j, j < cap → f j = (bkt es cap j).head?
theorem MpN.mk {I : AI} {S : AL} {m : Nat} {mo : Int32} {sz : Nat} {es : List Ent} {tb : Nat} {esV : Value} {cap : Nat} {lf : UInt32} {kr vr : Nat → Nat} (h : MpN I S m mo sz es tb esV cap lf kr vr) (hs : sz = es.length) (hb : es.length ≤ 3 * cap / 4) : MpO I S m mo es (.ref tb) esV cap lf kr vr := by
  subst hs
  obtain ⟨h1, h2, h3, h4, h5, h6, h7, h8, h9, f, k1, k2⟩ := h
  exact ⟨h1, h2, h3, h4, h5, h6, Or.inr ⟨h7, hb, tb, f, rfl, h8, h9, k1, k2⟩⟩
theorem MpO.un {I : AI} {S : AL} {m : Nat} {mo : Int32} {es : List Ent} {tb : Nat} {esV : Value} {cap : Nat} {lf : UInt32} {kr vr : Nat → Nat} (h : MpO I S m mo es (.ref tb) esV cap lf kr vr) : MpN I S m mo es.length es tb esV cap lf kr vr ∧ es.length ≤ 3 * cap / 4 := by
  obtain ⟨h1, h2, h3, h4, h5, h6, h7⟩ := h
  rcases h7 with ⟨-, -, h⟩ | ⟨k1, k2, tb2, f, e, k4, k5, k6, k7⟩
  · cases h
  · cases e
    exact ⟨⟨h1, h2, h3, h4, h5, h6, k1, k4, k5, f, k6, k7⟩, k2⟩
theorem nx_app {es : List Ent} {cap c q : Nat} {v : Int32} (hna : (ads es).Nodup) {x : Ent} (hx : x ∈ es) : set1 (bkt es cap (hN c % cap)).getLast? (some q) (nxB es cap) x = nxB (es ++ [(q, c, v)]) cap x := by
  show _ = suc (bkt (es ++ [(q, c, v)]) cap (hN x.2.1 % cap)) x.1
  rw [bkt_app, bkt_one]
  have hxm : x.1 ∈ bkt es cap (hN x.2.1 % cap) := mem_bkt hx
  have hl := suc_last (bkt_nodup hna cap (hN x.2.1 % cap)) hxm
  unfold set1
  by_cases e : hN c % cap = hN x.2.1 % cap
  · rw [if_pos e, suc_app (bkt_nodup hna _ _) hxm, e]
    by_cases hs : suc (bkt es cap (hN x.2.1 % cap)) x.1 = none
    · rw [if_pos hs, if_pos (hl.mp hs)]
    · rw [if_neg hs, if_neg (fun h => hs (hl.mpr h))]
  · rw [if_neg e, List.append_nil, if_neg]
    intro h
    exact e ((bkt_in hna hx).mp (bkt_last h)).symm
theorem ads_app {es : List Ent} {x : Ent} : ads (es ++ [x]) = ads es ++ [x.1] := List.map_append
theorem cods_app {es : List Ent} {x : Ent} : cods (es ++ [x]) = cods es ++ [x.2.1] := List.map_append
abbrev uf (g : Nat → Nat) (q v : Nat) : Nat → Nat := fun a => if a = q then v else g a
theorem MpN.add {I : AI} {S S' : AL} {m : Nat} {mo : Int32} {sz : Nat} {es : List Ent} {tb : Nat} {esV : Value} {cap : Nat} {lf : UInt32} {kr vr : Nat → Nat} {c key val q : Nat} {v : Int32} {f' : Nat → Option Nat} (h : MpN I S m mo sz es tb esV cap lf kr vr) (hc : c < 147) (hk : I key (ob ciX9 (grp c))) (hv : I val (bxE v)) (hl : lkp es c = none) (hqm : q ≠ m) (hqa : q ∉ ads es) (hqt : q ≠ tb)
    (hm : S' m = some (obC ciJ5 [.ref tb, esV, .int (nI sz), .int mo, .int (nI (3 * cap / 4)), .float lf, .null, .null, va_rf (ads es ++ [q]).head?, va_rf (ads es ++ [q]).getLast?, .int 0, .int 0]))
    (hq : S' q = some (obC ciJ31 [.int (nI (hN c)), .ref key, .ref val, .null, va_rf (prd (ads es ++ [q]) q), va_rf (suc (ads es ++ [q]) q)]))
    (hE : EntG I S' es (set1 (bkt es cap (hN c % cap)).getLast? (some q) (nxB es cap)) (ads es ++ [q]) kr vr)
    (hf : S' tb = some (.inl (arQ NODE cap f'))) (hf2 : ∀ j, j < cap → f' j = (bkt (es ++ [(q, c, v)]) cap j).head?) : MpN I S' m mo sz (es ++ [(q, c, v)]) tb esV cap lf (uf kr q key) (uf vr q val) := by
  obtain ⟨h1, h2, h3, h4, h5, h6, h7, h8, h9, -⟩ := h
  have hl2 := lkp_none.mp hl
  refine ⟨by rw [ads_app]; exact hm, ?_, ?_, ?_, fun x hx => ?_, h6, h7, h8, ?_, f', hf, hf2⟩
  · rw [ads_app, List.nodup_append]
    exact ⟨h2, by simp, fun a ha b hb => by rw [List.mem_singleton.mp hb]; exact fun (e : a = q) => hqa (e ▸ ha)⟩
  · rw [cods_app, List.nodup_append]
    refine ⟨h3, by simp, fun a ha b hb => ?_⟩
    rw [List.mem_singleton.mp hb]
    obtain ⟨x, hx, rfl⟩ := List.mem_map.mp ha
    exact hl2 x hx
  · rw [ads_app]
    intro hm
    rcases List.mem_append.mp hm with h | h
    · exact h4 h
    · exact hqm (List.mem_singleton.mp h).symm
  · rcases List.mem_append.mp hx with hx | hx
    · obtain ⟨k1, k2, k3, k4⟩ := hE x hx
      have hxq : x.1 ≠ q := fun e => hqa (e ▸ ads_of hx)
      refine ⟨?_, k2, ?_, ?_⟩
      · rw [k1]
        unfold entG
        rw [nx_app (v := v) h2 hx, ads_app]
        simp only [uf, if_neg hxq]
      · simp only [uf, if_neg hxq]; exact k3
      · simp only [uf, if_neg hxq]; exact k4
    · rw [List.mem_singleton.mp hx]
      refine ⟨?_, hc, by simpa [uf] using hk, by simpa [uf] using hv⟩
      show S' q = _
      rw [hq]
      have hn : nxB (es ++ [(q, c, v)]) cap (q, c, v) = none := by
        show suc (bkt (es ++ [(q, c, v)]) cap (hN c % cap)) q = none
        rw [bkt_app, bkt_one, if_pos rfl]
        exact suc_new (fun hm => hqa (by obtain ⟨x, hx, e, -⟩ := bkt_mem hm; have e : x.1 = q := e; rw [← e]; exact ads_of hx))
      unfold entG
      rw [hn, ads_app]
      simp [uf]
      rfl
  · rw [ads_app]
    intro hm
    rcases List.mem_append.mp hm with h | h
    · exact h9 h
    · exact hqt (List.mem_singleton.mp h).symm
abbrev rpl (c : Nat) (v : Int32) (x : Ent) : Ent := if x.2.1 = c then (x.1, x.2.1, v) else x
abbrev rplL (es : List Ent) (c : Nat) (v : Int32) : List Ent := es.map (rpl c v)
theorem rpl_1 {c : Nat} {v : Int32} {x : Ent} : (rpl c v x).1 = x.1 ∧ (rpl c v x).2.1 = x.2.1 := by
  unfold rpl
  split <;> exact ⟨rfl, rfl⟩
theorem rpl_ads {es : List Ent} {c : Nat} {v : Int32} : ads (rplL es c v) = ads es := by
  unfold ads rplL
  rw [List.map_map]
  exact List.map_congr_left (fun x _ => rpl_1.1)
theorem rpl_cods {es : List Ent} {c : Nat} {v : Int32} : cods (rplL es c v) = cods es := by
  unfold cods rplL
  rw [List.map_map]
  exact List.map_congr_left (fun x _ => rpl_1.2)
theorem rpl_bkt {es : List Ent} {c : Nat} {v : Int32} {cap j : Nat} : bkt (rplL es c v) cap j = bkt es cap j := by
  unfold bkt rplL
  rw [List.filter_map, List.map_map]
  have e : ((fun x : Ent => hN x.2.1 % cap == j) ∘ rpl c v) = fun x => hN x.2.1 % cap == j := by
    funext x
    show (hN (rpl c v x).2.1 % cap == j) = _
    rw [rpl_1.2]
  rw [e]
  exact List.map_congr_left (fun x _ => rpl_1.1)
abbrev mput (es : List Ent) (q c : Nat) (v : Int32) : List Ent := match lkp es c with
  | some _ => rplL es c v
  | none => es ++ [(q, c, v)]
theorem MpN.rpv {I : AI} {S S' : AL} {m : Nat} {mo : Int32} {sz : Nat} {es : List Ent} {tb : Nat} {esV : Value} {cap : Nat} {lf : UInt32} {kr vr : Nat → Nat} {c val : Nat} {v : Int32} (h : MpN I S m mo sz es tb esV cap lf kr vr) (hv : I val (bxE v)) {x : Ent} (hx : x ∈ es) (hxc : x.2.1 = c)
    (hq : S' x.1 = some (obC ciJ31 [.int (nI (hN x.2.1)), .ref (kr x.1), .ref val, va_rf (nxB es cap x), va_rf (prd (ads es) x.1), va_rf (suc (ads es) x.1)])) (ho : ∀ z, z ≠ x.1 → S' z = S z) : MpN I S' m mo sz (rplL es c v) tb esV cap lf kr (uf vr x.1 val) := by
  obtain ⟨h1, h2, h3, h4, h5, h6, h7, h8, h9, f, k1, k2⟩ := h
  have hmx : m ≠ x.1 := fun e => h4 (e ▸ ads_of hx)
  have htx : tb ≠ x.1 := fun e => h9 (e ▸ ads_of hx)
  refine ⟨by rw [rpl_ads, ho m hmx]; exact h1, by rw [rpl_ads]; exact h2, by rw [rpl_cods]; exact h3, by rw [rpl_ads]; exact h4, fun y hy => ?_, h6, h7, h8, by rw [rpl_ads]; exact h9, f, by rw [ho tb htx]; exact k1, fun j hj => by rw [rpl_bkt]; exact k2 j hj⟩
  obtain ⟨y0, hy0, rfl⟩ := List.mem_map.mp hy
  obtain ⟨m1, m2, m3, m4⟩ := h5 y0 hy0
  have en : nxB (rplL es c v) cap (rpl c v y0) = nxB es cap y0 := by
    show suc (bkt (rplL es c v) cap (hN (rpl c v y0).2.1 % cap)) (rpl c v y0).1 = _
    rw [rpl_bkt, rpl_1.1, rpl_1.2]
  unfold entG
  rw [en, rpl_ads, rpl_1.1, rpl_1.2]
  by_cases e : y0.1 = x.1
  · cases ads_inj h2 hy0 hx e
    have e3 : (rpl c v x).2.2 = v := by unfold rpl; rw [if_pos hxc]
    refine ⟨?_, m2, m3, ?_⟩
    · rw [hq]; simp [uf]
    · rw [e3]; simpa [uf] using hv
  · have e3 : rpl c v y0 = y0 := by
      unfold rpl
      rw [if_neg]
      intro h
      have a1 := lkp_of h3 hy0
      have a2 := lkp_of h3 hx
      rw [h] at a1
      rw [hxc, a1] at a2
      cases a2
      exact e rfl
    rw [e3]
    refine ⟨?_, m2, m3, ?_⟩
    · rw [ho y0.1 e, m1]; simp only [uf, if_neg e]
    · simpa only [uf, if_neg e] using m4
set_option maxHeartbeats 4000000 in
set_option maxRecDepth 100000 in
theorem sp_J5_afterNodeAccess {l : Launch} {s0 : State} {D : va_G} {I : AI} {L : AL} {m x : Nat}  {a1 a2 a3 a4 a5 a6 a7 a8 a9 a10 : Value} (hΓ : Gam l s0 D) (h0 : L m = some (obC ciJ5 [a1, a2, a3, a4, a5, a6, a7, a8, a9, a10, .int 0, .int 0])) : Spc l s0 D yJ5_afterNodeAccess 1 [.ref m, .ref x] I L 0 0 (p0 I L) noX := by
  refine Spc.of hΓ cJ5_afterNodeAccess 7 none q1382 (by decide +kernel) (by decide) (Nat.le_of_ble_eq_true rfl) (fun G GX hG => ?_)
  refine hG.aload_n dJ5_afterNodeAccess_0 rfl ?_
  refine hG.get dJ5_afterNodeAccess_1 fg_J5_1_J5 (Or.inl h0) rfl ?_
  refine hG.iconst (v := 2) dJ5_afterNodeAccess_4 rfl ?_
  refine hG.icmp_eq (tgt := 22) dJ5_afterNodeAccess_5 rfl (fun c_5 => absurd c_5 (by decide +kernel)) (fun c_5 => ?_)
  refine hG.aload_n dJ5_afterNodeAccess_8 rfl ?_
  refine hG.get dJ5_afterNodeAccess_9 fg_J5_1_J5 (Or.inl h0) rfl ?_
  refine hG.if_ne (tgt := 141) dJ5_afterNodeAccess_12 rfl (fun c_12 => absurd (by decide +kernel) c_12) (fun c_12 => ?_)
  refine hG.aload_n dJ5_afterNodeAccess_15 rfl ?_
  refine hG.get dJ5_afterNodeAccess_16 fg_J5_64_J5 (Or.inl h0) rfl ?_
  refine hG.if_eq (tgt := 141) dJ5_afterNodeAccess_19 rfl (fun c_19 => ?_) (fun c_19 => absurd rfl c_19)
  refine hG.aload_n dJ5_afterNodeAccess_141 rfl ?_
  refine hG.get dJ5_afterNodeAccess_142 fg_J5_1_J5 (Or.inl h0) rfl ?_
  refine hG.iconst (v := 1) dJ5_afterNodeAccess_145 rfl ?_
  refine hG.icmp_ne (tgt := 265) dJ5_afterNodeAccess_146 rfl (fun c_146 => ?_) (fun c_146 => absurd c_146 (by decide +kernel))
  refine hG.vret dJ5_afterNodeAccess_265 rfl ?_ (by omega) (by omega) trivial
  exact ⟨rfl, rfl, rfl⟩
set_option maxHeartbeats 4000000 in
set_option maxRecDepth 100000 in
theorem sp_J5_removeEldestEntry {l : Launch} {s0 : State} {D : va_G} {I : AI} {L : AL} {m x : Nat} (hΓ : Gam l s0 D)  : Spc l s0 D yJ5_removeEldestEntry 1 [.ref m, .ref x] I L 0 0 (pV (.int 0) I L) noX := by
  refine Spc.of hΓ cJ5_removeEldestEntry 2 (some FieldType.boolean) q1615 (by decide +kernel) (by decide) (Nat.le_of_ble_eq_true rfl) (fun G GX hG => ?_)
  refine hG.iconst (v := 0) dJ5_removeEldestEntry_0 rfl ?_
  refine hG.zret dJ5_removeEldestEntry_1 rfl rfl ?_ (by omega) (by omega) trivial
  exact ⟨rfl, rfl, rfl⟩
theorem fg_J5_7_J5 : LkG RJ5 7 ciJ5 8 := ⟨RJ5, TJ5, 12, tyJ5, _, cls_J5, by decide, Or.inl rfl, Or.inl q206⟩
theorem kv_J5_53 : LkV RJ5 53 yJ5_removeEldestEntry 1 := ⟨q1612, q1613, q1614, q81, by decide +kernel, by decide +kernel, by decide +kernel⟩
set_option maxHeartbeats 4000000 in
set_option maxRecDepth 100000 in
theorem sp_J5_afterNodeInsertion {l : Launch} {s0 : State} {D : va_G} {I : AI} {L : AL} {m : Nat} {hd : Option Nat} {a1 a2 a3 a4 a5 a6 a7 a8 a10 : Value} (hΓ : Gam l s0 D) (h0 : L m = some (obC ciJ5 [a1, a2, a3, a4, a5, a6, a7, a8, va_rf hd, a10, .int 0, .int 0])) : Spc l s0 D yJ5_afterNodeInsertion 2 [.ref m, .int 1] I L 0 0 (p0 I L) noX := by
  refine Spc.of hΓ cJ5_afterNodeInsertion 4 none q1611 (by decide +kernel) (by decide) (Nat.le_of_ble_eq_true rfl) (fun G GX hG => ?_)
  refine hG.iload_n dJ5_afterNodeInsertion_0 rfl ?_
  refine hG.if_eq (tgt := 39) dJ5_afterNodeInsertion_1 rfl (fun c_1 => absurd c_1 (by decide +kernel)) (fun c_1 => ?_)
  refine hG.aload_n dJ5_afterNodeInsertion_4 rfl ?_
  refine hG.get dJ5_afterNodeInsertion_5 fg_J5_7_J5 (Or.inl h0) rfl ?_
  refine hG.dup dJ5_afterNodeInsertion_8 (rf_cat _) ?_
  refine hG.astore_nQ dJ5_afterNodeInsertion_9 (by decide) ?_
  refine hG.ifnullQ (tgt := 39) dJ5_afterNodeInsertion_10 rfl (fun ho10 => ?_) (fun a10 ho10 => ?_)
  · refine hG.vret dJ5_afterNodeInsertion_39 rfl ?_ (by omega) (by omega) trivial
    exact ⟨rfl, rfl, rfl⟩
  · refine hG.aload_n dJ5_afterNodeInsertion_13 rfl ?_
    subst ho10
    refine hG.aload_n dJ5_afterNodeInsertion_14 rfl ?_
    refine hG.callV dJ5_afterNodeInsertion_15 kv_J5_53 (Rcv.raw h0 cl_J5) (sp_J5_removeEldestEntry hΓ) rfl rfl (Nat.le_of_ble_eq_true rfl) (by decide) (by omega) (by omega) (fun r15 I15 L15 hI15 h15 => ?_) (fun _ _ _ _ _ h => h.elim)
    obtain ⟨rfl, rfl, rfl⟩ := h15
    refine hG.if_eq (tgt := 39) dJ5_afterNodeInsertion_18 rfl (fun c_18 => ?_) (fun c_18 => absurd rfl c_18)
    refine hG.vret dJ5_afterNodeInsertion_39 rfl ?_ (by omega) (by omega) trivial
    exact ⟨rfl, rfl, rfl⟩
