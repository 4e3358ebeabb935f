/-- the bucket without the entry -/
theorem nx_rm {pre post : List Ent} {x : Ent} {cap : Nat} (hna : (ads (pre ++ x :: post)).Nodup) {y : Ent} (hy : y ∈ pre ++ post) : set1 (bkt pre cap (hN x.2.1 % cap)).getLast? (bkt post cap (hN x.2.1 % cap)).head? (nxB (pre ++ x :: post) cap) y = nxB (pre ++ post) cap y := by
  have hb : ∀ j, bkt (pre ++ x :: post) cap j = bkt pre cap j ++ (if hN x.2.1 % cap = j then [x.1] else []) ++ bkt post cap j := fun j => by
    have e : pre ++ x :: post = pre ++ ([x] ++ post) := rfl
    rw [e, bkt_app, bkt_app, bkt_one, List.append_assoc]
  have hyi : y ∈ pre ++ x :: post := by rcases List.mem_append.mp hy with h | h <;> simp [h]
  have hnb := bkt_nodup hna cap (hN y.2.1 % cap)
  have hym : y.1 ∈ bkt (pre ++ post) cap (hN y.2.1 % cap) := mem_bkt hy
  show _ = suc (bkt (pre ++ post) cap (hN y.2.1 % cap)) y.1
  rw [bkt_app] at hym ⊢
  unfold set1
  show (if _ = some y.1 then _ else suc (bkt (pre ++ x :: post) cap (hN y.2.1 % cap)) y.1) = _
  by_cases e : hN x.2.1 % cap = hN y.2.1 % cap
  · rw [hb, if_pos e, List.append_assoc, List.singleton_append] at hnb ⊢
    rw [e, ← suc_rm hnb hym]
    rfl
  · rw [hb, if_neg e, List.append_nil, if_neg]
    intro h
    obtain ⟨z, hz, ez, hj⟩ := bkt_mem (bkt_last h)
    rw [ads_inj hna (by simp [hz]) hyi ez] at hj
    exact e hj.symm
theorem bkt_rm {pre post : List Ent} {x : Ent} {cap : Nat} : bkt (pre ++ x :: post) cap (hN x.2.1 % cap) = bkt pre cap (hN x.2.1 % cap) ++ x.1 :: bkt post cap (hN x.2.1 % cap) := by
  have e : pre ++ x :: post = pre ++ ([x] ++ post) := rfl
  rw [e, bkt_app, bkt_app, bkt_one, if_pos rfl]
  rfl
theorem bkt_rmn {pre post : List Ent} {x : Ent} {cap j : Nat} (h : hN x.2.1 % cap ≠ j) : bkt (pre ++ x :: post) cap j = bkt (pre ++ post) cap j := by
  have e : pre ++ x :: post = pre ++ ([x] ++ post) := rfl
  rw [e, bkt_app, bkt_app, bkt_one, if_neg h, List.nil_append, bkt_app]
theorem ko_J4_236_J5 : LkU RJ4 236 RJ5 ⟨"java/util/HashMap", "afterNodeRemoval", "(Ljava/util/HashMap$Node;)V"⟩ yJ5_afterNodeRemoval 1 := ⟨_, q1479, q1481, q1482, q1483, q81, by decide +kernel, by decide +kernel, by decide +kernel, Or.inr (Or.inr q1485)⟩
set_option maxHeartbeats 4000000 in
set_option maxRecDepth 100000 in
theorem sp_J4_removeNode {l : Launch} {s0 : State} {D : va_G} {I : AI} {L : AL} {m key : Nat} {x : Ent} {mo : Int32} {pre post : List Ent} {tbV esV : Value} {cap : Nat} {lf : UInt32} {kr vr : Nat → Nat} {mv : Int32} (hΓ : Gam l s0 D) (hNT : StN s0) (h : MpO I L m mo (pre ++ x :: post) tbV esV cap lf kr vr) (hkey : I key (ob ciX9 (grp x.2.1))) : Spc l s0 D yJ4_removeNode 3 [.ref m, .int (nI (hN x.2.1)), .ref key, .null, .int 0, .int mv] I L 0 0 (fun r I' L' => I = I' ∧ r = some (.ref x.1) ∧ (∃ nv : Value, L' x.1 = some (obC ciJ31 [.int (nI (hN x.2.1)), .ref (kr x.1), .ref (vr x.1), nv, .null, .null])) ∧ MpO I L' m (mo + 1) (pre ++ post) tbV esV cap lf kr vr ∧ Far L (m :: (rfs tbV ++ ads (pre ++ x :: post))) (m :: (rfs tbV ++ ads (pre ++ post))) L') noX := by
  refine Spc.of hΓ cJ4_removeNode 14 (some (FieldType.object "java/util/HashMap$Node")) q1394 (by decide +kernel) (by decide) (Nat.le_of_ble_eq_true rfl) (fun G GX hG => ?_)
  have hxe : x ∈ pre ++ x :: post := by simp
  rcases h.2.2.2.2.2.2 with ⟨-, e, -⟩ | ⟨hcap, hlen, tb, f, rfl, htm, hta, hT1, hT2⟩
  · simp at e
  obtain ⟨h1, hna, hnc, hme, hE, hes, -⟩ := h
  have hcb := caps_in hcap
  obtain ⟨hx1, hx2, hx3, hx4⟩ := hE x hxe
  have hc : x.2.1 < 147 := hx2
  have hh := hN_lt hc
  have hix := ix_eq hcap hh
  have hjl : hN x.2.1 % cap < cap := Nat.mod_lt _ (by omega)
  have ea2 : ads (pre ++ post) = ads pre ++ ads post := List.map_append
  have ea : ads (pre ++ x :: post) = ads pre ++ x.1 :: ads post := List.map_append
  have hmx : m ≠ x.1 := fun e => hme (e ▸ ads_of hxe)
  have htx : tb ≠ x.1 := fun e => hta (e ▸ ads_of hxe)
  have hBx : bkt (pre ++ x :: post) cap (hN x.2.1 % cap) = bkt pre cap (hN x.2.1 % cap) ++ x.1 :: bkt post cap (hN x.2.1 % cap) := bkt_rm
  have hnx : nxB (pre ++ x :: post) cap x = (bkt post cap (hN x.2.1 % cap)).head? := suc_head (bkt_nodup hna _ _) hBx
  unfold entF at hx1
  have hsub : ∀ y, y ∈ pre ++ post → y ∈ pre ++ x :: post := fun y hy => by rcases List.mem_append.mp hy with h | h <;> simp [h]
  have hxn : x.1 ∉ ads (pre ++ post) := by
    have hn := hna
    rw [ea, List.nodup_append, List.nodup_cons] at hn
    rw [ea2]
    intro hm
    rcases List.mem_append.mp hm with h | h
    · exact hn.2.2 x.1 h x.1 (by simp) rfl
    · exact hn.2.1.1 h
  have k260 : ∀ (L1 : AL) (f' : Nat → Option Nat), L1 m = some (obC ciJ5 [.ref tb, esV, .int (nI (pre ++ x :: post).length), .int mo, .int (nI (3 * cap / 4)), .float lf, .null, .null, va_rf (ads (pre ++ x :: post)).head?, va_rf (ads (pre ++ x :: post)).getLast?, .int 0, .int 0]) → L1 tb = some (.inl (arQ NODE cap f')) → (∀ j, j < cap → f' j = (bkt (pre ++ post) cap j).head?) → EntG I L1 (pre ++ x :: post) (set1 (bkt pre cap (hN x.2.1 % cap)).getLast? (bkt post cap (hN x.2.1 % cap)).head? (nxB (pre ++ x :: post) cap)) (ads (pre ++ x :: post)) kr vr → (∀ z, z ≠ m → z ≠ tb → z ∉ ads (pre ++ x :: post) → L1 z = L z) → G 260 [(0, .ref m), (10, .ref x.1)] [] I L1 0 0 := by
    intro L1 f' g1 g2 g3 g4 g5
    refine hG.aload_n dJ4_removeNode_260 rfl ?_
    refine hG.dup dJ4_removeNode_261 rfl ?_
    refine hG.get dJ4_removeNode_262 fg_J4_202_J5 (Or.inl g1) rfl ?_
    refine hG.iconst (v := 1) dJ4_removeNode_265 rfl ?_
    refine hG.iadd dJ4_removeNode_266 ?_
    refine hG.put dJ4_removeNode_267 fp_J4_202_J5 g1 rfl rfl (Nat.le_of_ble_eq_true rfl) ?_
    refine hG.aload_n dJ4_removeNode_270 rfl ?_
    refine hG.dup dJ4_removeNode_271 rfl ?_
    refine hG.get dJ4_removeNode_272 fg_J4_156_J5 (Or.inl up1_s) rfl ?_
    refine hG.iconst (v := 1) dJ4_removeNode_275 rfl ?_
    refine hG.isub dJ4_removeNode_276 ?_
    refine hG.put dJ4_removeNode_277 fp_J4_156_J5 up1_s rfl rfl (Nat.le_of_ble_eq_true rfl) ?_
    refine hG.aload_n dJ4_removeNode_280 rfl ?_
    refine hG.aload dJ4_removeNode_281 rfl ?_
    rw [up1_up1]
    rw [show nI (pre ++ x :: post).length - 1 = nI (pre ++ post).length by
      have e : (pre ++ x :: post).length = (pre ++ post).length + 1 := by simp; omega
      rw [e]; exact nI_pred _]
    refine hG.callU dJ4_removeNode_283 ko_J4_236_J5 (Rcv.raw up1_s cl_J5) (sp_J5_afterNodeRemoval (L := (up1 L1 m (some (obC ciJ5 [.ref tb, esV, .int (nI (pre ++ post).length), .int (mo + 1), .int (nI (3 * cap / 4)), .float lf, .null, .null, va_rf (ads (pre ++ x :: post)).head?, va_rf (ads (pre ++ x :: post)).getLast?, .int 0, .int 0])))) hΓ up1_s hna hme (g4.congr (fun y hy => up1_n (fun e => hme (e ▸ ads_of hy))) (fun _ _ => rfl) (fun _ _ => ⟨rfl, rfl⟩))) rfl rfl (Nat.le_of_ble_eq_true rfl) (by decide) (by omega) (by omega) (fun r283 I283 L283 hI283 h283 => ?_) (fun _ _ _ _ _ h => h.elim)
    obtain ⟨rfl, rfl, j1, j2, j3, j4⟩ := h283
    refine hG.aload dJ4_removeNode_286 rfl ?_
    refine hG.aret dJ4_removeNode_288 rfl (by first | exact Or.inl ⟨_, rfl⟩ | exact Or.inr ⟨_, rfl⟩) (by first | exact Or.inr ⟨_, rfl⟩ | exact Or.inl rfl) ?_ (by omega) (by omega) trivial
    refine ⟨rfl, rfl, ⟨_, j3⟩, ⟨j1, ?_, ?_, ?_, ?_, hes, Or.inr ⟨hcap, ?_, tb, f', rfl, htm, ?_, ?_, g3⟩⟩, fun z q hz hn => ?_⟩
    · exact (List.Sublist.map _ (List.Sublist.append_left (List.sublist_cons_self x post) pre)).nodup hna
    · exact (List.Sublist.map (fun y : Ent => y.2.1) (List.Sublist.append_left (List.sublist_cons_self x post) pre)).nodup hnc
    · exact fun hm => hme (by obtain ⟨y, hy, e⟩ := List.mem_map.mp hm; rw [← e]; exact ads_of (hsub y hy))
    · exact j2.congr (fun _ _ => rfl) (fun y hy => nx_rm hna hy) (fun _ _ => ⟨rfl, rfl⟩)
    · have e : (pre ++ x :: post).length = (pre ++ post).length + 1 := by simp; omega
      omega
    · exact fun hm => hta (by obtain ⟨y, hy, e⟩ := List.mem_map.mp hm; rw [← e]; exact ads_of (hsub y hy))
    · rw [j4 tb htm hta, up1_n htm]; exact g2
    · simp only [rfs, List.mem_cons, List.mem_append, List.singleton_append, not_or] at hn ⊢
      obtain ⟨n1, n2, n3⟩ := hn
      refine ⟨⟨n1, n2, fun hm => n3 ?_⟩, ?_⟩
      · obtain ⟨y, hy, e⟩ := List.mem_map.mp hm; rw [← e]; exact ads_of (hsub y hy)
      · rw [j4 z n1 n3, up1_n n1, g5 z n1 n2 n3]; exact hz
  have k171f : bkt pre cap (hN x.2.1 % cap) = [] → G 171 [(0, .ref m), (4, .int 0), (6, .ref tb), (7, .ref x.1), (9, .int (nI (hN x.2.1 % cap))), (10, .ref x.1)] [] I L 0 0 := by
    intro hb
    have hx1n := hx1
    rw [show suc (bkt (pre ++ x :: post) cap (hN x.2.1 % cap)) x.1 = _ from hnx] at hx1n
    cases hp : (bkt post cap (hN x.2.1 % cap)).head? with
    | none =>
      rw [hp] at hx1n
      refine hG.aload dJ4_removeNode_171 rfl ?_
      refine hG.ifnull dJ4_removeNode_173 ?_
      refine hG.iload dJ4_removeNode_176 rfl ?_
      refine hG.if_eq (tgt := 206) dJ4_removeNode_178 rfl (fun c_178 => ?_) (fun c_178 => absurd rfl c_178)
      refine hG.aload dJ4_removeNode_206 rfl ?_
      refine hG.instNo dJ4_removeNode_208 q1161 (Rcv.raw hx1 cl_J31) hNT ?_
      refine hG.if_eq (tgt := 230) dJ4_removeNode_211 rfl (fun c_211 => ?_) (fun c_211 => absurd rfl c_211)
      refine hG.aload dJ4_removeNode_230 rfl ?_
      refine hG.aload dJ4_removeNode_232 rfl ?_
      refine hG.acmp_ne (tgt := 250) dJ4_removeNode_234 rfl (fun c_234 => absurd rfl c_234) (fun c_234 => ?_)
      refine hG.aload dJ4_removeNode_237 rfl ?_
      refine hG.iload dJ4_removeNode_239 rfl ?_
      refine hG.aload dJ4_removeNode_241 rfl ?_
      refine hG.get dJ4_removeNode_243 fg_J4_177_J31 (Or.inl hx1n) rfl ?_
      refine hG.aastN dJ4_removeNode_246 hT1 (vp_in_nI hjl (by omega)) ?_
      rw [nI_clamp (by omega)]
      refine hG.goto (tgt := 260) dJ4_removeNode_247 rfl ?_
      exact hG.lsb [(0, .ref m), (10, .ref x.1)] ⟨rfl, rfl, trivial⟩ (k260 _ _ ((up1_n htm.symm).trans h1) up1_s (fun j hj => by
        show (if j = hN x.2.1 % cap then _ else f j) = _
        by_cases e : j = hN x.2.1 % cap
        · rw [if_pos e, e, bkt_app, hb, List.nil_append, hp]
        · rw [if_neg e, hT2 j hj, bkt_rmn (fun q => e q.symm)]) (by
        rw [hb]
        show EntG _ _ _ (set1 none _ _) _ _ _
        rw [set1_none]
        exact EntG.congr hE (fun y hy => up1_n (fun e => hta (e ▸ ads_of hy))) (fun _ _ => rfl) (fun _ _ => ⟨rfl, rfl⟩)) (fun z z1 z2 z3 => up1_n z2))
    | some a =>
      obtain ⟨w, hw0, rfl, -⟩ := bkt_mem (List.mem_of_mem_head? hp)
      have hw : w ∈ pre ++ x :: post := by simp [hw0]
      rw [hp] at hx1n
      refine hG.aload dJ4_removeNode_171 rfl ?_
      refine hG.ifnull dJ4_removeNode_173 ?_
      refine hG.iload dJ4_removeNode_176 rfl ?_
      refine hG.if_eq (tgt := 206) dJ4_removeNode_178 rfl (fun c_178 => ?_) (fun c_178 => absurd rfl c_178)
      refine hG.aload dJ4_removeNode_206 rfl ?_
      refine hG.instNo dJ4_removeNode_208 q1161 (Rcv.raw hx1 cl_J31) hNT ?_
      refine hG.if_eq (tgt := 230) dJ4_removeNode_211 rfl (fun c_211 => ?_) (fun c_211 => absurd rfl c_211)
      refine hG.aload dJ4_removeNode_230 rfl ?_
      refine hG.aload dJ4_removeNode_232 rfl ?_
      refine hG.acmp_ne (tgt := 250) dJ4_removeNode_234 rfl (fun c_234 => absurd rfl c_234) (fun c_234 => ?_)
      refine hG.aload dJ4_removeNode_237 rfl ?_
      refine hG.iload dJ4_removeNode_239 rfl ?_
      refine hG.aload dJ4_removeNode_241 rfl ?_
      refine hG.get dJ4_removeNode_243 fg_J4_177_J31 (Or.inl hx1n) rfl ?_
      refine hG.aast dJ4_removeNode_246 hT1 (Rcv.raw (hE w hw).1 cl_J31) CASTN (vp_in_nI hjl (by omega)) ?_
      rw [nI_clamp (by omega)]
      refine hG.goto (tgt := 260) dJ4_removeNode_247 rfl ?_
      exact hG.lsb [(0, .ref m), (10, .ref x.1)] ⟨rfl, rfl, trivial⟩ (k260 _ _ ((up1_n htm.symm).trans h1) up1_s (fun j hj => by
        show (if j = hN x.2.1 % cap then _ else f j) = _
        by_cases e : j = hN x.2.1 % cap
        · rw [if_pos e, e, bkt_app, hb, List.nil_append, hp]
        · rw [if_neg e, hT2 j hj, bkt_rmn (fun q => e q.symm)]) (by
        rw [hb]
        show EntG _ _ _ (set1 none _ _) _ _ _
        rw [set1_none]
        exact EntG.congr hE (fun y hy => up1_n (fun e => hta (e ▸ ads_of hy))) (fun _ _ => rfl) (fun _ _ => ⟨rfl, rfl⟩)) (fun z z1 z2 z3 => up1_n z2))
  have k171b : ∀ p : Ent, p ∈ pre → (bkt pre cap (hN x.2.1 % cap)).getLast? = some p.1 → G 171 [(0, .ref m), (4, .int 0), (6, .ref tb), (7, .ref p.1), (9, .int (nI (hN x.2.1 % cap))), (10, .ref x.1)] [] I L 0 0 := by
    intro p hp hl
    have hpe : p ∈ pre ++ x :: post := by simp [hp]
    have hpx : p.1 ≠ x.1 := fun e => hxn (by rw [← e, ea2]; simp [ads_of hp])
    have hp1 := (hE p hpe).1
    have hx1n := hx1
    rw [show suc (bkt (pre ++ x :: post) cap (hN x.2.1 % cap)) x.1 = _ from hnx] at hx1n
    refine hG.aload dJ4_removeNode_171 rfl ?_
    refine hG.ifnull dJ4_removeNode_173 ?_
    refine hG.iload dJ4_removeNode_176 rfl ?_
    refine hG.if_eq (tgt := 206) dJ4_removeNode_178 rfl (fun c_178 => ?_) (fun c_178 => absurd rfl c_178)
    refine hG.aload dJ4_removeNode_206 rfl ?_
    refine hG.instNo dJ4_removeNode_208 q1161 (Rcv.raw hx1 cl_J31) hNT ?_
    refine hG.if_eq (tgt := 230) dJ4_removeNode_211 rfl (fun c_211 => ?_) (fun c_211 => absurd rfl c_211)
    refine hG.aload dJ4_removeNode_230 rfl ?_
    refine hG.aload dJ4_removeNode_232 rfl ?_
    refine hG.acmp_ne (tgt := 250) dJ4_removeNode_234 rfl (fun c_234 => ?_) (fun c_234 => absurd c_234.symm hpx)
    refine hG.aload dJ4_removeNode_250 rfl ?_
    refine hG.aload dJ4_removeNode_252 rfl ?_
    refine hG.get dJ4_removeNode_254 fg_J4_177_J31 (Or.inl hx1n) rfl ?_
    refine hG.put dJ4_removeNode_257 fp_J4_177_J31 hp1 (rf_nar _ _) (rf_fit _ _) (Nat.le_of_ble_eq_true rfl) ?_
    exact hG.lsb [(0, .ref m), (10, .ref x.1)] ⟨rfl, rfl, trivial⟩ (k260 _ f ((up1_n (fun e : m = p.1 => hme (e ▸ ads_of hpe))).trans h1) ((up1_n (fun e : tb = p.1 => hta (e ▸ ads_of hpe))).trans hT1) (fun j hj => by
      rw [hT2 j hj]
      by_cases e : hN x.2.1 % cap = j
      · subst e
        rw [hBx, bkt_app]
        cases hq : bkt pre cap (hN x.2.1 % cap) with
        | nil => rw [hq] at hl; cases hl
        | cons a l => rfl
      · rw [bkt_rmn e]) (by
      rw [hl]
      exact EntG.st1 hE hna hpe _) (fun z z1 z2 z3 => up1_n (fun e => z3 (e ▸ ads_of hpe))))
  have hyx : ∀ y ∈ pre ++ x :: post, y.2.1 = x.2.1 → y = x := fun y hy e => by
    have a1 := lkp_of hnc hy
    have a2 := lkp_of hnc hxe
    rw [e, a2] at a1
    cases a1
    rfl
  have k115 : ∀ (rest b1 : List Nat) (p y : Ent), y ∈ pre ++ x :: post → p ∈ pre → bkt pre cap (hN x.2.1 % cap) ++ x.1 :: bkt post cap (hN x.2.1 % cap) = b1 ++ p.1 :: y.1 :: rest → x.1 ∉ b1 ++ [p.1] → G 115 [(0, .ref m), (1, .int (nI (hN x.2.1))), (2, .ref key), (4, .int 0), (6, .ref tb), (9, .int (nI (hN x.2.1 % cap))), (10, .null), (7, .ref p.1), (11, .ref y.1)] [] I L 0 0 := by
    intro rest
    induction rest with
    | nil =>
      intro b1 p y hy hp hB hnot
      obtain ⟨hy1, hy2, hy3, hy4⟩ := hE y hy
      have hyj : hN y.2.1 % cap = hN x.2.1 % cap := (bkt_in hna hy).mp (by rw [hBx, hB]; simp)
      have hyes : y.2.1 = x.2.1 → G 149 [(0, .ref m), (1, .int (nI (hN x.2.1))), (2, .ref key), (4, .int 0), (6, .ref tb), (9, .int (nI (hN x.2.1 % cap))), (10, .null), (7, .ref p.1), (11, .ref y.1)] [] I L 0 0 := fun e9 => by
        have e8 := hyx y hy e9
        subst e8
        have hbp : bkt pre cap (hN y.2.1 % cap) = b1 ++ [p.1] := by
          have hn := bkt_nodup hna cap (hN y.2.1 % cap)
          rw [hBx] at hn
          have hxa : y.1 ∉ bkt pre cap (hN y.2.1 % cap) := fun hm => by
            rw [List.nodup_append] at hn
            exact hn.2.2 y.1 hm y.1 (by simp) rfl
          have e7 : b1 ++ p.1 :: y.1 :: [] = (b1 ++ [p.1]) ++ y.1 :: [] := by simp
          rw [e7] at hB
          have := congrArg (List.takeWhile (fun z => z != y.1)) hB
          rw [List.takeWhile_append_of_pos (by intro z hz; simp; intro q; exact hxa (q ▸ hz)), List.takeWhile_append_of_pos (by intro z hz; simp; intro q; exact hnot (q ▸ hz))] at this
          simpa using this
        refine hG.aload dJ4_removeNode_149 rfl ?_
        refine hG.astore dJ4_removeNode_151 (by decide) ?_
        refine hG.goto (tgt := 171) dJ4_removeNode_153 rfl ?_
        exact hG.lsb [(0, .ref m), (4, .int 0), (6, .ref tb), (7, .ref p.1), (9, .int (nI (hN y.2.1 % cap))), (10, .ref y.1)] ⟨rfl, rfl, rfl, rfl, rfl, rfl, trivial⟩ (k171b p hp (by rw [hbp]; simp))
      have hno : y.2.1 ≠ x.2.1 → G 156 [(0, .ref m), (1, .int (nI (hN x.2.1))), (2, .ref key), (4, .int 0), (6, .ref tb), (9, .int (nI (hN x.2.1 % cap))), (10, .null), (7, .ref p.1), (11, .ref y.1)] [] I L 0 0 := fun e9 => by
        have hyn : y ≠ x := fun e => e9 (by rw [e])
        exfalso
        have := congrArg (fun l => decide (x.1 ∈ l)) hB
        have hm : x.1 ∈ b1 ++ p.1 :: y.1 :: [] := by rw [← hB]; simp
        simp only [List.mem_append, List.mem_cons, List.not_mem_nil, or_false] at hm hnot
        rcases hm with h | h | h
        · exact hnot (Or.inl h)
        · exact hnot (Or.inr h)
        · exact hyn (ads_inj hna hy hxe h.symm)
      refine hG.aload dJ4_removeNode_115 rfl ?_
      refine hG.get dJ4_removeNode_117 fg_J4_168_J31 (Or.inl hy1) rfl ?_
      refine hG.iload_n dJ4_removeNode_120 rfl ?_
      refine hG.icmp_ne (tgt := 156) dJ4_removeNode_121 rfl (fun c_121 => ?_) (fun c_121 => ?_)
      · first
        | exact hG.lsb [(0, .ref m), (1, .int (nI (hN x.2.1))), (2, .ref key), (4, .int 0), (6, .ref tb), (9, .int (nI (hN x.2.1 % cap))), (10, .null), (7, .ref p.1), (11, .ref y.1)] ⟨rfl, rfl, rfl, rfl, rfl, rfl, rfl, rfl, rfl, trivial⟩ (hno (fun e9 => c_121 (by rw [e9])))
        | exact hG.lsb [(0, .ref m), (1, .int (nI (hN x.2.1))), (2, .ref key), (4, .int 0), (6, .ref tb), (9, .int (nI (hN x.2.1 % cap))), (10, .null), (7, .ref p.1), (11, .ref y.1)] ⟨rfl, rfl, rfl, rfl, rfl, rfl, rfl, rfl, rfl, trivial⟩ (hno (fun e9 => (by simpa [b2i] using c_146 : ¬ x.2.1 = y.2.1) e9.symm))
      · refine hG.aload dJ4_removeNode_124 rfl ?_
        refine hG.get dJ4_removeNode_126 fg_J4_170_J31 (Or.inl hy1) rfl ?_
        refine hG.dup dJ4_removeNode_129 rfl ?_
        refine hG.astore dJ4_removeNode_130 (by decide) ?_
        refine hG.aload_n dJ4_removeNode_132 rfl ?_
        refine hG.acmp_eq (tgt := 149) dJ4_removeNode_133 rfl (fun c_133 => ?_) (fun c_133 => ?_)
        · first
          | (refine hG.uniq (Or.inr hy3) (Or.inr (by rw [c_133]; exact hkey)) cl_X9 rfl rfl (fun hgr => ?_)
             exact hG.lsb [(0, .ref m), (1, .int (nI (hN x.2.1))), (2, .ref key), (4, .int 0), (6, .ref tb), (9, .int (nI (hN x.2.1 % cap))), (10, .null), (7, .ref p.1), (11, .ref y.1)] ⟨rfl, rfl, rfl, rfl, rfl, rfl, rfl, rfl, rfl, trivial⟩ (hyes (grp_eq hy2 hc hgr)))
          | exact hG.lsb [(0, .ref m), (1, .int (nI (hN x.2.1))), (2, .ref key), (4, .int 0), (6, .ref tb), (9, .int (nI (hN x.2.1 % cap))), (10, .null), (7, .ref p.1), (11, .ref y.1)] ⟨rfl, rfl, rfl, rfl, rfl, rfl, rfl, rfl, rfl, trivial⟩ (hyes (by simpa [b2i] using c_146 : x.2.1 = y.2.1).symm)
        · refine hG.aload_n dJ4_removeNode_136 rfl ?_
          refine hG.ifnull dJ4_removeNode_137 ?_
          refine hG.aload_n dJ4_removeNode_140 rfl ?_
          refine hG.aload dJ4_removeNode_141 rfl ?_
          refine hG.callU dJ4_removeNode_143 ko_J4_173_X9 (Rcv.imm hkey cl_X9) (sp_X9_equals hΓ hc hy2 (Or.inr hkey) (Or.inr hy3)) rfl rfl (Nat.le_of_ble_eq_true rfl) (by decide) (by omega) (by omega) (fun r143 I143 L143 hI143 h143 => ?_) (fun _ _ _ _ _ h => h.elim)
          obtain ⟨rfl, rfl, rfl⟩ := h143
          refine hG.if_eq (tgt := 156) dJ4_removeNode_146 rfl (fun c_146 => ?_) (fun c_146 => ?_)
          · first
            | exact hG.lsb [(0, .ref m), (1, .int (nI (hN x.2.1))), (2, .ref key), (4, .int 0), (6, .ref tb), (9, .int (nI (hN x.2.1 % cap))), (10, .null), (7, .ref p.1), (11, .ref y.1)] ⟨rfl, rfl, rfl, rfl, rfl, rfl, rfl, rfl, rfl, trivial⟩ (hno (fun e9 => c_121 (by rw [e9])))
            | exact hG.lsb [(0, .ref m), (1, .int (nI (hN x.2.1))), (2, .ref key), (4, .int 0), (6, .ref tb), (9, .int (nI (hN x.2.1 % cap))), (10, .null), (7, .ref p.1), (11, .ref y.1)] ⟨rfl, rfl, rfl, rfl, rfl, rfl, rfl, rfl, rfl, trivial⟩ (hno (fun e9 => (by simpa [b2i] using c_146 : ¬ x.2.1 = y.2.1) e9.symm))
          · first
            | (refine hG.uniq (Or.inr hy3) (Or.inr (by rw [c_133]; exact hkey)) cl_X9 rfl rfl (fun hgr => ?_)
               exact hG.lsb [(0, .ref m), (1, .int (nI (hN x.2.1))), (2, .ref key), (4, .int 0), (6, .ref tb), (9, .int (nI (hN x.2.1 % cap))), (10, .null), (7, .ref p.1), (11, .ref y.1)] ⟨rfl, rfl, rfl, rfl, rfl, rfl, rfl, rfl, rfl, trivial⟩ (hyes (grp_eq hy2 hc hgr)))
            | exact hG.lsb [(0, .ref m), (1, .int (nI (hN x.2.1))), (2, .ref key), (4, .int 0), (6, .ref tb), (9, .int (nI (hN x.2.1 % cap))), (10, .null), (7, .ref p.1), (11, .ref y.1)] ⟨rfl, rfl, rfl, rfl, rfl, rfl, rfl, rfl, rfl, trivial⟩ (hyes (by simpa [b2i] using c_146 : x.2.1 = y.2.1).symm)
    | cons e2 rest ih =>
      intro b1 p y hy hp hB hnot
      obtain ⟨hy1, hy2, hy3, hy4⟩ := hE y hy
      have hyj : hN y.2.1 % cap = hN x.2.1 % cap := (bkt_in hna hy).mp (by rw [hBx, hB]; simp)
      have hyes : y.2.1 = x.2.1 → G 149 [(0, .ref m), (1, .int (nI (hN x.2.1))), (2, .ref key), (4, .int 0), (6, .ref tb), (9, .int (nI (hN x.2.1 % cap))), (10, .null), (7, .ref p.1), (11, .ref y.1)] [] I L 0 0 := fun e9 => by
        have e8 := hyx y hy e9
        subst e8
        have hbp : bkt pre cap (hN y.2.1 % cap) = b1 ++ [p.1] := by
          have hn := bkt_nodup hna cap (hN y.2.1 % cap)
          rw [hBx] at hn
          have hxa : y.1 ∉ bkt pre cap (hN y.2.1 % cap) := fun hm => by
            rw [List.nodup_append] at hn
            exact hn.2.2 y.1 hm y.1 (by simp) rfl
          have e7 : b1 ++ p.1 :: y.1 :: (e2 :: rest) = (b1 ++ [p.1]) ++ y.1 :: (e2 :: rest) := by simp
          rw [e7] at hB
          have := congrArg (List.takeWhile (fun z => z != y.1)) hB
          rw [List.takeWhile_append_of_pos (by intro z hz; simp; intro q; exact hxa (q ▸ hz)), List.takeWhile_append_of_pos (by intro z hz; simp; intro q; exact hnot (q ▸ hz))] at this
          simpa using this
        refine hG.aload dJ4_removeNode_149 rfl ?_
        refine hG.astore dJ4_removeNode_151 (by decide) ?_
        refine hG.goto (tgt := 171) dJ4_removeNode_153 rfl ?_
        exact hG.lsb [(0, .ref m), (4, .int 0), (6, .ref tb), (7, .ref p.1), (9, .int (nI (hN y.2.1 % cap))), (10, .ref y.1)] ⟨rfl, rfl, rfl, rfl, rfl, rfl, trivial⟩ (k171b p hp (by rw [hbp]; simp))
      have hno : y.2.1 ≠ x.2.1 → G 156 [(0, .ref m), (1, .int (nI (hN x.2.1))), (2, .ref key), (4, .int 0), (6, .ref tb), (9, .int (nI (hN x.2.1 % cap))), (10, .null), (7, .ref p.1), (11, .ref y.1)] [] I L 0 0 := fun e9 => by
        have hyn : y ≠ x := fun e => e9 (by rw [e])
        have hnx9 : nxB (pre ++ x :: post) cap y = some e2 := by
          show suc (bkt (pre ++ x :: post) cap (hN y.2.1 % cap)) y.1 = _
          rw [hyj]
          exact suc_head (pre := b1 ++ [p.1]) (post := e2 :: rest) (bkt_nodup hna _ _) (by rw [hBx, hB]; simp)
        have hy1n := hy1
        unfold entF at hy1n
        rw [show suc (bkt (pre ++ x :: post) cap (hN y.2.1 % cap)) y.1 = _ from hnx9] at hy1n
        have hyp : y ∈ pre := by
          have hm : x.1 ∈ e2 :: rest := by
            have hm : x.1 ∈ b1 ++ p.1 :: y.1 :: e2 :: rest := by rw [← hB]; simp
            simp only [List.mem_append, List.mem_cons, List.not_mem_nil, or_false] at hm hnot ⊢
            rcases hm with h | h | h | h
            · exact absurd (Or.inl h) hnot
            · exact absurd (Or.inr h) hnot
            · exact absurd (ads_inj hna hy hxe h.symm) hyn
            · exact h
          obtain ⟨u1, u2, hu⟩ := List.append_of_mem hm
          have hn := bkt_nodup hna cap (hN x.2.1 % cap)
          rw [hBx] at hn
          have hxa : x.1 ∉ bkt pre cap (hN x.2.1 % cap) := fun hm => by
            rw [List.nodup_append] at hn
            exact hn.2.2 x.1 hm x.1 (by simp) rfl
          rw [hu] at hB
          have hn2 := hn
          rw [hB] at hn2
          have e7 : b1 ++ p.1 :: y.1 :: (u1 ++ x.1 :: u2) = (b1 ++ [p.1, y.1] ++ u1) ++ x.1 :: u2 := by simp
          rw [e7] at hB hn2
          have hxb : x.1 ∉ b1 ++ [p.1, y.1] ++ u1 := fun hm => by
            rw [List.nodup_append] at hn2
            exact hn2.2.2 x.1 hm x.1 (by simp) rfl
          have h5 := congrArg (List.takeWhile (fun z => z != x.1)) hB
          rw [List.takeWhile_append_of_pos (by intro z hz; simp; intro q; exact hxa (q ▸ hz)), List.takeWhile_append_of_pos (by intro z hz; simp; intro q; exact hxb (q ▸ hz))] at h5
          have h6 : bkt pre cap (hN x.2.1 % cap) = b1 ++ [p.1, y.1] ++ u1 := by simpa using h5
          obtain ⟨z, hz, ez, -⟩ := bkt_mem (es := pre) (e := y.1) (cap := cap) (j := hN x.2.1 % cap) (by rw [h6]; simp)
          rw [← ads_inj hna (by simp [hz]) hy ez]
          exact hz
        obtain ⟨y2, hy20, rfl, -⟩ := bkt_mem (es := pre ++ x :: post) (cap := cap) (j := hN x.2.1 % cap) (e := e2) (by rw [hBx, hB]; simp)
        refine hG.aload dJ4_removeNode_156 rfl ?_
        refine hG.astore dJ4_removeNode_158 (by decide) ?_
        refine hG.aload dJ4_removeNode_160 rfl ?_
        refine hG.get dJ4_removeNode_162 fg_J4_177_J31 (Or.inl hy1n) rfl ?_
        refine hG.dup dJ4_removeNode_165 rfl ?_
        refine hG.astore dJ4_removeNode_166 (by decide) ?_
        refine hG.ifnonnull (tgt := 115) dJ4_removeNode_168 rfl ?_
        exact hG.lsb [(0, .ref m), (1, .int (nI (hN x.2.1))), (2, .ref key), (4, .int 0), (6, .ref tb), (9, .int (nI (hN x.2.1 % cap))), (10, .null), (7, .ref y.1), (11, .ref y2.1)] ⟨rfl, rfl, rfl, rfl, rfl, rfl, rfl, rfl, rfl, trivial⟩ (ih (b1 ++ [p.1]) y y2 hy20 hyp (by rw [hB]; simp) (fun hm => by
          simp only [List.mem_append, List.mem_cons, List.not_mem_nil, or_false] at hm hnot
          rcases hm with h | h
          · exact hnot h
          · exact hyn (ads_inj hna hy hxe h.symm)))
      refine hG.aload dJ4_removeNode_115 rfl ?_
      refine hG.get dJ4_removeNode_117 fg_J4_168_J31 (Or.inl hy1) rfl ?_
      refine hG.iload_n dJ4_removeNode_120 rfl ?_
      refine hG.icmp_ne (tgt := 156) dJ4_removeNode_121 rfl (fun c_121 => ?_) (fun c_121 => ?_)
      · first
        | exact hG.lsb [(0, .ref m), (1, .int (nI (hN x.2.1))), (2, .ref key), (4, .int 0), (6, .ref tb), (9, .int (nI (hN x.2.1 % cap))), (10, .null), (7, .ref p.1), (11, .ref y.1)] ⟨rfl, rfl, rfl, rfl, rfl, rfl, rfl, rfl, rfl, trivial⟩ (hno (fun e9 => c_121 (by rw [e9])))
        | exact hG.lsb [(0, .ref m), (1, .int (nI (hN x.2.1))), (2, .ref key), (4, .int 0), (6, .ref tb), (9, .int (nI (hN x.2.1 % cap))), (10, .null), (7, .ref p.1), (11, .ref y.1)] ⟨rfl, rfl, rfl, rfl, rfl, rfl, rfl, rfl, rfl, trivial⟩ (hno (fun e9 => (by simpa [b2i] using c_146 : ¬ x.2.1 = y.2.1) e9.symm))
      · refine hG.aload dJ4_removeNode_124 rfl ?_
        refine hG.get dJ4_removeNode_126 fg_J4_170_J31 (Or.inl hy1) rfl ?_
        refine hG.dup dJ4_removeNode_129 rfl ?_
        refine hG.astore dJ4_removeNode_130 (by decide) ?_
        refine hG.aload_n dJ4_removeNode_132 rfl ?_
        refine hG.acmp_eq (tgt := 149) dJ4_removeNode_133 rfl (fun c_133 => ?_) (fun c_133 => ?_)
        · first
          | (refine hG.uniq (Or.inr hy3) (Or.inr (by rw [c_133]; exact hkey)) cl_X9 rfl rfl (fun hgr => ?_)
             exact hG.lsb [(0, .ref m), (1, .int (nI (hN x.2.1))), (2, .ref key), (4, .int 0), (6, .ref tb), (9, .int (nI (hN x.2.1 % cap))), (10, .null), (7, .ref p.1), (11, .ref y.1)] ⟨rfl, rfl, rfl, rfl, rfl, rfl, rfl, rfl, rfl, trivial⟩ (hyes (grp_eq hy2 hc hgr)))
          | exact hG.lsb [(0, .ref m), (1, .int (nI (hN x.2.1))), (2, .ref key), (4, .int 0), (6, .ref tb), (9, .int (nI (hN x.2.1 % cap))), (10, .null), (7, .ref p.1), (11, .ref y.1)] ⟨rfl, rfl, rfl, rfl, rfl, rfl, rfl, rfl, rfl, trivial⟩ (hyes (by simpa [b2i] using c_146 : x.2.1 = y.2.1).symm)
        · refine hG.aload_n dJ4_removeNode_136 rfl ?_
          refine hG.ifnull dJ4_removeNode_137 ?_
          refine hG.aload_n dJ4_removeNode_140 rfl ?_
          refine hG.aload dJ4_removeNode_141 rfl ?_
          refine hG.callU dJ4_removeNode_143 ko_J4_173_X9 (Rcv.imm hkey cl_X9) (sp_X9_equals hΓ hc hy2 (Or.inr hkey) (Or.inr hy3)) rfl rfl (Nat.le_of_ble_eq_true rfl) (by decide) (by omega) (by omega) (fun r143 I143 L143 hI143 h143 => ?_) (fun _ _ _ _ _ h => h.elim)
          obtain ⟨rfl, rfl, rfl⟩ := h143
          refine hG.if_eq (tgt := 156) dJ4_removeNode_146 rfl (fun c_146 => ?_) (fun c_146 => ?_)
          · first
            | exact hG.lsb [(0, .ref m), (1, .int (nI (hN x.2.1))), (2, .ref key), (4, .int 0), (6, .ref tb), (9, .int (nI (hN x.2.1 % cap))), (10, .null), (7, .ref p.1), (11, .ref y.1)] ⟨rfl, rfl, rfl, rfl, rfl, rfl, rfl, rfl, rfl, trivial⟩ (hno (fun e9 => c_121 (by rw [e9])))
            | exact hG.lsb [(0, .ref m), (1, .int (nI (hN x.2.1))), (2, .ref key), (4, .int 0), (6, .ref tb), (9, .int (nI (hN x.2.1 % cap))), (10, .null), (7, .ref p.1), (11, .ref y.1)] ⟨rfl, rfl, rfl, rfl, rfl, rfl, rfl, rfl, rfl, trivial⟩ (hno (fun e9 => (by simpa [b2i] using c_146 : ¬ x.2.1 = y.2.1) e9.symm))
          · first
            | (refine hG.uniq (Or.inr hy3) (Or.inr (by rw [c_133]; exact hkey)) cl_X9 rfl rfl (fun hgr => ?_)
               exact hG.lsb [(0, .ref m), (1, .int (nI (hN x.2.1))), (2, .ref key), (4, .int 0), (6, .ref tb), (9, .int (nI (hN x.2.1 % cap))), (10, .null), (7, .ref p.1), (11, .ref y.1)] ⟨rfl, rfl, rfl, rfl, rfl, rfl, rfl, rfl, rfl, trivial⟩ (hyes (grp_eq hy2 hc hgr)))
            | exact hG.lsb [(0, .ref m), (1, .int (nI (hN x.2.1))), (2, .ref key), (4, .int 0), (6, .ref tb), (9, .int (nI (hN x.2.1 % cap))), (10, .null), (7, .ref p.1), (11, .ref y.1)] ⟨rfl, rfl, rfl, rfl, rfl, rfl, rfl, rfl, rfl, trivial⟩ (hyes (by simpa [b2i] using c_146 : x.2.1 = y.2.1).symm)
  obtain ⟨y, hy, hyh⟩ : ∃ y ∈ pre ++ x :: post, (bkt (pre ++ x :: post) cap (hN x.2.1 % cap)).head? = some y.1 := by
    cases hq : (bkt (pre ++ x :: post) cap (hN x.2.1 % cap)).head? with
    | none => rw [List.head?_eq_none_iff, hBx] at hq; simp at hq
    | some a =>
      obtain ⟨y, hy, rfl, -⟩ := bkt_mem (List.mem_of_mem_head? hq)
      exact ⟨y, hy, rfl⟩
  obtain ⟨hy1, hy2, hy3, hy4⟩ := hE y hy
  have hyes : y.2.1 = x.2.1 → G 74 [(0, .ref m), (1, .int (nI (hN x.2.1))), (2, .ref key), (4, .int 0), (6, .ref tb), (9, .int (nI (hN x.2.1 % cap))), (10, .null), (7, .ref y.1)] [] I L 0 0 := fun e9 => by
    have e8 := hyx y hy e9
    subst e8
    refine hG.aload dJ4_removeNode_74 rfl ?_
    refine hG.astore dJ4_removeNode_76 (by decide) ?_
    refine hG.goto (tgt := 171) dJ4_removeNode_78 rfl ?_
    exact hG.lsb [(0, .ref m), (4, .int 0), (6, .ref tb), (7, .ref y.1), (9, .int (nI (hN y.2.1 % cap))), (10, .ref y.1)] ⟨rfl, rfl, rfl, rfl, rfl, rfl, trivial⟩ (k171f (by
      cases hq : bkt pre cap (hN y.2.1 % cap) with
      | nil => rfl
      | cons a l =>
        exfalso
        rw [hBx, hq] at hyh
        have e7 : a = y.1 := by simpa using hyh
        have hn := bkt_nodup hna cap (hN y.2.1 % cap)
        rw [hBx, hq, e7] at hn
        simp at hn))
  have hno : y.2.1 ≠ x.2.1 → G 81 [(0, .ref m), (1, .int (nI (hN x.2.1))), (2, .ref key), (4, .int 0), (6, .ref tb), (9, .int (nI (hN x.2.1 % cap))), (10, .null), (7, .ref y.1)] [] I L 0 0 := fun e9 => by
    have hyn : y ≠ x := fun e => e9 (by rw [e])
    obtain ⟨b1, hb1⟩ : ∃ b1, bkt pre cap (hN x.2.1 % cap) = y.1 :: b1 := by
      cases hq : bkt pre cap (hN x.2.1 % cap) with
      | nil =>
        rw [hBx, hq] at hyh
        have e7 : x.1 = y.1 := by simpa using hyh
        exact absurd (ads_inj hna hy hxe e7.symm) hyn
      | cons a l =>
        rw [hBx, hq] at hyh
        have e7 : a = y.1 := by simpa using hyh
        exact ⟨l, by rw [e7]⟩
    have hyj : hN y.2.1 % cap = hN x.2.1 % cap := (bkt_in hna hy).mp (List.mem_of_mem_head? hyh)
    obtain ⟨z, hz, ez, -⟩ := bkt_mem (es := pre) (e := y.1) (cap := cap) (j := hN x.2.1 % cap) (by rw [hb1]; simp)
    have hyp : y ∈ pre := by
      rw [← ads_inj hna (by simp [hz]) hy ez]
      exact hz
    obtain ⟨e2, rest, hr⟩ : ∃ e2 rest, b1 ++ x.1 :: bkt post cap (hN x.2.1 % cap) = e2 :: rest := by
      cases b1 with
      | nil => exact ⟨_, _, rfl⟩
      | cons a l => exact ⟨_, _, rfl⟩
    have hBy : bkt pre cap (hN x.2.1 % cap) ++ x.1 :: bkt post cap (hN x.2.1 % cap) = [] ++ y.1 :: e2 :: rest := by rw [hb1, List.cons_append, hr]; rfl
    have hnx9 : nxB (pre ++ x :: post) cap y = some e2 := by
      show suc (bkt (pre ++ x :: post) cap (hN y.2.1 % cap)) y.1 = _
      rw [hyj]
      exact suc_head (pre := []) (post := e2 :: rest) (bkt_nodup hna _ _) (by rw [hBx, hBy])
    have hy1n := hy1
    unfold entF at hy1n
    rw [show suc (bkt (pre ++ x :: post) cap (hN y.2.1 % cap)) y.1 = _ from hnx9] at hy1n
    obtain ⟨y2, hy20, rfl, -⟩ := bkt_mem (es := pre ++ x :: post) (cap := cap) (j := hN x.2.1 % cap) (e := e2) (by rw [hBx, hBy]; simp)
    refine hG.aload dJ4_removeNode_81 rfl ?_
    refine hG.get dJ4_removeNode_83 fg_J4_177_J31 (Or.inl hy1n) rfl ?_
    refine hG.dup dJ4_removeNode_86 rfl ?_
    refine hG.astore dJ4_removeNode_87 (by decide) ?_
    refine hG.ifnull dJ4_removeNode_89 ?_
    refine hG.aload dJ4_removeNode_92 rfl ?_
    refine hG.instNo dJ4_removeNode_94 q1161 (Rcv.raw hy1 cl_J31) hNT ?_
    refine hG.if_eq (tgt := 115) dJ4_removeNode_97 rfl (fun c_97 => ?_) (fun c_97 => absurd rfl c_97)
    exact hG.lsb [(0, .ref m), (1, .int (nI (hN x.2.1))), (2, .ref key), (4, .int 0), (6, .ref tb), (9, .int (nI (hN x.2.1 % cap))), (10, .null), (7, .ref y.1), (11, .ref y2.1)] ⟨rfl, rfl, rfl, rfl, rfl, rfl, rfl, rfl, rfl, trivial⟩ (k115 rest [] y y2 hy20 hyp hBy (fun hm => by
      have e7 : x.1 = y.1 := by simpa using hm
      exact hyn (ads_inj hna hy hxe e7.symm)))
  refine hG.aload_n dJ4_removeNode_0 rfl ?_
  refine hG.get dJ4_removeNode_1 fg_J4_105_J5 (Or.inl h1) rfl ?_
  refine hG.dup dJ4_removeNode_4 rfl ?_
  refine hG.astore dJ4_removeNode_5 (by decide) ?_
  refine hG.ifnull dJ4_removeNode_7 ?_
  refine hG.aload dJ4_removeNode_10 rfl ?_
  refine hG.alen dJ4_removeNode_12 (Or.inl hT1) ?_
  refine hG.dup dJ4_removeNode_13 rfl ?_
  refine hG.istore dJ4_removeNode_14 (by decide) ?_
  refine hG.if_le (tgt := 289) dJ4_removeNode_16 rfl (fun c_16 => absurd c_16 (nI_nle (n := cap) (by omega) (by omega))) (fun c_16 => ?_)
  refine hG.aload dJ4_removeNode_19 rfl ?_
  refine hG.iload dJ4_removeNode_21 rfl ?_
  refine hG.iconst (v := 1) dJ4_removeNode_23 rfl ?_
  refine hG.isub dJ4_removeNode_24 ?_
  refine hG.iload_n dJ4_removeNode_25 rfl ?_
  refine hG.iand dJ4_removeNode_26 ?_
  rw [show (Int32.ofNat cap - 1) &&& nI (hN x.2.1) = nI (hN x.2.1 % cap) from hix]
  refine hG.dup dJ4_removeNode_27 rfl ?_
  refine hG.istore dJ4_removeNode_28 (by decide) ?_
  refine hG.aald dJ4_removeNode_30 (Or.inl hT1) (vp_in_nI hjl (by omega)) ?_
  rw [nI_clamp (by omega), hT2 _ hjl, hyh]
  refine hG.dup dJ4_removeNode_31 rfl ?_
  refine hG.astore dJ4_removeNode_32 (by decide) ?_
  refine hG.ifnull dJ4_removeNode_34 ?_
  refine hG.null dJ4_removeNode_37 ?_
  refine hG.astoreN dJ4_removeNode_38 (by decide) ?_
  refine hG.aload dJ4_removeNode_40 rfl ?_
  refine hG.get dJ4_removeNode_42 fg_J4_168_J31 (Or.inl hy1) rfl ?_
  refine hG.iload_n dJ4_removeNode_45 rfl ?_
  refine hG.icmp_ne (tgt := 81) dJ4_removeNode_46 rfl (fun c_46 => ?_) (fun c_46 => ?_)
  · first
    | exact hG.lsb [(0, .ref m), (1, .int (nI (hN x.2.1))), (2, .ref key), (4, .int 0), (6, .ref tb), (9, .int (nI (hN x.2.1 % cap))), (10, .null), (7, .ref y.1)] ⟨rfl, rfl, rfl, rfl, rfl, rfl, rfl, rfl, trivial⟩ (hno (fun e9 => c_46 (by rw [e9])))
    | exact hG.lsb [(0, .ref m), (1, .int (nI (hN x.2.1))), (2, .ref key), (4, .int 0), (6, .ref tb), (9, .int (nI (hN x.2.1 % cap))), (10, .null), (7, .ref y.1)] ⟨rfl, rfl, rfl, rfl, rfl, rfl, rfl, rfl, trivial⟩ (hno (fun e9 => (by simpa [b2i] using c_71 : ¬ x.2.1 = y.2.1) e9.symm))
  · refine hG.aload dJ4_removeNode_49 rfl ?_
    refine hG.get dJ4_removeNode_51 fg_J4_170_J31 (Or.inl hy1) rfl ?_
    refine hG.dup dJ4_removeNode_54 rfl ?_
    refine hG.astore dJ4_removeNode_55 (by decide) ?_
    refine hG.aload_n dJ4_removeNode_57 rfl ?_
    refine hG.acmp_eq (tgt := 74) dJ4_removeNode_58 rfl (fun c_58 => ?_) (fun c_58 => ?_)
    · first
      | (refine hG.uniq (Or.inr hy3) (Or.inr (by rw [c_58]; exact hkey)) cl_X9 rfl rfl (fun hgr => ?_)
         exact hG.lsb [(0, .ref m), (1, .int (nI (hN x.2.1))), (2, .ref key), (4, .int 0), (6, .ref tb), (9, .int (nI (hN x.2.1 % cap))), (10, .null), (7, .ref y.1)] ⟨rfl, rfl, rfl, rfl, rfl, rfl, rfl, rfl, trivial⟩ (hyes (grp_eq hy2 hc hgr)))
      | exact hG.lsb [(0, .ref m), (1, .int (nI (hN x.2.1))), (2, .ref key), (4, .int 0), (6, .ref tb), (9, .int (nI (hN x.2.1 % cap))), (10, .null), (7, .ref y.1)] ⟨rfl, rfl, rfl, rfl, rfl, rfl, rfl, rfl, trivial⟩ (hyes (by simpa [b2i] using c_71 : x.2.1 = y.2.1).symm)
    · refine hG.aload_n dJ4_removeNode_61 rfl ?_
      refine hG.ifnull dJ4_removeNode_62 ?_
      refine hG.aload_n dJ4_removeNode_65 rfl ?_
      refine hG.aload dJ4_removeNode_66 rfl ?_
      refine hG.callU dJ4_removeNode_68 ko_J4_173_X9 (Rcv.imm hkey cl_X9) (sp_X9_equals hΓ hc hy2 (Or.inr hkey) (Or.inr hy3)) rfl rfl (Nat.le_of_ble_eq_true rfl) (by decide) (by omega) (by omega) (fun r68 I68 L68 hI68 h68 => ?_) (fun _ _ _ _ _ h => h.elim)
      obtain ⟨rfl, rfl, rfl⟩ := h68
      refine hG.if_eq (tgt := 81) dJ4_removeNode_71 rfl (fun c_71 => ?_) (fun c_71 => ?_)
      · first
        | exact hG.lsb [(0, .ref m), (1, .int (nI (hN x.2.1))), (2, .ref key), (4, .int 0), (6, .ref tb), (9, .int (nI (hN x.2.1 % cap))), (10, .null), (7, .ref y.1)] ⟨rfl, rfl, rfl, rfl, rfl, rfl, rfl, rfl, trivial⟩ (hno (fun e9 => c_46 (by rw [e9])))
        | exact hG.lsb [(0, .ref m), (1, .int (nI (hN x.2.1))), (2, .ref key), (4, .int 0), (6, .ref tb), (9, .int (nI (hN x.2.1 % cap))), (10, .null), (7, .ref y.1)] ⟨rfl, rfl, rfl, rfl, rfl, rfl, rfl, rfl, trivial⟩ (hno (fun e9 => (by simpa [b2i] using c_71 : ¬ x.2.1 = y.2.1) e9.symm))
      · first
        | (refine hG.uniq (Or.inr hy3) (Or.inr (by rw [c_58]; exact hkey)) cl_X9 rfl rfl (fun hgr => ?_)
           exact hG.lsb [(0, .ref m), (1, .int (nI (hN x.2.1))), (2, .ref key), (4, .int 0), (6, .ref tb), (9, .int (nI (hN x.2.1 % cap))), (10, .null), (7, .ref y.1)] ⟨rfl, rfl, rfl, rfl, rfl, rfl, rfl, rfl, trivial⟩ (hyes (grp_eq hy2 hc hgr)))
        | exact hG.lsb [(0, .ref m), (1, .int (nI (hN x.2.1))), (2, .ref key), (4, .int 0), (6, .ref tb), (9, .int (nI (hN x.2.1 % cap))), (10, .null), (7, .ref y.1)] ⟨rfl, rfl, rfl, rfl, rfl, rfl, rfl, rfl, trivial⟩ (hyes (by simpa [b2i] using c_71 : x.2.1 = y.2.1).symm)
