/-! the map's changes: an entry made and linked, the table grown -/
abbrev entG (nx : Ent → Option Nat) (od : List Nat) (kr vr : Nat → Nat) (x : Ent) : List Value := [.int (nI (hN x.2.1)), .ref (kr x.1), .ref (vr x.1), va_rf (nx x), va_rf (prd od x.1), va_rf (suc od x.1)]
def EntG (I : AI) (S : AL) (es : List Ent) (nx : Ent → Option Nat) (od : List Nat) (kr vr : Nat → Nat) : Prop := ∀ x ∈ es, S x.1 = some (obC ciJ31 (entG nx od kr vr x)) ∧ x.2.1 < 147 ∧ I (kr x.1) (ob ciX9 (grp x.2.1)) ∧ I (vr x.1) (bxE x.2.2)
abbrev nxB (es : List Ent) (cap : Nat) : Ent → Option Nat := fun x => suc (bkt es cap (hN x.2.1 % cap)) x.1
theorem EntG.congr {I : AI} {S S' : AL} {es : List Ent} {nx nx' : Ent → Option Nat} {od od' : List Nat} {kr vr : Nat → Nat} (h : EntG I S es nx od kr vr) (hS : ∀ x ∈ es, S' x.1 = S x.1) (hn : ∀ x ∈ es, nx x = nx' x) (ho : ∀ x ∈ es, prd od x.1 = prd od' x.1 ∧ suc od x.1 = suc od' x.1) : EntG I S' es nx' od' kr vr := fun x hx => by
  obtain ⟨h1, h2⟩ := h x hx
  refine ⟨?_, h2⟩
  rw [hS x hx, h1]
  unfold entG
  rw [hn x hx, (ho x hx).1, (ho x hx).2]
/-- next set at one entry -/
theorem EntG.nxt {I : AI} {S : AL} {es : List Ent} {nx : Ent → Option Nat} {od : List Nat} {kr vr : Nat → Nat} (h : EntG I S es nx od kr vr) (hna : (ads es).Nodup) {x : Ent} (hx : x ∈ es) (v : Option Nat) : EntG I (up1 S x.1 (some (obC ciJ31 [.int (nI (hN x.2.1)), .ref (kr x.1), .ref (vr x.1), va_rf v, va_rf (prd od x.1), va_rf (suc od x.1)]))) es (fun y => if y.1 = x.1 then v else nx y) od kr vr := fun y hy => by
  obtain ⟨h1, h2⟩ := h y hy
  refine ⟨?_, h2⟩
  by_cases e : y.1 = x.1
  · cases ads_inj hna hy hx e
    rw [up1_s]
    unfold entG
    simp
  · rw [up1_n e, h1]
    unfold entG
    simp [e]
/-- what isn't of the map stays, and is none of its new cells -/
def Far (L : AL) (N N' : List Nat) (L' : AL) : Prop := ∀ z x, L z = some x → z ∉ N → z ∉ N' ∧ L' z = some x
theorem Frm.far {L0 L L' : AL} {a : Nat} {N N' : List Nat} (h : Frm L0 a N L) (hf : Far L N N' L') : Frm L0 a N' L' := fun q x hq hqa => by
  obtain ⟨h1, h2⟩ := h q x hq hqa
  exact hf q x h2 h1
theorem Far.rf {L : AL} {N : List Nat} : Far L N N L := fun _ _ hz hn => ⟨hn, hz⟩
theorem Far.tr {L L' L'' : AL} {N N' N'' : List Nat} (h : Far L N N' L') (h2 : Far L' N' N'' L'') : Far L N N'' L'' := fun z x hz hn => by
  obtain ⟨k1, k2⟩ := h z x hz hn
  exact h2 z x k2 k1
theorem Far.up {L L' : AL} {N N' : List Nat} (h : Far L N N' L') {b : Nat} (hb : b ∈ N') (c : Option Cel) : Far L N N' (up1 L' b c) := fun z x hz hn => by
  obtain ⟨k1, k2⟩ := h z x hz hn
  have : z ≠ b := fun e => k1 (e ▸ hb)
  exact ⟨k1, by rw [up1_n this]; exact k2⟩
theorem Far.new {L L' : AL} {N N' : List Nat} (h : Far L N N' L') {b : Nat} (hb : L' b = none) (c : Option Cel) : Far L N (b :: N') (up1 L' b c) := fun z x hz hn => by
  obtain ⟨k1, k2⟩ := h z x hz hn
  have hzb : z ≠ b := fun e => by subst e; rw [hb] at k2; cases k2
  exact ⟨fun hm => by rcases List.mem_cons.mp hm with e | e; exact hzb e; exact k1 e, by rw [up1_n hzb]; exact k2⟩
theorem Far.wk {L L' : AL} {N N' N'' : List Nat} (h : Far L N N' L') (hs : ∀ q ∈ N'', q ∈ N') : Far L N N'' L' := fun z x hz hn => ⟨fun hm => (h z x hz hn).1 (hs z hm), (h z x hz hn).2⟩
theorem fp_J30_7_J31 : LkP RJ30 "<init>" 7 ciJ31 0 (tyJ31 0) := ⟨RJ31, TJ31, 6, tyJ31, _, cls_J31, by decide, rfl, Or.inl rfl, Or.inr (Or.inr ⟨rfl, rfl, rfl, q1422⟩)⟩
theorem fp_J30_13_J31 : LkP RJ30 "<init>" 13 ciJ31 1 (tyJ31 1) := ⟨RJ31, TJ31, 6, tyJ31, _, cls_J31, by decide, rfl, Or.inl rfl, Or.inr (Or.inr ⟨rfl, rfl, rfl, q1429⟩)⟩
theorem fp_J30_17_J31 {nm : String} : LkP RJ30 nm 17 ciJ31 2 (tyJ31 2) := ⟨RJ31, TJ31, 6, tyJ31, _, cls_J31, by decide, rfl, Or.inl rfl, Or.inl ⟨rfl, q1436⟩⟩
theorem fp_J30_20_J31 {nm : String} : LkP RJ30 nm 20 ciJ31 3 (tyJ31 3) := ⟨RJ31, TJ31, 6, tyJ31, _, cls_J31, by decide, rfl, Or.inl rfl, Or.inl ⟨rfl, q1441⟩⟩
set_option maxHeartbeats 4000000 in
set_option maxRecDepth 100000 in
theorem sp_J30_init {l : Launch} {s0 : State} {D : va_G} {I : AI} {L : AL} (hΓ : Gam l s0 D) {q key val : Nat} {h : Int32} {b1 b2 x1 x2 x3 x4 : Value} (h0 : L q = some (obC ciJ31 [x1, x2, x3, x4, b1, b2])) : Spc l s0 D yJ30_init 2 [.ref q, .int h, .ref key, .ref val, .null] I L 0 0 (pU I L q (obC ciJ31 [.int h, .ref key, .ref val, .null, b1, b2])) noX := by
  refine Spc.of hΓ cJ30_init 5 none q1416 (by decide +kernel) (by decide) (Nat.le_of_ble_eq_true rfl) (fun G GX hG => ?_)
  refine hG.aload_n dJ30_init_0 rfl ?_
  refine hG.objI dJ30_init_1 q1417 (Nat.le_of_ble_eq_true rfl) (by decide) ?_
  refine hG.aload_n dJ30_init_4 rfl ?_
  refine hG.iload_n dJ30_init_5 rfl ?_
  refine hG.put dJ30_init_6 fp_J30_7_J31 h0 rfl rfl (Nat.le_of_ble_eq_true rfl) ?_
  refine hG.aload_n dJ30_init_9 rfl ?_
  refine hG.aload_n dJ30_init_10 rfl ?_
  refine hG.put dJ30_init_11 fp_J30_13_J31 up1_s rfl rfl (Nat.le_of_ble_eq_true rfl) ?_
  refine hG.aload_n dJ30_init_14 rfl ?_
  refine hG.aload_n dJ30_init_15 rfl ?_
  refine hG.put dJ30_init_16 fp_J30_17_J31 up1_s rfl rfl (Nat.le_of_ble_eq_true rfl) ?_
  refine hG.aload_n dJ30_init_19 rfl ?_
  refine hG.aloadN dJ30_init_20 rfl ?_
  refine hG.put dJ30_init_22 fp_J30_20_J31 up1_s rfl rfl (Nat.le_of_ble_eq_true rfl) ?_
  refine hG.vret dJ30_init_25 rfl ?_ (by omega) (by omega) trivial
  exact ⟨rfl, rfl, by simp only [up1_up1]; rfl⟩
theorem ki_J31_1 : LkI RJ31 1 yJ30_init 4 := ⟨q1414, q1415, q111, rfl, ⟨by decide +kernel, by decide +kernel, by decide +kernel⟩, by decide +kernel⟩
set_option maxHeartbeats 4000000 in
set_option maxRecDepth 100000 in
theorem sp_J31_init {l : Launch} {s0 : State} {D : va_G} {I : AI} {L : AL} (hΓ : Gam l s0 D) {q key val : Nat} {h : Int32} {b1 b2 x1 x2 x3 x4 : Value} (h0 : L q = some (obC ciJ31 [x1, x2, x3, x4, b1, b2])) : Spc l s0 D yJ31_init 3 [.ref q, .int h, .ref key, .ref val, .null] I L 0 0 (pU I L q (obC ciJ31 [.int h, .ref key, .ref val, .null, b1, b2])) noX := by
  refine Spc.of hΓ cJ31_init 5 none q1413 (by decide +kernel) (by decide) (Nat.le_of_ble_eq_true rfl) (fun G GX hG => ?_)
  refine hG.aload_n dJ31_init_0 rfl ?_
  refine hG.iload_n dJ31_init_1 rfl ?_
  refine hG.aload_n dJ31_init_2 rfl ?_
  refine hG.aload_n dJ31_init_3 rfl ?_
  refine hG.aloadN dJ31_init_4 rfl ?_
  refine hG.callI dJ31_init_6 ki_J31_1 (sp_J30_init hΓ h0) rfl rfl (Nat.le_of_ble_eq_true rfl) (by decide) (by omega) (by omega) (fun r6 I6 L6 hI6 h6 => ?_) (fun _ _ _ _ _ h => h.elim)
  obtain ⟨rfl, rfl, rfl⟩ := h6
  refine hG.vret dJ31_init_9 rfl ?_ (by omega) (by omega) trivial
  exact ⟨rfl, rfl, rfl⟩
theorem fg_J5_1_J5 : LkG RJ5 1 ciJ5 11 := ⟨RJ5, TJ5, 12, tyJ5, _, cls_J5, by decide, Or.inl rfl, Or.inl q211⟩
theorem fg_J5_11_J5 : LkG RJ5 11 ciJ5 9 := ⟨RJ5, TJ5, 12, tyJ5, _, cls_J5, by decide, Or.inl rfl, Or.inl q209⟩
theorem fp_J5_11_J5 {nm : String} : LkP RJ5 nm 11 ciJ5 9 (tyJ5 9) := ⟨RJ5, TJ5, 12, tyJ5, _, cls_J5, by decide, rfl, Or.inl rfl, Or.inl ⟨rfl, q209⟩⟩
theorem fp_J5_7_J5 {nm : String} : LkP RJ5 nm 7 ciJ5 8 (tyJ5 8) := ⟨RJ5, TJ5, 12, tyJ5, _, cls_J5, by decide, rfl, Or.inl rfl, Or.inl ⟨rfl, q206⟩⟩
set_option maxHeartbeats 4000000 in
set_option maxRecDepth 100000 in
theorem sp_J5_linkE {l : Launch} {s0 : State} {D : va_G} {I : AI} {L : AL} (hΓ : Gam l s0 D) {m q : Nat} {a1 a2 a3 a4 a5 a6 a7 a8 a11 : Value} (h0 : L m = some (obC ciJ5 [a1, a2, a3, a4, a5, a6, a7, a8, .null, .null, a11, .int 0])) : Spc l s0 D yJ5_linkNodeAtEnd 1 [.ref m, .ref q] I L 0 0 (pU I L m (obC ciJ5 [a1, a2, a3, a4, a5, a6, a7, a8, .ref q, .ref q, a11, .int 0])) noX := by
  refine Spc.of hΓ cJ5_linkNodeAtEnd 3 none q1546 (by decide +kernel) (by decide) (Nat.le_of_ble_eq_true rfl) (fun G GX hG => ?_)
  refine hG.aload_n dJ5_linkNodeAtEnd_0 rfl ?_
  refine hG.get dJ5_linkNodeAtEnd_1 fg_J5_1_J5 (Or.inl h0) rfl ?_
  refine hG.iconst (v := 1) dJ5_linkNodeAtEnd_4 rfl ?_
  refine hG.icmp_ne (tgt := 43) dJ5_linkNodeAtEnd_5 rfl (fun c_5 => ?_) (fun c_5 => absurd c_5 (by decide))
  refine hG.aload_n dJ5_linkNodeAtEnd_43 rfl ?_
  refine hG.get dJ5_linkNodeAtEnd_44 fg_J5_11_J5 (Or.inl h0) rfl ?_
  refine hG.astore_nN dJ5_linkNodeAtEnd_47 (by decide) ?_
  refine hG.aload_n dJ5_linkNodeAtEnd_48 rfl ?_
  refine hG.aload_n dJ5_linkNodeAtEnd_49 rfl ?_
  refine hG.put dJ5_linkNodeAtEnd_50 fp_J5_11_J5 h0 rfl rfl (Nat.le_of_ble_eq_true rfl) ?_
  refine hG.aload_nN dJ5_linkNodeAtEnd_53 rfl ?_
  refine hG.ifnonnullN dJ5_linkNodeAtEnd_54 ?_
  refine hG.aload_n dJ5_linkNodeAtEnd_57 rfl ?_
  refine hG.aload_n dJ5_linkNodeAtEnd_58 rfl ?_
  refine hG.put dJ5_linkNodeAtEnd_59 fp_J5_7_J5 up1_s rfl rfl (Nat.le_of_ble_eq_true rfl) ?_
  refine hG.goto (tgt := 75) dJ5_linkNodeAtEnd_62 rfl ?_
  refine hG.vret dJ5_linkNodeAtEnd_75 rfl ?_ (by omega) (by omega) trivial
  exact ⟨rfl, rfl, by simp only [up1_up1]; rfl⟩
theorem fp_J5_19_J31 {nm : String} : LkP RJ5 nm 19 ciJ31 4 (tyJ31 4) := ⟨RJ31, TJ31, 6, tyJ31, _, cls_J31, by decide, rfl, Or.inl rfl, Or.inl ⟨rfl, q1418⟩⟩
theorem fp_J5_14_J31 {nm : String} : LkP RJ5 nm 14 ciJ31 5 (tyJ31 5) := ⟨RJ31, TJ31, 6, tyJ31, _, cls_J31, by decide, rfl, Or.inl rfl, Or.inl ⟨rfl, q1420⟩⟩
set_option maxHeartbeats 4000000 in
set_option maxRecDepth 100000 in
theorem sp_J5_linkN {l : Launch} {s0 : State} {D : va_G} {I : AI} {L : AL} (hΓ : Gam l s0 D) {m q t : Nat} {a1 a2 a3 a4 a5 a6 a7 a8 a11 hd x1 x2 x3 x4 y1 y2 y3 y4 y5 : Value} (hmq : m ≠ q) (hmt : m ≠ t) (hqt : q ≠ t) (h0 : L m = some (obC ciJ5 [a1, a2, a3, a4, a5, a6, a7, a8, hd, .ref t, a11, .int 0])) (h1 : L q = some (obC ciJ31 [x1, x2, x3, x4, .null, .null])) (h2 : L t = some (obC ciJ31 [y1, y2, y3, y4, y5, .null])) : Spc l s0 D yJ5_linkNodeAtEnd 1 [.ref m, .ref q] I L 0 0 (fun r I' L' => r = none ∧ I = I' ∧ L' = up1 (up1 (up1 L m (some (obC ciJ5 [a1, a2, a3, a4, a5, a6, a7, a8, hd, .ref q, a11, .int 0]))) q (some (obC ciJ31 [x1, x2, x3, x4, .ref t, .null]))) t (some (obC ciJ31 [y1, y2, y3, y4, y5, .ref q]))) noX := by
  refine Spc.of hΓ cJ5_linkNodeAtEnd 3 none q1546 (by decide +kernel) (by decide) (Nat.le_of_ble_eq_true rfl) (fun G GX hG => ?_)
  refine hG.aload_n dJ5_linkNodeAtEnd_0 rfl ?_
  refine hG.get dJ5_linkNodeAtEnd_1 fg_J5_1_J5 (Or.inl h0) rfl ?_
  refine hG.iconst (v := 1) dJ5_linkNodeAtEnd_4 rfl ?_
  refine hG.icmp_ne (tgt := 43) dJ5_linkNodeAtEnd_5 rfl (fun c_5 => ?_) (fun c_5 => absurd c_5 (by decide))
  refine hG.aload_n dJ5_linkNodeAtEnd_43 rfl ?_
  refine hG.get dJ5_linkNodeAtEnd_44 fg_J5_11_J5 (Or.inl h0) rfl ?_
  refine hG.astore_n dJ5_linkNodeAtEnd_47 (by decide) ?_
  refine hG.aload_n dJ5_linkNodeAtEnd_48 rfl ?_
  refine hG.aload_n dJ5_linkNodeAtEnd_49 rfl ?_
  refine hG.put dJ5_linkNodeAtEnd_50 fp_J5_11_J5 h0 rfl rfl (Nat.le_of_ble_eq_true rfl) ?_
  refine hG.aload_n dJ5_linkNodeAtEnd_53 rfl ?_
  refine hG.ifnonnull (tgt := 65) dJ5_linkNodeAtEnd_54 rfl ?_
  refine hG.aload_n dJ5_linkNodeAtEnd_65 rfl ?_
  refine hG.aload_n dJ5_linkNodeAtEnd_66 rfl ?_
  refine hG.put dJ5_linkNodeAtEnd_67 fp_J5_19_J31 ((up1_n hmq.symm).trans h1) rfl rfl (Nat.le_of_ble_eq_true rfl) ?_
  refine hG.aload_n dJ5_linkNodeAtEnd_70 rfl ?_
  refine hG.aload_n dJ5_linkNodeAtEnd_71 rfl ?_
  refine hG.put dJ5_linkNodeAtEnd_72 fp_J5_14_J31 ((up1_n hqt.symm).trans ((up1_n hmt.symm).trans h2)) rfl rfl (Nat.le_of_ble_eq_true rfl) ?_
  refine hG.vret dJ5_linkNodeAtEnd_75 rfl ?_ (by omega) (by omega) trivial
  exact ⟨rfl, rfl, rfl⟩
theorem nw_J5_15 : LkN RJ5 15 ciJ31 [.int 0, .null, .null, .null, .null, .null] 6 := ⟨RJ31, TJ31, tyJ31, cls_J31, q1383, q1410, q112, rfl, fun j hj => by
  match j, hj with
  | 0, _ => rfl
  | 1, _ => rfl
  | 2, _ => rfl
  | 3, _ => rfl
  | 4, _ => rfl
  | 5, _ => rfl
  | _ + 6, h => exact absurd h (by omega)⟩
theorem ki_J5_28 : LkI RJ5 28 yJ31_init 4 := ⟨q1411, q1412, q112, rfl, ⟨by decide +kernel, by decide +kernel, by decide +kernel⟩, by decide +kernel⟩
theorem kv_J5_32 : LkV RJ5 32 yJ5_linkNodeAtEnd 1 := ⟨q1543, q1545, qs7, q81, by decide +kernel, by decide +kernel, by decide +kernel⟩
set_option maxHeartbeats 4000000 in
set_option maxRecDepth 100000 in
theorem sp_J5_newNode {l : Launch} {s0 : State} {D : va_G} {I : AI} {L : AL} {m key val c : Nat} {es : List Ent} {nx : Ent → Option Nat} {kr vr : Nat → Nat} {a1 a2 a3 a4 a5 a6 a7 a8 a11 : Value} (hΓ : Gam l s0 D) (h0 : L m = some (obC ciJ5 [a1, a2, a3, a4, a5, a6, a7, a8, va_rf (ads es).head?, va_rf (ads es).getLast?, a11, .int 0])) (hna : (ads es).Nodup) (hme : m ∉ ads es) (hE : EntG I L es nx (ads es) kr vr) (hc : c < 147) : Spc l s0 D yJ5_newNode 4 [.ref m, .int (nI (hN c)), .ref key, .ref val, .null] I L 1 6 (fun r I' L' => I = I' ∧ ∃ q, L q = none ∧ q ≠ m ∧ q ∉ ads es ∧ r = some (.ref q) ∧ L' m = some (obC ciJ5 [a1, a2, a3, a4, a5, a6, a7, a8, va_rf (ads es ++ [q]).head?, va_rf (ads es ++ [q]).getLast?, a11, .int 0]) ∧ L' q = some (obC ciJ31 [.int (nI (hN c)), .ref key, .ref val, .null, va_rf (prd (ads es ++ [q]) q), va_rf (suc (ads es ++ [q]) q)]) ∧ EntG I L' es nx (ads es ++ [q]) kr vr ∧ ∀ z, z ≠ m → z ≠ q → z ∉ ads es → L' z = L z) noX := by
  refine Spc.of hΓ cJ5_newNode 6 (some (FieldType.object "java/util/HashMap$Node")) q1542 (by decide +kernel) (by decide) (Nat.le_of_ble_eq_true rfl) (fun G GX hG => ?_)
  rcases List.eq_nil_or_concat es with rfl | ⟨el, y, rfl⟩
  · refine hG.new dJ5_newNode_0 nw_J5_15 (by omega) (by omega) (fun q hLq hIq => ?_)
    have hqm : q ≠ m := fun e => by subst e; rw [hLq] at h0; cases h0
    refine hG.dup dJ5_newNode_3 rfl ?_
    refine hG.iload_n dJ5_newNode_4 rfl ?_
    refine hG.aload_n dJ5_newNode_5 rfl ?_
    refine hG.aload_n dJ5_newNode_6 rfl ?_
    refine hG.aloadN dJ5_newNode_7 rfl ?_
    refine hG.callI dJ5_newNode_9 ki_J5_28 (sp_J31_init hΓ up1_s) rfl rfl (Nat.le_of_ble_eq_true rfl) (by decide) (by omega) (by omega) (fun r9 I9 L9 hI9 h9 => ?_) (fun _ _ _ _ _ h => h.elim)
    obtain ⟨rfl, rfl, rfl⟩ := h9
    refine hG.astore dJ5_newNode_12 (by decide) ?_
    refine hG.aload_n dJ5_newNode_14 rfl ?_
    refine hG.aload dJ5_newNode_15 rfl ?_
    refine hG.callV dJ5_newNode_17 kv_J5_32 (Rcv.raw ((up1_n hqm.symm).trans ((up1_n hqm.symm).trans h0)) cl_J5) (sp_J5_linkE hΓ ((up1_n hqm.symm).trans ((up1_n hqm.symm).trans h0))) rfl rfl (Nat.le_of_ble_eq_true rfl) (by decide) (by omega) (by omega) (fun r17 I17 L17 hI17 h17 => ?_) (fun _ _ _ _ _ h => h.elim)
    obtain ⟨rfl, rfl, rfl⟩ := h17
    refine hG.aload dJ5_newNode_20 rfl ?_
    refine hG.aret dJ5_newNode_22 rfl (by first | exact Or.inl ⟨_, rfl⟩ | exact Or.inr ⟨_, rfl⟩) (by first | exact Or.inr ⟨_, rfl⟩ | exact Or.inl rfl) ?_ (by omega) (by omega) trivial
    refine ⟨rfl, q, hLq, hqm, by simp, rfl, up1_s, (by rw [up1_n hqm, up1_s, show prd (ads [] ++ [q]) q = none from prd_new, show suc (ads [] ++ [q]) q = none from suc_new (by simp)]; rfl), fun x hx => (nomatch hx), fun z h1 h2 _ => ?_⟩
    rw [up1_n h1, up1_n h2, up1_n h2]
  · have ea : ads (el ++ [y]) = ads el ++ [y.1] := by simp [ads]
    rw [List.concat_eq_append] at *
    obtain ⟨hy1, hy2, hy3, hy4⟩ := hE y (by simp)
    have hlast : (ads (el ++ [y])).getLast? = some y.1 := by rw [ea]; simp
    have hysuc : suc (ads (el ++ [y])) y.1 = none := (suc_last hna (by rw [ea]; simp)).mpr hlast
    have hym : m ≠ y.1 := fun e => hme (by rw [e, ea]; simp)
    unfold entG at hy1
    rw [hysuc] at hy1
    rw [hlast] at h0
    refine hG.new dJ5_newNode_0 nw_J5_15 (by omega) (by omega) (fun q hLq hIq => ?_)
    have hqm : q ≠ m := fun e => by subst e; rw [hLq] at h0; cases h0
    have hqa : q ∉ ads (el ++ [y]) := fun hm => by
      obtain ⟨x, hx, e⟩ := List.mem_map.mp hm
      have := (hE x hx).1
      rw [e, hLq] at this
      cases this
    have hqy : q ≠ y.1 := fun e => hqa (by rw [e, ea]; simp)
    refine hG.dup dJ5_newNode_3 rfl ?_
    refine hG.iload_n dJ5_newNode_4 rfl ?_
    refine hG.aload_n dJ5_newNode_5 rfl ?_
    refine hG.aload_n dJ5_newNode_6 rfl ?_
    refine hG.aloadN dJ5_newNode_7 rfl ?_
    refine hG.callI dJ5_newNode_9 ki_J5_28 (sp_J31_init hΓ up1_s) rfl rfl (Nat.le_of_ble_eq_true rfl) (by decide) (by omega) (by omega) (fun r9 I9 L9 hI9 h9 => ?_) (fun _ _ _ _ _ h => h.elim)
    obtain ⟨rfl, rfl, rfl⟩ := h9
    refine hG.astore dJ5_newNode_12 (by decide) ?_
    refine hG.aload_n dJ5_newNode_14 rfl ?_
    refine hG.aload dJ5_newNode_15 rfl ?_
    refine hG.callV dJ5_newNode_17 kv_J5_32 (Rcv.raw ((up1_n hqm.symm).trans ((up1_n hqm.symm).trans h0)) cl_J5) (sp_J5_linkN hΓ hqm.symm hym hqy ((up1_n hqm.symm).trans ((up1_n hqm.symm).trans h0)) up1_s ((up1_n hqy.symm).trans ((up1_n hqy.symm).trans hy1))) rfl rfl (Nat.le_of_ble_eq_true rfl) (by decide) (by omega) (by omega) (fun r17 I17 L17 hI17 h17 => ?_) (fun _ _ _ _ _ h => h.elim)
    obtain ⟨rfl, rfl, rfl⟩ := h17
    refine hG.aload dJ5_newNode_20 rfl ?_
    refine hG.aret dJ5_newNode_22 rfl (by first | exact Or.inl ⟨_, rfl⟩ | exact Or.inr ⟨_, rfl⟩) (by first | exact Or.inr ⟨_, rfl⟩ | exact Or.inl rfl) ?_ (by omega) (by omega) trivial
    refine ⟨rfl, q, hLq, hqm, hqa, rfl, ?_, ?_, fun x hx => ?_, fun z h1 h2 h3 => ?_⟩
    · rw [up1_n hym, up1_n hqm.symm, up1_s]
      have e1 : (ads (el ++ [y]) ++ [q]).head? = (ads (el ++ [y])).head? := by rw [ea]; cases ads el <;> rfl
      rw [e1, show (ads (el ++ [y]) ++ [q]).getLast? = some q by simp]
      rfl
    · rw [up1_n hqy, up1_s, prd_new, suc_new hqa, hlast]
      rfl
    · obtain ⟨hx1, hx2⟩ := hE x hx
      have hxm : x.1 ≠ m := fun e => hme (List.mem_map.mpr ⟨x, hx, e⟩)
      have hxa : x.1 ∈ ads (el ++ [y]) := List.mem_map.mpr ⟨x, hx, rfl⟩
      have hxq : x.1 ≠ q := fun e => hqa (e ▸ hxa)
      refine ⟨?_, hx2⟩
      unfold entG
      rw [prd_app hna hxa hxq, suc_app hna hxa]
      by_cases e : x.1 = y.1
      · cases ads_inj hna hx (by simp) e
        rw [up1_s, hysuc, if_pos rfl]
        rfl
      · rw [up1_n e, up1_n hxq, up1_n hxm, up1_n hxq, up1_n hxq, hx1, if_neg (fun h => e (Option.some.inj (((suc_last hna hxa).mp h).symm.trans hlast)))]
    · have hzy : z ≠ y.1 := fun e => h3 (by rw [e, ea]; simp)
      rw [up1_n hzy, up1_n h2, up1_n h1, up1_n h2, up1_n h2]
