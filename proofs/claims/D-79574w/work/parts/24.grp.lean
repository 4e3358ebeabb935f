/-! groups, boxes -/
theorem up1_back {L : AL} {q : Nat} {x : Option Cel} (h : L q = none) : up1 (up1 L q x) q none = L := by
  rw [up1_up1, ← h]
  exact up1_self
section GRP
variable {l : Launch} {s0 : State} {D : va_G} {own nm : String} {cc : ByteArray} {nL : Nat} {ret : Option FieldType} {tab : List ExceptionTableEntry} {d mc ms : Nat} {Ib : AI} {post : Option Value → AI → AL → Prop} {xp : String → Nat → AI → AL → Prop} {md : Prop} {G : Gt} {GX : GXt}
variable {pc : Nat} {ls : List (Nat × Value)} {st : List Value} {I : AI} {L : AL} {k n : Nat}
/-- a frozen object has one content -/
theorem IsG.uniq (hG : IsG l s0 D own nm cc nL ret tab d mc ms Ib post xp md G GX) {q ci N : Nat} {f1 f2 : List Value} {C : String} {T : u_T} (h1 : Rd I L q (ob ci f1)) (h2 : Rd I L q (ob ci f2)) (hc : CL[ci]? = some (C, T, N)) (l1 : f1.length = N) (l2 : f2.length = N) (kk : f1 = f2 → G pc ls st I L k n) : G pc ls st I L k n := by
  obtain ⟨p, e, s, m, args, below, meth, c, R, Q, hΓ, hx, hb, hr, hml, hown, hts, hlk, hnm, hW, htab, hF, hR, hmd, rfl, rfl⟩ := hG
  intro H locs lsA hl hS hV hI
  refine kk ?_ H locs lsA hl hS hV hI
  obtain ⟨w1, t1, v1, p1, hp1, hv1, hP1, -⟩ := hS.rd h1
  obtain ⟨w2, t2, v2, p2, hp2, hv2, hP2, -⟩ := hS.rd h2
  have hv1 : v1 = .inr (ci, f1) := hv1
  have hv2 : v2 = .inr (ci, f2) := hv2
  subst hv1; subst hv2
  obtain ⟨r1, a1, c1, b1, -, -, b4⟩ := hP1 p1 _ hp1
  obtain ⟨r2, a2, c2, d1, -, -, d4⟩ := hP2 p2 _ hp2
  cases Option.some.inj (a1.symm.trans hc)
  cases Option.some.inj (a2.symm.trans hc)
  cases Option.some.inj (b1.symm.trans d1)
  refine List.ext_getElem? fun i => ?_
  by_cases hi : i < N
  · have e1 : f1.getD i .null = f2.getD i .null := Option.some.inj ((b4 i hi).symm.trans (d4 i hi))
    have h1 : i < f1.length := by omega
    have h2 : i < f2.length := by omega
    rw [List.getD_eq_getElem?_getD, List.getD_eq_getElem?_getD, List.getElem?_eq_getElem h1, List.getElem?_eq_getElem h2] at e1
    rw [List.getElem?_eq_getElem h1, List.getElem?_eq_getElem h2]
    exact congrArg some e1
  · rw [List.getElem?_eq_none (by omega), List.getElem?_eq_none (by omega)]
end GRP
theorem grp_eq {c e : Nat} (hc : c < 147) (he : e < 147) (h : grp c = grp e) : c = e := by
  have h1 := (Value.int.inj (List.cons.inj h).1)
  have h2 := (Value.int.inj (List.cons.inj (List.cons.inj h).2).1)
  have h3 := (Value.int.inj (List.cons.inj (List.cons.inj (List.cons.inj h).2).2).1)
  exact code_eq ((nI_eq (by omega) (by omega)).mp h1) ((nI_eq (by omega) (by omega)).mp h2) ((nI_eq (by omega) (by omega)).mp h3)
theorem grp_hash {c : Nat} : (100 : Int32) * nI (c / 49) + 10 * nI (c / 7 % 7) + nI (c % 7) = nI (hN c) := by
  rw [show (100 : Int32) = nI 100 from rfl, show (10 : Int32) = nI 10 from rfl, pk_mul, pk_mul, nI_add, nI_add]
  rfl
/-- the cache of small boxes -/
def StI (s0 : State) (D : va_G) (ca : Nat) (ad : Nat → Nat) : Prop := va_Z "java/lang/Integer$IntegerCache" "high" "I" (.int 127) (Are s0) s0 s0.heap ∧ va_Z "java/lang/Integer$IntegerCache" "cache" "[Ljava/lang/Integer;" (.ref ca) (Are s0) s0 s0.heap ∧ Sta s0 D ca (arQ "java/lang/Integer" 256 (fun j => some (ad j))) ∧ ∀ j, j < 256 → Sta s0 D (ad j) (ob ciJ25 [.int (nI j - 128)])
abbrev bxE (v : Int32) : E1 := ob ciJ25 [.int v]
/-- a reference to a box of v -/
abbrev pBx (v : Int32) (L : AL) : Option Value → AI → AL → Prop := fun r I' L' => L = L' ∧ ∃ q, r = some (.ref q) ∧ I' q (bxE v)
theorem fg_X9_7_X9 : LkG RX9 7 ciX9 0 := ⟨RX9, TX9, 3, tyX9, _, cls_X9, by decide, Or.inl rfl, Or.inl q1763⟩
theorem fg_X9_13_X9 : LkG RX9 13 ciX9 1 := ⟨RX9, TX9, 3, tyX9, _, cls_X9, by decide, Or.inl rfl, Or.inl q1766⟩
theorem fg_X9_16_X9 : LkG RX9 16 ciX9 2 := ⟨RX9, TX9, 3, tyX9, _, cls_X9, by decide, Or.inl rfl, Or.inl q1769⟩
set_option maxHeartbeats 4000000 in
set_option maxRecDepth 100000 in
theorem sp_X9_hashCode {l : Launch} {s0 : State} {D : va_G} {I : AI} {L : AL} (hΓ : Gam l s0 D) {a c : Nat} (h0 : Rd I L a (ob ciX9 (grp c))) : Spc l s0 D yX9_hashCode 1 [.ref a] I L 0 0 (pV (.int (nI (hN c))) I L) noX := by
  refine Spc.of hΓ cX9_hashCode 1 (some FieldType.int) q799 (by decide +kernel) (by decide) (Nat.le_of_ble_eq_true rfl) (fun G GX hG => ?_)
  refine hG.bipush (v := 100) dX9_hashCode_0 rfl ?_
  refine hG.aload_n dX9_hashCode_2 rfl ?_
  refine hG.get dX9_hashCode_3 fg_X9_7_X9 h0 rfl ?_
  refine hG.imul dX9_hashCode_6 ?_
  refine hG.bipush (v := 10) dX9_hashCode_7 rfl ?_
  refine hG.aload_n dX9_hashCode_9 rfl ?_
  refine hG.get dX9_hashCode_10 fg_X9_13_X9 h0 rfl ?_
  refine hG.imul dX9_hashCode_13 ?_
  refine hG.iadd dX9_hashCode_14 ?_
  refine hG.aload_n dX9_hashCode_15 rfl ?_
  refine hG.get dX9_hashCode_16 fg_X9_16_X9 h0 rfl ?_
  refine hG.iadd dX9_hashCode_19 ?_
  refine hG.iret dX9_hashCode_20 rfl ?_ (by omega) (by omega) trivial
  exact ⟨by rw [grp_hash], rfl, rfl⟩
set_option maxHeartbeats 4000000 in
set_option maxRecDepth 100000 in
theorem sp_X9_equals {l : Launch} {s0 : State} {D : va_G} {I : AI} {L : AL} (hΓ : Gam l s0 D) {a b c e : Nat} (hc : c < 147) (he : e < 147) (h0 : Rd I L a (ob ciX9 (grp c))) (h1 : Rd I L b (ob ciX9 (grp e))) : Spc l s0 D yX9_equals 1 [.ref a, .ref b] I L 0 0 (pV (.int (b2i (decide (c = e)))) I L) noX := by
  refine Spc.of hΓ cX9_equals 3 (some FieldType.boolean) q1124 (by decide +kernel) (by decide) (Nat.le_of_ble_eq_true rfl) (fun G GX hG => ?_)
  refine hG.aload_n dX9_equals_0 rfl ?_
  refine hG.instS dX9_equals_1 q1125 (Rd.rcv h1 cl_X9) cl_X9 ?_
  refine hG.if_eq (tgt := 49) dX9_equals_4 rfl (fun c_4 => absurd c_4 (by decide)) (fun c_4 => ?_)
  refine hG.aload_n dX9_equals_7 rfl ?_
  refine hG.castS dX9_equals_8 q1125 (Rd.rcv h1 cl_X9) cl_X9 ?_
  refine hG.astore_n dX9_equals_11 (by decide) ?_
  refine hG.aload_n dX9_equals_12 rfl ?_
  refine hG.get dX9_equals_13 fg_X9_7_X9 h0 rfl ?_
  refine hG.aload_n dX9_equals_16 rfl ?_
  refine hG.get dX9_equals_17 fg_X9_7_X9 h1 rfl ?_
  refine hG.icmp_ne (tgt := 49) dX9_equals_20 rfl (fun c_20 => ?_) (fun c_20 => ?_)
  · refine hG.iconst (v := 0) dX9_equals_49 rfl ?_
    refine hG.zret dX9_equals_50 rfl rfl ?_ (by omega) (by omega) trivial
    first
    | exact ⟨by rw [show decide (c = e) = true by simpa using code_eq ((nI_eq (by omega) (by omega)).mp c_20) ((nI_eq (by omega) (by omega)).mp c_31) ((nI_eq (by omega) (by omega)).mp c_42)]; rfl, rfl, rfl⟩
    | (have hne : c ≠ e := fun q => by subst q; first | exact c_20 rfl | exact c_31 rfl | exact c_42 rfl
       exact ⟨by rw [show decide (c = e) = false by simpa using hne]; rfl, rfl, rfl⟩)
  · refine hG.aload_n dX9_equals_23 rfl ?_
    refine hG.get dX9_equals_24 fg_X9_13_X9 h0 rfl ?_
    refine hG.aload_n dX9_equals_27 rfl ?_
    refine hG.get dX9_equals_28 fg_X9_13_X9 h1 rfl ?_
    refine hG.icmp_ne (tgt := 49) dX9_equals_31 rfl (fun c_31 => ?_) (fun c_31 => ?_)
    · refine hG.iconst (v := 0) dX9_equals_49 rfl ?_
      refine hG.zret dX9_equals_50 rfl rfl ?_ (by omega) (by omega) trivial
      first
      | exact ⟨by rw [show decide (c = e) = true by simpa using code_eq ((nI_eq (by omega) (by omega)).mp c_20) ((nI_eq (by omega) (by omega)).mp c_31) ((nI_eq (by omega) (by omega)).mp c_42)]; rfl, rfl, rfl⟩
      | (have hne : c ≠ e := fun q => by subst q; first | exact c_20 rfl | exact c_31 rfl | exact c_42 rfl
         exact ⟨by rw [show decide (c = e) = false by simpa using hne]; rfl, rfl, rfl⟩)
    · refine hG.aload_n dX9_equals_34 rfl ?_
      refine hG.get dX9_equals_35 fg_X9_16_X9 h0 rfl ?_
      refine hG.aload_n dX9_equals_38 rfl ?_
      refine hG.get dX9_equals_39 fg_X9_16_X9 h1 rfl ?_
      refine hG.icmp_ne (tgt := 49) dX9_equals_42 rfl (fun c_42 => ?_) (fun c_42 => ?_)
      · refine hG.iconst (v := 0) dX9_equals_49 rfl ?_
        refine hG.zret dX9_equals_50 rfl rfl ?_ (by omega) (by omega) trivial
        first
        | exact ⟨by rw [show decide (c = e) = true by simpa using code_eq ((nI_eq (by omega) (by omega)).mp c_20) ((nI_eq (by omega) (by omega)).mp c_31) ((nI_eq (by omega) (by omega)).mp c_42)]; rfl, rfl, rfl⟩
        | (have hne : c ≠ e := fun q => by subst q; first | exact c_20 rfl | exact c_31 rfl | exact c_42 rfl
           exact ⟨by rw [show decide (c = e) = false by simpa using hne]; rfl, rfl, rfl⟩)
      · refine hG.iconst (v := 1) dX9_equals_45 rfl ?_
        refine hG.goto (tgt := 50) dX9_equals_46 rfl ?_
        refine hG.zret dX9_equals_50 rfl rfl ?_ (by omega) (by omega) trivial
        first
        | exact ⟨by rw [show decide (c = e) = true by simpa using code_eq ((nI_eq (by omega) (by omega)).mp c_20) ((nI_eq (by omega) (by omega)).mp c_31) ((nI_eq (by omega) (by omega)).mp c_42)]; rfl, rfl, rfl⟩
        | (have hne : c ≠ e := fun q => by subst q; first | exact c_20 rfl | exact c_31 rfl | exact c_42 rfl
           exact ⟨by rw [show decide (c = e) = false by simpa using hne]; rfl, rfl, rfl⟩)
set_option maxHeartbeats 4000000 in
set_option maxRecDepth 100000 in
theorem sp_X9_kind {l : Launch} {s0 : State} {D : va_G} {I : AI} {L : AL} (hΓ : Gam l s0 D) {a c : Nat} (h0 : Rd I L a (ob ciX9 (grp c))) : Spc l s0 D yX9_kind 1 [.ref a] I L 0 0 (pV (.int (nI (c / 49))) I L) noX := by
  refine Spc.of hΓ cX9_kind 1 (some FieldType.int) q1834 (by decide +kernel) (by decide) (Nat.le_of_ble_eq_true rfl) (fun G GX hG => ?_)
  refine hG.aload_n dX9_kind_0 rfl ?_
  refine hG.get dX9_kind_1 fg_X9_7_X9 h0 rfl ?_
  refine hG.iret dX9_kind_4 rfl ?_ (by omega) (by omega) trivial
  exact ⟨rfl, rfl, rfl⟩
set_option maxHeartbeats 4000000 in
set_option maxRecDepth 100000 in
theorem sp_J24_init {l : Launch} {s0 : State} {D : va_G} {I : AI} {L : AL} (hΓ : Gam l s0 D) {a : Nat} : Spc l s0 D yJ24_init 2 [.ref a] I L 0 0 (p0 I L) noX := by
  refine Spc.of hΓ cJ24_init 1 none q1499 (by decide +kernel) (by decide) (Nat.le_of_ble_eq_true rfl) (fun G GX hG => ?_)
  refine hG.aload_n dJ24_init_0 rfl ?_
  refine hG.objI dJ24_init_1 q1500 (Nat.le_of_ble_eq_true rfl) (by decide) ?_
  refine hG.vret dJ24_init_4 rfl ?_ (by omega) (by omega) trivial
  exact ⟨rfl, rfl, rfl⟩
theorem cls_J25 : CLs ciJ25 RJ25 TJ25 1 tyJ25 := ⟨rfl, in_J25, tyJ25_ok, nmJ25⟩
theorem ki_J25_202 : LkI RJ25 202 yJ24_init 0 := ⟨q1497, q1498, q104, rfl, ⟨by decide +kernel, by decide +kernel, by decide +kernel⟩, by decide +kernel⟩
theorem fp_J25_205_J25 : LkP RJ25 "<init>" 205 ciJ25 0 (tyJ25 0) := ⟨RJ25, TJ25, 1, tyJ25, _, cls_J25, by decide, rfl, Or.inl rfl, Or.inr (Or.inr ⟨rfl, rfl, rfl, q1501⟩)⟩
set_option maxHeartbeats 4000000 in
set_option maxRecDepth 100000 in
theorem sp_J25_init {l : Launch} {s0 : State} {D : va_G} {I : AI} {L : AL} (hΓ : Gam l s0 D) {a : Nat} {v x : Int32} (h0 : L a = some (obC ciJ25 [.int x])) : Spc l s0 D yJ25_init 3 [.ref a, .int v] I L 0 0 (pU I L a (obC ciJ25 [.int v])) noX := by
  refine Spc.of hΓ cJ25_init 2 none q1496 (by decide +kernel) (by decide) (Nat.le_of_ble_eq_true rfl) (fun G GX hG => ?_)
  refine hG.aload_n dJ25_init_0 rfl ?_
  refine hG.callI dJ25_init_1 ki_J25_202 (sp_J24_init hΓ) rfl rfl (Nat.le_of_ble_eq_true rfl) (by decide) (by omega) (by omega) (fun r1 I1 L1 hI1 h1 => ?_) (fun _ _ _ _ _ h => h.elim)
  obtain ⟨rfl, rfl, rfl⟩ := h1
  refine hG.aload_n dJ25_init_4 rfl ?_
  refine hG.iload_n dJ25_init_5 rfl ?_
  refine hG.put dJ25_init_6 fp_J25_205_J25 h0 rfl rfl (Nat.le_of_ble_eq_true rfl) ?_
  refine hG.vret dJ25_init_9 rfl ?_ (by omega) (by omega) trivial
  exact ⟨rfl, rfl, rfl⟩
theorem nw_J25_1 : LkN RJ25 1 ciJ25 [.int 0] 1 := ⟨RJ25, TJ25, tyJ25, cls_J25, q1146, q1493, q105, rfl, fun j hj => by
  match j, hj with
  | 0, _ => rfl
  | _ + 1, h => exact absurd h (by omega)⟩
theorem ki_J25_199 : LkI RJ25 199 yJ25_init 1 := ⟨q1494, q1495, q105, rfl, ⟨by decide +kernel, by decide +kernel, by decide +kernel⟩, by decide +kernel⟩
set_option maxHeartbeats 4000000 in
set_option maxRecDepth 100000 in
theorem sp_J25_valueOf {l : Launch} {s0 : State} {D : va_G} {I : AI} {L : AL} (hΓ : Gam l s0 D) {v : Int32} {ca : Nat} {ad : Nat → Nat} (hB : StI s0 D ca ad) : Spc l s0 D yJ25_valueOf 4 [.int v] I L 1 1 (pBx v L) noX := by
  refine Spc.of hΓ cJ25_valueOf 1 (some (FieldType.object "java/lang/Integer")) q1488 (by decide +kernel) (by decide) (Nat.le_of_ble_eq_true rfl) (fun G GX hG => ?_)
  refine hG.iload_n dJ25_valueOf_0 rfl ?_
  refine hG.bipush (v := -128) dJ25_valueOf_1 rfl ?_
  refine hG.icmp_lt (tgt := 23) dJ25_valueOf_3 rfl (fun c_3 => ?_) (fun c_3 => ?_)
  · refine hG.new dJ25_valueOf_23 nw_J25_1 (by omega) (by omega) (fun q hLq hIq => ?_)
    refine hG.dup dJ25_valueOf_26 rfl ?_
    refine hG.iload_n dJ25_valueOf_27 rfl ?_
    refine hG.callI dJ25_valueOf_28 ki_J25_199 (sp_J25_init hΓ up1_s) rfl rfl (Nat.le_of_ble_eq_true rfl) (by decide) (by omega) (by omega) (fun r28 I28 L28 hI28 h28 => ?_) (fun _ _ _ _ _ h => h.elim)
    obtain ⟨rfl, rfl, rfl⟩ := h28
    refine hG.fr (a := q) up1_s ?_
    refine hG.aret dJ25_valueOf_31 rfl (by first | exact Or.inl ⟨_, rfl⟩ | exact Or.inr ⟨_, rfl⟩) (Or.inr ⟨_, rfl⟩) ?_ (by omega) (by omega) trivial
    exact ⟨by rw [up1_up1, up1_back hLq], q, rfl, Or.inr ⟨rfl, rfl⟩⟩
  · refine hG.iload_n dJ25_valueOf_6 rfl ?_
    refine hG.gets dJ25_valueOf_7 hB.1 q1489 (Or.inl rfl) ?_
    refine hG.icmp_gt (tgt := 23) dJ25_valueOf_10 rfl (fun c_10 => ?_) (fun c_10 => ?_)
    · refine hG.new dJ25_valueOf_23 nw_J25_1 (by omega) (by omega) (fun q hLq hIq => ?_)
      refine hG.dup dJ25_valueOf_26 rfl ?_
      refine hG.iload_n dJ25_valueOf_27 rfl ?_
      refine hG.callI dJ25_valueOf_28 ki_J25_199 (sp_J25_init hΓ up1_s) rfl rfl (Nat.le_of_ble_eq_true rfl) (by decide) (by omega) (by omega) (fun r28 I28 L28 hI28 h28 => ?_) (fun _ _ _ _ _ h => h.elim)
      obtain ⟨rfl, rfl, rfl⟩ := h28
      refine hG.fr (a := q) up1_s ?_
      refine hG.aret dJ25_valueOf_31 rfl (by first | exact Or.inl ⟨_, rfl⟩ | exact Or.inr ⟨_, rfl⟩) (Or.inr ⟨_, rfl⟩) ?_ (by omega) (by omega) trivial
      exact ⟨by rw [up1_up1, up1_back hLq], q, rfl, Or.inr ⟨rfl, rfl⟩⟩
    · refine hG.gets dJ25_valueOf_13 hB.2.1 q1491 (Or.inl rfl) ?_
      obtain ⟨j, hj, ej, evj⟩ := bx_small (x := v) (by simpa using c_3) (by simpa using c_10)
      refine hG.sta hB.2.2.1 (fun hca => ?_)
      refine hG.sta (hB.2.2.2 j hj) (fun haj => ?_)
      refine hG.iload_n dJ25_valueOf_16 rfl ?_
      refine hG.sipush (v := 128) dJ25_valueOf_17 rfl ?_
      refine hG.iadd dJ25_valueOf_20 ?_
      rw [show v + 128 = nI j from ej]
      refine hG.aald dJ25_valueOf_21 (Or.inr hca) (vp_in_nI hj (by decide)) ?_
      rw [nI_clamp (by omega)]
      refine hG.aret dJ25_valueOf_22 rfl (by first | exact Or.inl ⟨_, rfl⟩ | exact Or.inr ⟨_, rfl⟩) (Or.inr ⟨_, rfl⟩) ?_ (by omega) (by omega) trivial
      exact ⟨rfl, _, rfl, by rw [evj]; exact haj⟩
theorem fg_J25_205_J25 : LkG RJ25 205 ciJ25 0 := ⟨RJ25, TJ25, 1, tyJ25, _, cls_J25, by decide, Or.inl rfl, Or.inl q1501⟩
set_option maxHeartbeats 4000000 in
set_option maxRecDepth 100000 in
theorem sp_J25_intValue {l : Launch} {s0 : State} {D : va_G} {I : AI} {L : AL} (hΓ : Gam l s0 D) {a : Nat} {v : Int32} (h0 : Rd I L a (bxE v)) : Spc l s0 D yJ25_intValue 1 [.ref a] I L 0 0 (pV (.int v) I L) noX := by
  refine Spc.of hΓ cJ25_intValue 1 (some FieldType.int) q760 (by decide +kernel) (by decide) (Nat.le_of_ble_eq_true rfl) (fun G GX hG => ?_)
  refine hG.aload_n dJ25_intValue_0 rfl ?_
  refine hG.get dJ25_intValue_1 fg_J25_205_J25 h0 rfl ?_
  refine hG.iret dJ25_intValue_4 rfl ?_ (by omega) (by omega) trivial
  exact ⟨rfl, rfl, rfl⟩
theorem ko_J4_1_X9 : LkU RJ4 1 RX9 ⟨"java/lang/Object", "hashCode", "()I"⟩ yX9_hashCode 0 := ⟨_, q783, q785, q797, q798, q119, by decide +kernel, by decide +kernel, by decide +kernel, Or.inr (Or.inr q782)⟩
set_option maxHeartbeats 4000000 in
set_option maxRecDepth 100000 in
theorem sp_J4_hash {l : Launch} {s0 : State} {D : va_G} {I : AI} {L : AL} (hΓ : Gam l s0 D) {a c : Nat} (hc : c < 147) (h0 : Rd I L a (ob ciX9 (grp c))) : Spc l s0 D yJ4_hash 2 [.ref a] I L 0 0 (pV (.int (nI (hN c))) I L) noX := by
  refine Spc.of hΓ cJ4_hash 2 (some FieldType.int) q781 (by decide +kernel) (by decide) (Nat.le_of_ble_eq_true rfl) (fun G GX hG => ?_)
  refine hG.aload_n dJ4_hash_0 rfl ?_
  refine hG.ifnonnull (tgt := 8) dJ4_hash_1 rfl ?_
  refine hG.aload_n dJ4_hash_8 rfl ?_
  refine hG.callU dJ4_hash_9 ko_J4_1_X9 (Rd.rcv h0 cl_X9) (sp_X9_hashCode hΓ h0) rfl rfl (Nat.le_of_ble_eq_true rfl) (by decide) (by omega) (by omega) (fun r9 I9 L9 hI9 h9 => ?_) (fun _ _ _ _ _ h => h.elim)
  obtain ⟨rfl, rfl, rfl⟩ := h9
  refine hG.dup dJ4_hash_12 rfl ?_
  refine hG.istore_n dJ4_hash_13 (by decide) ?_
  refine hG.iload_n dJ4_hash_14 rfl ?_
  refine hG.bipush (v := 16) dJ4_hash_15 rfl ?_
  refine hG.iushr dJ4_hash_17 ?_
  have e0 : ((nI (hN c)).toUInt32 >>> ((16 : Int32).toUInt32 &&& Int32.toUInt32 31)).toInt32 = 0 := by
    rw [pk_ushrN (n := hN c) (by have := hN_lt hc; omega) 16 16 (by decide +kernel), Nat.div_eq_of_lt (by have := hN_lt hc; omega)]
    rfl
  rw [e0]
  refine hG.ixor dJ4_hash_18 ?_
  refine hG.iret dJ4_hash_19 rfl ?_ (by omega) (by omega) trivial
  exact ⟨by rw [show nI (hN c) ^^^ 0 = nI (hN c) from Int32.xor_zero], rfl, rfl⟩
