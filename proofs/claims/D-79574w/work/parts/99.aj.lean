/-! strings: hash, beginnings, contents -/
def hshS (cs : List Nat) : Int32 := cs.foldl (fun h c => 31 * h + nI c) 0
def pfx (p w : List Nat) : Bool := decide (w.take p.length = p)
def inf (p w : List Nat) : Bool := (List.range (w.length + 1)).any (fun t => pfx p (w.drop t))
theorem pfx_iff {p w : List Nat} : pfx p w = true ↔ p.length ≤ w.length ∧ ∀ t, t < p.length → w[t]? = p[t]? := by
  unfold pfx
  rw [decide_eq_true_iff]
  constructor
  · intro h
    have hl : (w.take p.length).length = p.length := congrArg List.length h
    rw [List.length_take] at hl
    refine ⟨by omega, fun t ht => ?_⟩
    have : (w.take p.length)[t]? = p[t]? := by rw [h]
    rw [List.getElem?_take_of_lt ht] at this
    exact this
  · intro ⟨h1, h2⟩
    apply List.ext_getElem?
    intro t
    by_cases ht : t < p.length
    · rw [List.getElem?_take_of_lt ht, h2 t ht]
    · rw [List.getElem?_eq_none (by rw [List.length_take]; omega), List.getElem?_eq_none (by omega)]
theorem inf_iff {p w : List Nat} (hp : p.length ≤ w.length) : inf p w = true ↔ ∃ i, i + p.length ≤ w.length ∧ ∀ t, t < p.length → w[i + t]? = p[t]? := by
  unfold inf
  rw [List.any_eq_true]
  constructor
  · rintro ⟨i, _, h⟩
    obtain ⟨h1, h2⟩ := pfx_iff.mp h
    rw [List.length_drop] at h1
    by_cases h0 : i ≤ w.length
    · refine ⟨i, by omega, fun t ht => ?_⟩
      have := h2 t ht
      rw [List.getElem?_drop] at this
      exact this
    · exact ⟨0, by omega, fun t ht => absurd ht (by omega)⟩
  · rintro ⟨i, h1, h2⟩
    refine ⟨i, List.mem_range.mpr (by omega), pfx_iff.mpr ⟨by rw [List.length_drop]; omega, fun t ht => ?_⟩⟩
    rw [List.getElem?_drop]
    exact h2 t ht
/-- two bytes of one byte characters -/
theorem bs_eq {f g : Nat → Int32} {cs ds : List Nat} (hf : Bs f (enc 0 cs)) (hg : Bs g (enc 0 ds)) (hc : Cok 0 cs) (hd : Cok 0 ds) {i j : Nat} (hi : i < cs.length) (hj : j < ds.length) : f i = g j ↔ cs[i]? = ds[j]? := by
  have q1 := hc.resolve_right (fun h => by cases h.1)
  have q2 := hd.resolve_right (fun h => by cases h.1)
  have e1 : cs[i]? = some cs[i] := List.getElem?_eq_getElem hi
  have e2 : ds[j]? = some ds[j] := List.getElem?_eq_getElem hj
  rw [hf i (byt cs[i]) (by rw [enc0, e1]; rfl), hg j (byt ds[j]) (by rw [enc0, e2]; rfl), e1, e2]
  exact ⟨fun h => congrArg some (byt_inj (q1.2 _ (List.getElem_mem hi)) (q2.2 _ (List.getElem_mem hj)) h), fun h => congrArg byt (Option.some.inj h)⟩
theorem list_ext {cs ds : List Nat} : cs = ds ↔ cs.length = ds.length ∧ ∀ t, t < cs.length → cs[t]? = ds[t]? := by
  constructor
  · rintro rfl
    exact ⟨rfl, fun _ _ => rfl⟩
  · rintro ⟨h1, h2⟩
    apply List.ext_getElem?
    intro t
    by_cases ht : t < cs.length
    · exact h2 t ht
    · rw [List.getElem?_eq_none (by omega), List.getElem?_eq_none (by omega)]
set_option maxHeartbeats 4000000 in
set_option maxRecDepth 100000 in
theorem sp_J17_signedHashCode {l : Launch} {s0 : State} {D : va_G} {I : AI} {L : AL} (hΓ : Gam l s0 D) {arr : Nat} {f : Nat → Int32} {cs : List Nat} (ha : Rd I L arr (arB cs.length f)) (hb : Bs f (enc 0 cs)) (hc : Cok 0 cs) (hl : cs.length ≤ 1000) : Spc l s0 D yJ17_signedHashCode 1 [.int 0, .ref arr, .int 0, .int (nI cs.length)] I L 0 0 (pV (.int (hshS cs)) I L) noX := by
  refine Spc.of hΓ cJ17_signedHashCode 6 (some FieldType.int) q840 (by decide +kernel) (by decide) (Nat.le_of_ble_eq_true rfl) (fun G GX hG => ?_)
  have loop : ∀ (w i : Nat), i + w = cs.length → G 8 [(0, .int (hshS (cs.take i))), (1, .ref arr), (2, .int 0), (3, .int (nI cs.length)), (4, .int (nI cs.length)), (5, .int (nI i))] [] I L 0 0 := by
    intro w
    induction w with
    | zero =>
      intro i hiw
      refine hG.iload dJ17_signedHashCode_8 rfl ?_
      refine hG.iload dJ17_signedHashCode_10 rfl ?_
      refine hG.icmp_ge (tgt := 35) dJ17_signedHashCode_12 rfl (fun c_12 => ?_) (fun c_12 => absurd (nI_le (by omega) (by omega)) c_12)
      refine hG.iload_n dJ17_signedHashCode_35 rfl ?_
      refine hG.iret dJ17_signedHashCode_36 rfl ?_ (by omega) (by omega) trivial
      exact ⟨by rw [List.take_of_length_le (by omega)], rfl, rfl⟩
    | succ w ih =>
      intro i hiw
      obtain ⟨c, hci, -⟩ := get_lt (show i < cs.length by omega)
      have hcc : c < 256 := (hc.resolve_right (fun h => by cases h.1)).2 c (List.mem_of_getElem? hci)
      refine hG.iload dJ17_signedHashCode_8 rfl ?_
      refine hG.iload dJ17_signedHashCode_10 rfl ?_
      refine hG.icmp_ge (tgt := 35) dJ17_signedHashCode_12 rfl (fun c_12 => absurd c_12 (nI_ge (by omega) (by omega))) (fun c_12 => ?_)
      refine hG.bipush (v := 31) dJ17_signedHashCode_15 rfl ?_
      refine hG.iload_n dJ17_signedHashCode_17 rfl ?_
      refine hG.imul dJ17_signedHashCode_18 ?_
      refine hG.aload_n dJ17_signedHashCode_19 rfl ?_
      refine hG.iload dJ17_signedHashCode_20 rfl ?_
      refine hG.bald dJ17_signedHashCode_22 ha (vp_in_nI (by omega) (by omega)) ?_
      rw [nI_clamp (by omega), hb i (byt c) (by rw [enc0, hci]; rfl)]
      refine hG.sipush (v := 255) dJ17_signedHashCode_23 rfl ?_
      refine hG.iand dJ17_signedHashCode_26 ?_
      rw [byt_and, Nat.mod_eq_of_lt hcc]
      refine hG.iadd dJ17_signedHashCode_27 ?_
      refine hG.istore_n dJ17_signedHashCode_28 (by decide) ?_
      refine hG.iinc dJ17_signedHashCode_29 rfl (by decide) ?_
      refine hG.goto (tgt := 8) dJ17_signedHashCode_32 rfl ?_
      have e9 : 31 * hshS (cs.take i) + nI c = hshS (cs.take (i + 1)) := by
        unfold hshS
        rw [foldl_take hci]
      rw [e9]
      refine hG.lsb [(0, .int (hshS (cs.take (i + 1)))), (1, .ref arr), (2, .int 0), (3, .int (nI cs.length)), (4, .int (nI cs.length)), (5, .int (nI (i + 1)))] ⟨rfl, rfl, rfl, rfl, rfl, by show some (Value.int (nI i + Int32.ofInt 1)) = _; rw [show nI i + Int32.ofInt 1 = nI (i + 1) from nI_add _ 1], trivial⟩ (ih (i + 1) (by omega))
  refine hG.iload_n dJ17_signedHashCode_0 rfl ?_
  refine hG.iload_n dJ17_signedHashCode_1 rfl ?_
  refine hG.iadd dJ17_signedHashCode_2 ?_
  rw [Int32.zero_add]
  refine hG.istore dJ17_signedHashCode_3 (by decide) ?_
  refine hG.iload_n dJ17_signedHashCode_5 rfl ?_
  refine hG.istore dJ17_signedHashCode_6 (by decide) ?_
  exact hG.lsb [(0, .int (hshS (cs.take 0))), (1, .ref arr), (2, .int 0), (3, .int (nI cs.length)), (4, .int (nI cs.length)), (5, .int (nI 0))] ⟨rfl, rfl, rfl, rfl, rfl, rfl, trivial⟩ (loop cs.length 0 (by omega))
theorem ks_J17_62 : LkS RJ17 62 yJ17_signedHashCode 4 := ⟨q838, q839, q96, by decide +kernel, by decide +kernel, by decide +kernel⟩
set_option maxHeartbeats 4000000 in
set_option maxRecDepth 100000 in
theorem sp_J17_vectorizedHashCode {l : Launch} {s0 : State} {D : va_G} {I : AI} {L : AL} (hΓ : Gam l s0 D) {arr : Nat} {f : Nat → Int32} {cs : List Nat} (ha : Rd I L arr (arB cs.length f)) (hb : Bs f (enc 0 cs)) (hc : Cok 0 cs) (hl : cs.length ≤ 1000) : Spc l s0 D yJ17_vectorizedHashCode 2 [.ref arr, .int 0, .int (nI cs.length), .int 0, .int 4] I L 0 0 (pV (.int (hshS cs)) I L) noX := by
  refine Spc.of hΓ cJ17_vectorizedHashCode 5 (some FieldType.int) q836 (by decide +kernel) (by decide) (Nat.le_of_ble_eq_true rfl) (fun G GX hG => ?_)
  refine hG.iload dJ17_vectorizedHashCode_0 rfl ?_
  refine hG.tabIn (off := 42) (tgt := 44) dJ17_vectorizedHashCode_2 (by decide +kernel) (by decide +kernel) (by decide +kernel) rfl ?_
  refine hG.iload_n dJ17_vectorizedHashCode_44 rfl ?_
  refine hG.aload_n dJ17_vectorizedHashCode_45 rfl ?_
  refine hG.castB dJ17_vectorizedHashCode_46 q837 ha ?_
  refine hG.iload_n dJ17_vectorizedHashCode_49 rfl ?_
  refine hG.iload_n dJ17_vectorizedHashCode_50 rfl ?_
  refine hG.callS dJ17_vectorizedHashCode_51 ks_J17_62 (sp_J17_signedHashCode hΓ ha hb hc hl) rfl rfl (Nat.le_of_ble_eq_true rfl) (by decide) (by omega) (by omega) (fun r51 I51 L51 hI51 h51 => ?_) (fun _ _ _ _ _ h => h.elim)
  obtain ⟨rfl, rfl, rfl⟩ := h51
  refine hG.goto (tgt := 157) dJ17_vectorizedHashCode_54 rfl ?_
  refine hG.iret dJ17_vectorizedHashCode_157 rfl ?_ (by omega) (by omega) trivial
  exact ⟨rfl, rfl, rfl⟩
theorem ks_J26_84 : LkS RJ26 84 yJ17_vectorizedHashCode 5 := ⟨q834, q835, q96, by decide +kernel, by decide +kernel, by decide +kernel⟩
set_option maxHeartbeats 4000000 in
set_option maxRecDepth 100000 in
theorem sp_J26_hashCode {l : Launch} {s0 : State} {D : va_G} {I : AI} {L : AL} (hΓ : Gam l s0 D) {arr : Nat} {f : Nat → Int32} {cs : List Nat} (ha : Rd I L arr (arB cs.length f)) (hb : Bs f (enc 0 cs)) (hc : Cok 0 cs) (hl : cs.length ≤ 1000) (h2 : 2 ≤ cs.length) : Spc l s0 D yJ26_hashCode 3 [.ref arr] I L 0 0 (pV (.int (hshS cs)) I L) noX := by
  refine Spc.of hΓ cJ26_hashCode 1 (some FieldType.int) q833 (by decide +kernel) (by decide) (Nat.le_of_ble_eq_true rfl) (fun G GX hG => ?_)
  refine hG.aload_n dJ26_hashCode_0 rfl ?_
  refine hG.alen dJ26_hashCode_1 ha ?_
  refine hG.lookup (off := 40) (tgt := 42) dJ26_hashCode_2 (by decide +kernel) ?_ rfl ?_
  · have e9 : (Int32.ofNat cs.length).toInt = (cs.length : Int) := nI_toInt (by omega)
    show Op.lookupswitch.offset [(0, 26), (1, 30)] 40 (Int32.ofNat cs.length).toInt = 40
    rw [e9, Op.lookupswitch.offset_cons, if_neg (by omega), Op.lookupswitch.offset_cons, if_neg (by omega), Op.lookupswitch.offset_nil]
  refine hG.aload_n dJ26_hashCode_42 rfl ?_
  refine hG.iconst (v := 0) dJ26_hashCode_43 rfl ?_
  refine hG.aload_n dJ26_hashCode_44 rfl ?_
  refine hG.alen dJ26_hashCode_45 ha ?_
  refine hG.iconst (v := 0) dJ26_hashCode_46 rfl ?_
  refine hG.iconst (v := 4) dJ26_hashCode_47 rfl ?_
  refine hG.callS dJ26_hashCode_48 ks_J26_84 (sp_J17_vectorizedHashCode hΓ ha hb hc hl) rfl rfl (Nat.le_of_ble_eq_true rfl) (by decide) (by omega) (by omega) (fun r48 I48 L48 hI48 h48 => ?_) (fun _ _ _ _ _ h => h.elim)
  obtain ⟨rfl, rfl, rfl⟩ := h48
  refine hG.iret dJ26_hashCode_51 rfl ?_ (by omega) (by omega) trivial
  exact ⟨rfl, rfl, rfl⟩
theorem fg_J9_19_J9 : LkG RJ9 19 ciJ9 2 := ⟨RJ9, TJ9, 4, tyJ9, _, cls_J9, by decide, Or.inl rfl, Or.inl q1085⟩
theorem fg_J9_23_J9 : LkG RJ9 23 ciJ9 3 := ⟨RJ9, TJ9, 4, tyJ9, _, cls_J9, by decide, Or.inl rfl, Or.inl q1086⟩
theorem ks_J9_628 : LkS RJ9 628 yJ26_hashCode 1 := ⟨q831, q832, q106, by decide +kernel, by decide +kernel, by decide +kernel⟩
theorem fp_J9_19_J9 {nm : String} : LkP RJ9 nm 19 ciJ9 2 (tyJ9 2) := ⟨RJ9, TJ9, 4, tyJ9, _, cls_J9, by decide, rfl, Or.inl rfl, Or.inl ⟨rfl, q1085⟩⟩
theorem fp_J9_23_J9 {nm : String} : LkP RJ9 nm 23 ciJ9 3 (tyJ9 3) := ⟨RJ9, TJ9, 4, tyJ9, _, cls_J9, by decide, rfl, Or.inl rfl, Or.inl ⟨rfl, q1086⟩⟩
set_option maxHeartbeats 4000000 in
set_option maxRecDepth 100000 in
theorem sp_J9_hashCode {l : Launch} {s0 : State} {D : va_G} {I : AI} {L : AL} {o : Option Nat} (hΓ : Gam l s0 D) (hX : StV s0 o) {a arr : Nat} {f : Nat → Int32} {cs : List Nat} (hs : L a = some (obC ciJ9 [.ref arr, .int (nI 0), .int 0, .int 0])) (ha : Rd I L arr (arB cs.length f)) (hb : Bs f (enc 0 cs)) (hc : Cok 0 cs) (hl : cs.length ≤ 1000) (h2 : 2 ≤ cs.length) : Spc l s0 D yJ9_hashCode 4 [.ref a] I L 0 0 (fun r I' L' => r = some (.int (hshS cs)) ∧ I = I' ∧ ∃ h z : Int32, L' = up1 L a (some (obC ciJ9 [.ref arr, .int (nI 0), .int h, .int z]))) noX := by
  refine Spc.of hΓ cJ9_hashCode 2 (some FieldType.int) q825 (by decide +kernel) (by decide) (Nat.le_of_ble_eq_true rfl) (fun G GX hG => ?_)
  refine hG.aload_n dJ9_hashCode_0 rfl ?_
  refine hG.get dJ9_hashCode_1 fg_J9_19_J9 (Or.inl hs) rfl ?_
  refine hG.istore_n dJ9_hashCode_4 (by decide) ?_
  refine hG.iload_n dJ9_hashCode_5 rfl ?_
  refine hG.if_ne (tgt := 58) dJ9_hashCode_6 rfl (fun c_6 => absurd rfl c_6) (fun c_6 => ?_)
  refine hG.aload_n dJ9_hashCode_9 rfl ?_
  refine hG.get dJ9_hashCode_10 fg_J9_23_J9 (Or.inl hs) rfl ?_
  refine hG.if_ne (tgt := 58) dJ9_hashCode_13 rfl (fun c_13 => absurd rfl c_13) (fun c_13 => ?_)
  refine hG.aload_n dJ9_hashCode_16 rfl ?_
  refine hG.callV dJ9_hashCode_17 kv_J9_492 (Rcv.raw hs cl_J9) (sp_J9_isLatin1 hΓ hX (Or.inl hs) (by decide)) rfl rfl (Nat.le_of_ble_eq_true rfl) (by decide) (by omega) (by omega) (fun r17 I17 L17 hI17 h17 => ?_) (fun _ _ _ _ _ h => h.elim)
  obtain ⟨rfl, rfl, rfl⟩ := h17
  refine hG.if_eq (tgt := 33) dJ9_hashCode_20 rfl (fun c_20 => absurd c_20 (by decide)) (fun c_20 => ?_)
  refine hG.aload_n dJ9_hashCode_23 rfl ?_
  refine hG.get dJ9_hashCode_24 fg_J9_9_J9 (Or.inl hs) rfl ?_
  refine hG.callS dJ9_hashCode_27 ks_J9_628 (sp_J26_hashCode hΓ ha hb hc hl h2) rfl rfl (Nat.le_of_ble_eq_true rfl) (by decide) (by omega) (by omega) (fun r27 I27 L27 hI27 h27 => ?_) (fun _ _ _ _ _ h => h.elim)
  obtain ⟨rfl, rfl, rfl⟩ := h27
  refine hG.goto (tgt := 40) dJ9_hashCode_30 rfl ?_
  refine hG.istore_n dJ9_hashCode_40 (by decide) ?_
  refine hG.iload_n dJ9_hashCode_41 rfl ?_
  refine hG.if_ne (tgt := 53) dJ9_hashCode_42 rfl (fun c_42 => ?_) (fun c_42 => ?_)
  · refine hG.aload_n dJ9_hashCode_53 rfl ?_
    refine hG.iload_n dJ9_hashCode_54 rfl ?_
    refine hG.put dJ9_hashCode_55 fp_J9_19_J9 hs rfl rfl (Nat.le_of_ble_eq_true rfl) ?_
    refine hG.iload_n dJ9_hashCode_58 rfl ?_
    refine hG.iret dJ9_hashCode_59 rfl ?_ (by omega) (by omega) trivial
    exact ⟨rfl, rfl, _, _, rfl⟩
  · refine hG.aload_n dJ9_hashCode_45 rfl ?_
    refine hG.iconst (v := 1) dJ9_hashCode_46 rfl ?_
    refine hG.put dJ9_hashCode_47 fp_J9_23_J9 hs rfl rfl (Nat.le_of_ble_eq_true rfl) ?_
    refine hG.goto (tgt := 58) dJ9_hashCode_50 rfl ?_
    refine hG.iload_n dJ9_hashCode_58 rfl ?_
    refine hG.iret dJ9_hashCode_59 rfl ?_ (by omega) (by omega) trivial
    exact ⟨rfl, rfl, _, _, rfl⟩
theorem kv_J9_505 : LkV RJ9 505 yJ9_length 0 := ⟨q3011, q949, q950, q85, by decide +kernel, by decide +kernel, by decide +kernel⟩
theorem ks_J9_607 : LkS RJ9 607 yJ17_mismatch_2 5 := ⟨q3012, q3013, q96, by decide +kernel, by decide +kernel, by decide +kernel⟩
set_option maxHeartbeats 4000000 in
set_option maxRecDepth 100000 in
theorem sp_J9_startsWith_2 {l : Launch} {s0 : State} {D : va_G} {I : AI} {L : AL} {o : Option Nat} (hΓ : Gam l s0 D) (hX : StV s0 o) {a b kb : Nat} {w p : List Nat} (ha : StrR I L a 0 w) (hb : StrR I L b kb p) (h7 : p.length ≤ 7) : Spc l s0 D yJ9_startsWith_2 3 [.ref a, .ref b, .int 0] I L 0 0 (pV (.int (b2i (kb == 0 && pfx p w))) I L) noX := by
  refine Spc.of hΓ cJ9_startsWith_2 8 (some FieldType.boolean) q3010 (by decide +kernel) (by decide) (Nat.le_of_ble_eq_true rfl) (fun G GX hG => ?_)
  have ha := ha
  have hb := hb
  obtain ⟨ar, ah, az, f, ha1, ha2, ha3, ha4, ha5⟩ := id ha
  obtain ⟨br, bh, bz, g, hb1, hb2, hb3, hb4, hb5⟩ := id hb
  have hka := ha4.le
  have hkb := hb4.le
  refine hG.iload_n dJ9_startsWith_2_0 rfl ?_
  refine hG.if_lt (tgt := 17) dJ9_startsWith_2_1 rfl (fun c_1 => absurd c_1 (by decide)) (fun c_1 => ?_)
  refine hG.iload_n dJ9_startsWith_2_4 rfl ?_
  refine hG.aload_n dJ9_startsWith_2_5 rfl ?_
  refine hG.callV dJ9_startsWith_2_6 kv_J9_505 ha.rcv (sp_J9_length hΓ hX ha) rfl rfl (Nat.le_of_ble_eq_true rfl) (by decide) (by omega) (by omega) (fun r6 I6 L6 hI6 h6 => ?_) (fun _ _ _ _ _ h => h.elim)
  obtain ⟨rfl, rfl, rfl⟩ := h6
  refine hG.aload_n dJ9_startsWith_2_9 rfl ?_
  refine hG.callV dJ9_startsWith_2_10 kv_J9_505 hb.rcv (sp_J9_length hΓ hX hb) rfl rfl (Nat.le_of_ble_eq_true rfl) (by decide) (by omega) (by omega) (fun r10 I10 L10 hI10 h10 => ?_) (fun _ _ _ _ _ h => h.elim)
  obtain ⟨rfl, rfl, rfl⟩ := h10
  refine hG.isub dJ9_startsWith_2_13 ?_
  refine hG.icmp_le (tgt := 19) dJ9_startsWith_2_14 rfl (fun c_14 => ?_) (fun c_14 => ?_)
  · have hlen : p.length ≤ w.length := by
      by_cases h9 : p.length ≤ w.length
      · exact h9
      · exact absurd (show nI w.length - nI p.length < 0 from pk_sneg (by omega) (by omega)) (Int32.not_lt.mpr c_14)
    refine hG.aload_n dJ9_startsWith_2_19 rfl ?_
    refine hG.get dJ9_startsWith_2_20 fg_J9_9_J9 ha1 rfl ?_
    refine hG.astore_n dJ9_startsWith_2_23 (by decide) ?_
    refine hG.aload_n dJ9_startsWith_2_24 rfl ?_
    refine hG.get dJ9_startsWith_2_25 fg_J9_9_J9 hb1 rfl ?_
    refine hG.astore dJ9_startsWith_2_28 (by decide) ?_
    refine hG.iconst (v := 0) dJ9_startsWith_2_30 rfl ?_
    refine hG.istore dJ9_startsWith_2_31 (by decide) ?_
    refine hG.aload dJ9_startsWith_2_33 rfl ?_
    refine hG.alen dJ9_startsWith_2_35 hb2 ?_
    refine hG.istore dJ9_startsWith_2_36 (by decide) ?_
    refine hG.aload_n dJ9_startsWith_2_38 rfl ?_
    refine hG.callV dJ9_startsWith_2_39 kv_J9_335 ha.rcv (sp_J9_coder hΓ hX ha1 (by decide)) rfl rfl (Nat.le_of_ble_eq_true rfl) (by decide) (by omega) (by omega) (fun r39 I39 L39 hI39 h39 => ?_) (fun _ _ _ _ _ h => h.elim)
    obtain ⟨rfl, rfl, rfl⟩ := h39
    refine hG.istore dJ9_startsWith_2_42 (by decide) ?_
    refine hG.iload dJ9_startsWith_2_44 rfl ?_
    refine hG.aload_n dJ9_startsWith_2_46 rfl ?_
    refine hG.callV dJ9_startsWith_2_47 kv_J9_335 hb.rcv (sp_J9_coder hΓ hX hb1 hkb) rfl rfl (Nat.le_of_ble_eq_true rfl) (by decide) (by omega) (by omega) (fun r47 I47 L47 hI47 h47 => ?_) (fun _ _ _ _ _ h => h.elim)
    obtain ⟨rfl, rfl, rfl⟩ := h47
    refine hG.icmp_ne (tgt := 82) dJ9_startsWith_2_50 rfl (fun c_50 => ?_) (fun c_50 => ?_)
    · refine hG.iload dJ9_startsWith_2_82 rfl ?_
      refine hG.if_ne (tgt := 89) dJ9_startsWith_2_84 rfl (fun c_84 => absurd rfl c_84) (fun c_84 => ?_)
      refine hG.iconst (v := 0) dJ9_startsWith_2_87 rfl ?_
      refine hG.zret dJ9_startsWith_2_88 rfl rfl ?_ (by omega) (by omega) trivial
      refine ⟨?_, rfl, rfl⟩
      rw [show (kb == 0) = false from beq_eq_false_iff_ne.mpr (fun e => c_50 (by rw [e]))]
      rfl
    · refine hG.iload dJ9_startsWith_2_53 rfl ?_
      refine hG.iconst (v := 1) dJ9_startsWith_2_55 rfl ?_
      have hk0 : kb = 0 := ((nI_eq (a := 0) (b := kb) (by decide) (by omega)).mp c_50).symm
      subst hk0
      refine hG.icmp_ne (tgt := 63) dJ9_startsWith_2_56 rfl (fun c_56 => ?_) (fun c_56 => absurd c_56 (by decide))
      refine hG.aload_n dJ9_startsWith_2_63 rfl ?_
      refine hG.iload_n dJ9_startsWith_2_64 rfl ?_
      refine hG.aload dJ9_startsWith_2_65 rfl ?_
      refine hG.iconst (v := 0) dJ9_startsWith_2_67 rfl ?_
      refine hG.iload dJ9_startsWith_2_68 rfl ?_
      refine hG.callS dJ9_startsWith_2_70 ks_J9_607 (sp_J17_mismatch_2 (ao := 0) (bo := 0) (len := p.length * (0 + 1)) hΓ ha2 hb2 (by omega) (by omega) (by omega) (by omega) (by omega)) rfl rfl (Nat.le_of_ble_eq_true rfl) (by decide) (by omega) (by omega) (fun r70 I70 L70 hI70 h70 => ?_) (fun _ _ _ _ _ h => h.elim)
      obtain ⟨rfl, rfl, v, rfl, hv⟩ := h70
      refine hG.if_ge (tgt := 80) dJ9_startsWith_2_73 rfl (fun c_73 => ?_) (fun c_73 => ?_)
      · refine hG.iconst (v := 0) dJ9_startsWith_2_80 rfl ?_
        refine hG.zret dJ9_startsWith_2_81 rfl rfl ?_ (by omega) (by omega) trivial
        refine ⟨?_, rfl, rfl⟩
        have e9 : (0 ≤ v ↔ ¬ (pfx p w = true)) := by
          rw [hv, pfx_iff]
          refine not_congr ⟨fun q => ⟨hlen, fun t ht => ?_⟩, fun q t ht => ?_⟩
          · have := q t (by omega)
            rw [Nat.zero_add] at this
            exact (bs_eq ha3 hb3 ha4 hb4 (by omega) ht).mp this
          · rw [Nat.zero_add]
            exact (bs_eq ha3 hb3 ha4 hb4 (by omega) (by omega)).mpr (q.2 t (by omega))
        first
        | (rw [show pfx p w = false from Bool.eq_false_iff.mpr (e9.mp c_73)]; rfl)
        | (rw [show pfx p w = true from Decidable.of_not_not (fun q => c_73 (e9.mpr q))]; rfl)
      · refine hG.iconst (v := 1) dJ9_startsWith_2_76 rfl ?_
        refine hG.goto (tgt := 81) dJ9_startsWith_2_77 rfl ?_
        refine hG.zret dJ9_startsWith_2_81 rfl rfl ?_ (by omega) (by omega) trivial
        refine ⟨?_, rfl, rfl⟩
        have e9 : (0 ≤ v ↔ ¬ (pfx p w = true)) := by
          rw [hv, pfx_iff]
          refine not_congr ⟨fun q => ⟨hlen, fun t ht => ?_⟩, fun q t ht => ?_⟩
          · have := q t (by omega)
            rw [Nat.zero_add] at this
            exact (bs_eq ha3 hb3 ha4 hb4 (by omega) ht).mp this
          · rw [Nat.zero_add]
            exact (bs_eq ha3 hb3 ha4 hb4 (by omega) (by omega)).mpr (q.2 t (by omega))
        first
        | (rw [show pfx p w = false from Bool.eq_false_iff.mpr (e9.mp c_73)]; rfl)
        | (rw [show pfx p w = true from Decidable.of_not_not (fun q => c_73 (e9.mpr q))]; rfl)
  · refine hG.iconst (v := 0) dJ9_startsWith_2_17 rfl ?_
    refine hG.zret dJ9_startsWith_2_18 rfl rfl ?_ (by omega) (by omega) trivial
    refine ⟨?_, rfl, rfl⟩
    have h9 : w.length < p.length := by
      by_cases h9 : p.length ≤ w.length
      · rw [pk_sub h9] at c_14
        exact absurd (nI_pos' (by omega)) c_14
      · omega
    rw [show (kb == 0 && pfx p w) = false from Bool.eq_false_iff.mpr (fun q => by rw [Bool.and_eq_true] at q; have := (pfx_iff.mp q.2).1; omega)]
    rfl
theorem kv_J9_624 : LkV RJ9 624 yJ9_startsWith_2 2 := ⟨q3007, q3008, q3009, q85, by decide +kernel, by decide +kernel, by decide +kernel⟩
set_option maxHeartbeats 4000000 in
set_option maxRecDepth 100000 in
theorem sp_J9_startsWith {l : Launch} {s0 : State} {D : va_G} {I : AI} {L : AL} {o : Option Nat} (hΓ : Gam l s0 D) (hX : StV s0 o) {a b kb : Nat} {w p : List Nat} (ha : StrR I L a 0 w) (hb : StrR I L b kb p) (h7 : p.length ≤ 7) : Spc l s0 D yJ9_startsWith 4 [.ref a, .ref b] I L 0 0 (pV (.int (b2i (kb == 0 && pfx p w))) I L) noX := by
  refine Spc.of hΓ cJ9_startsWith 2 (some FieldType.boolean) q3006 (by decide +kernel) (by decide) (Nat.le_of_ble_eq_true rfl) (fun G GX hG => ?_)
  refine hG.aload_n dJ9_startsWith_0 rfl ?_
  refine hG.aload_n dJ9_startsWith_1 rfl ?_
  refine hG.iconst (v := 0) dJ9_startsWith_2 rfl ?_
  refine hG.callV dJ9_startsWith_3 kv_J9_624 ha.rcv (sp_J9_startsWith_2 hΓ hX ha hb h7) rfl rfl (Nat.le_of_ble_eq_true rfl) (by decide) (by omega) (by omega) (fun r3 I3 L3 hI3 h3 => ?_) (fun _ _ _ _ _ h => h.elim)
  obtain ⟨rfl, rfl, rfl⟩ := h3
  refine hG.zret dJ9_startsWith_6 rfl (b2i_nar _) ?_ (by omega) (by omega) trivial
  exact ⟨rfl, rfl, rfl⟩
theorem ks_J9_647 : LkS RJ9 647 yJ26_indexOf 2 := ⟨q3034, q3035, q106, by decide +kernel, by decide +kernel, by decide +kernel⟩
set_option maxHeartbeats 4000000 in
set_option maxRecDepth 100000 in
theorem sp_J9_indexOf {l : Launch} {s0 : State} {D : va_G} {I : AI} {L : AL} {o : Option Nat} (hΓ : Gam l s0 D) (hX : StV s0 o) {a b kb : Nat} {w p : List Nat} (ha : StrR I L a 0 w) (hb : StrR I L b kb p) (hlen : p.length ≤ w.length) (h0 : 0 < p.length) : Spc l s0 D yJ9_indexOf 3 [.ref a, .ref b] I L 0 0 (fun r I' L' => I = I' ∧ L = L' ∧ ∃ v, r = some (.int v) ∧ (0 ≤ v ↔ (kb == 0 && inf p w) = true)) noX := by
  refine Spc.of hΓ cJ9_indexOf 3 (some FieldType.int) q3033 (by decide +kernel) (by decide) (Nat.le_of_ble_eq_true rfl) (fun G GX hG => ?_)
  have ha := ha
  obtain ⟨ar, ah, az, f, ha1, ha2, ha3, ha4, ha5⟩ := id ha
  obtain ⟨br, bh, bz, g, hb1, hb2, hb3, hb4, hb5⟩ := id hb
  have hka := ha4.le
  have hkb := hb4.le
  refine hG.aload_n dJ9_indexOf_0 rfl ?_
  refine hG.callV dJ9_indexOf_1 kv_J9_335 ha.rcv (sp_J9_coder hΓ hX ha1 (by decide)) rfl rfl (Nat.le_of_ble_eq_true rfl) (by decide) (by omega) (by omega) (fun r1 I1 L1 hI1 h1 => ?_) (fun _ _ _ _ _ h => h.elim)
  obtain ⟨rfl, rfl, rfl⟩ := h1
  refine hG.istore_n dJ9_indexOf_4 (by decide) ?_
  refine hG.iload_n dJ9_indexOf_5 rfl ?_
  refine hG.aload_n dJ9_indexOf_6 rfl ?_
  refine hG.callV dJ9_indexOf_7 kv_J9_335 hb.rcv (sp_J9_coder hΓ hX hb1 hkb) rfl rfl (Nat.le_of_ble_eq_true rfl) (by decide) (by omega) (by omega) (fun r7 I7 L7 hI7 h7 => ?_) (fun _ _ _ _ _ h => h.elim)
  obtain ⟨rfl, rfl, rfl⟩ := h7
  refine hG.icmp_ne (tgt := 46) dJ9_indexOf_10 rfl (fun c_10 => ?_) (fun c_10 => ?_)
  · refine hG.iload_n dJ9_indexOf_46 rfl ?_
    refine hG.if_ne (tgt := 52) dJ9_indexOf_47 rfl (fun c_47 => absurd rfl c_47) (fun c_47 => ?_)
    refine hG.iconst (v := -1) dJ9_indexOf_50 rfl ?_
    refine hG.iret dJ9_indexOf_51 rfl ?_ (by omega) (by omega) trivial
    refine ⟨rfl, rfl, _, rfl, ?_⟩
    rw [show (kb == 0) = false from beq_eq_false_iff_ne.mpr (fun e => c_10 (by rw [e]))]
    exact ⟨fun q => absurd q (by decide), fun q => by cases q⟩
  · have hk0 : kb = 0 := ((nI_eq (a := 0) (b := kb) (by decide) (by omega)).mp c_10).symm
    subst hk0
    refine hG.aload_n dJ9_indexOf_13 rfl ?_
    refine hG.callV dJ9_indexOf_14 kv_J9_492 ha.rcv (sp_J9_isLatin1 hΓ hX ha1 (by decide)) rfl rfl (Nat.le_of_ble_eq_true rfl) (by decide) (by omega) (by omega) (fun r14 I14 L14 hI14 h14 => ?_) (fun _ _ _ _ _ h => h.elim)
    obtain ⟨rfl, rfl, rfl⟩ := h14
    refine hG.if_eq (tgt := 34) dJ9_indexOf_17 rfl (fun c_17 => absurd c_17 (by decide)) (fun c_17 => ?_)
    refine hG.aload_n dJ9_indexOf_20 rfl ?_
    refine hG.get dJ9_indexOf_21 fg_J9_9_J9 ha1 rfl ?_
    refine hG.aload_n dJ9_indexOf_24 rfl ?_
    refine hG.get dJ9_indexOf_25 fg_J9_9_J9 hb1 rfl ?_
    refine hG.callS dJ9_indexOf_28 ks_J9_647 (sp_J26_indexOf hΓ ha2 hb2 (by omega) (by omega) (by omega) (by omega)) rfl rfl (Nat.le_of_ble_eq_true rfl) (by decide) (by omega) (by omega) (fun r28 I28 L28 hI28 h28 => ?_) (fun _ _ _ _ _ h => h.elim)
    obtain ⟨rfl, rfl, v, rfl, hv⟩ := h28
    refine hG.goto (tgt := 45) dJ9_indexOf_31 rfl ?_
    refine hG.iret dJ9_indexOf_45 rfl ?_ (by omega) (by omega) trivial
    refine ⟨rfl, rfl, v, rfl, ?_⟩
    rw [hv, show ((0 : Nat) == 0 && inf p w) = inf p w from rfl, inf_iff hlen]
    constructor
    · rintro ⟨t, q1, q2⟩
      exact ⟨t, by omega, fun u hu => (bs_eq ha3 hb3 ha4 hb4 (by omega) hu).mp (q2 u (by omega))⟩
    · rintro ⟨t, q1, q2⟩
      exact ⟨t, by omega, fun u hu => (bs_eq ha3 hb3 ha4 hb4 (by omega) (by omega)).mpr (q2 u (by omega))⟩
set_option maxHeartbeats 4000000 in
set_option maxRecDepth 100000 in
theorem sp_J9_toString {l : Launch} {s0 : State} {D : va_G} {I : AI} {L : AL} (hΓ : Gam l s0 D) {a : Nat} : Spc l s0 D yJ9_toString 1 [.ref a] I L 0 0 (pV (.ref a) I L) noX := by
  refine Spc.of hΓ cJ9_toString 1 (some (FieldType.object "java/lang/String")) q2721 (by decide +kernel) (by decide) (Nat.le_of_ble_eq_true rfl) (fun G GX hG => ?_)
  refine hG.aload_n dJ9_toString_0 rfl ?_
  refine hG.aret dJ9_toString_1 rfl (by first | exact Or.inl ⟨_, rfl⟩ | exact Or.inr ⟨_, rfl⟩) (by first | exact Or.inr ⟨_, rfl⟩ | exact Or.inl rfl) ?_ (by omega) (by omega) trivial
  exact ⟨rfl, rfl, rfl⟩
theorem kf_J9_710_J9 : LkF RJ9 710 RJ9 ⟨"java/lang/CharSequence", "toString", "()Ljava/lang/String;"⟩ yJ9_toString 0 := ⟨q3021, q3024, q2720, q85, ⟨by decide +kernel, by decide +kernel, by decide +kernel⟩, q3023, q3022, q3026, q3025, q2733⟩
theorem kv_J9_711 : LkV RJ9 711 yJ9_indexOf 1 := ⟨q3030, q3031, q3032, q85, by decide +kernel, by decide +kernel, by decide +kernel⟩
set_option maxHeartbeats 4000000 in
set_option maxRecDepth 100000 in
theorem sp_J9_contains {l : Launch} {s0 : State} {D : va_G} {I : AI} {L : AL} {o : Option Nat} (hΓ : Gam l s0 D) (hX : StV s0 o) {a b kb : Nat} {w p : List Nat} (ha : StrR I L a 0 w) (hb : StrR I L b kb p) (hlen : p.length ≤ w.length) (h0 : 0 < p.length) : Spc l s0 D yJ9_contains 4 [.ref a, .ref b] I L 0 0 (pV (.int (b2i (kb == 0 && inf p w))) I L) noX := by
  refine Spc.of hΓ cJ9_contains 2 (some FieldType.boolean) q3019 (by decide +kernel) (by decide) (Nat.le_of_ble_eq_true rfl) (fun G GX hG => ?_)
  refine hG.aload_n dJ9_contains_0 rfl ?_
  refine hG.aload_n dJ9_contains_1 rfl ?_
  refine hG.callF dJ9_contains_2 kf_J9_710_J9 hb.rcv cl_J9 (sp_J9_toString hΓ) rfl rfl (Nat.le_of_ble_eq_true rfl) (by decide) (by omega) (by omega) (fun r2 I2 L2 hI2 h2 => ?_) (fun _ _ _ _ _ h => h.elim)
  obtain ⟨rfl, rfl, rfl⟩ := h2
  refine hG.callV dJ9_contains_7 kv_J9_711 ha.rcv (sp_J9_indexOf hΓ hX ha hb hlen h0) rfl rfl (Nat.le_of_ble_eq_true rfl) (by decide) (by omega) (by omega) (fun r7 I7 L7 hI7 h7 => ?_) (fun _ _ _ _ _ h => h.elim)
  obtain ⟨rfl, rfl, v, rfl, hv⟩ := h7
  refine hG.if_lt (tgt := 17) dJ9_contains_10 rfl (fun c_10 => ?_) (fun c_10 => ?_)
  · refine hG.iconst (v := 0) dJ9_contains_17 rfl ?_
    refine hG.zret dJ9_contains_18 rfl rfl ?_ (by omega) (by omega) trivial
    first
    | exact ⟨by rw [show (kb == 0 && inf p w) = false from Bool.eq_false_iff.mpr (fun q => absurd c_10 (Int32.not_lt.mpr (hv.mpr q)))]; rfl, rfl, rfl⟩
    | exact ⟨by rw [hv.mp (Int32.not_lt.mp c_10)]; rfl, rfl, rfl⟩
  · refine hG.iconst (v := 1) dJ9_contains_13 rfl ?_
    refine hG.goto (tgt := 18) dJ9_contains_14 rfl ?_
    refine hG.zret dJ9_contains_18 rfl rfl ?_ (by omega) (by omega) trivial
    first
    | exact ⟨by rw [show (kb == 0 && inf p w) = false from Bool.eq_false_iff.mpr (fun q => absurd c_10 (Int32.not_lt.mpr (hv.mpr q)))]; rfl, rfl, rfl⟩
    | exact ⟨by rw [hv.mp (Int32.not_lt.mp c_10)]; rfl, rfl, rfl⟩
theorem ks_J9_541 : LkS RJ9 541 yJ26_equals 2 := ⟨q1152, q1153, q106, by decide +kernel, by decide +kernel, by decide +kernel⟩
set_option maxHeartbeats 4000000 in
set_option maxRecDepth 100000 in
theorem sp_J9_equals {l : Launch} {s0 : State} {D : va_G} {I : AI} {L : AL} {o : Option Nat} (hΓ : Gam l s0 D) (hX : StV s0 o) {a b : Nat} {w p : List Nat} (ha : StrR I L a 0 w) (hb : StrR I L b 0 p) (hu : a = b → w = p) : Spc l s0 D yJ9_equals 2 [.ref a, .ref b] I L 0 0 (pV (.int (b2i (decide (w = p)))) I L) noX := by
  refine Spc.of hΓ cJ9_equals 3 (some FieldType.boolean) q1150 (by decide +kernel) (by decide) (Nat.le_of_ble_eq_true rfl) (fun G GX hG => ?_)
  have ha := ha
  obtain ⟨ar, ah, az, f, ha1, ha2, ha3, ha4, ha5⟩ := id ha
  obtain ⟨br, bh, bz, g, hb1, hb2, hb3, hb4, hb5⟩ := id hb
  have hka := ha4.le
  have hkb := hb4.le
  refine hG.aload_n dJ9_equals_0 rfl ?_
  refine hG.aload_n dJ9_equals_1 rfl ?_
  refine hG.acmp_ne (tgt := 7) dJ9_equals_2 rfl (fun c_2 => ?_) (fun c_2 => ?_)
  · refine hG.aload_n dJ9_equals_7 rfl ?_
    refine hG.instS dJ9_equals_8 q1151 hb.rcv cl_J9 ?_
    refine hG.if_eq (tgt := 54) dJ9_equals_11 rfl (fun c_11 => absurd c_11 (by decide)) (fun c_11 => ?_)
    refine hG.aload_n dJ9_equals_14 rfl ?_
    refine hG.castS dJ9_equals_15 q1151 hb.rcv cl_J9 ?_
    refine hG.astore_n dJ9_equals_18 (by decide) ?_
    refine hG.gets dJ9_equals_19 hX.cs q830 (Or.inl rfl) ?_
    refine hG.if_eq (tgt := 36) dJ9_equals_22 rfl (fun c_22 => absurd c_22 (by decide)) (fun c_22 => ?_)
    refine hG.aload_n dJ9_equals_25 rfl ?_
    refine hG.get dJ9_equals_26 fg_J9_15_J9 ha1 rfl ?_
    refine hG.aload_n dJ9_equals_29 rfl ?_
    refine hG.get dJ9_equals_30 fg_J9_15_J9 hb1 rfl ?_
    refine hG.icmp_ne (tgt := 54) dJ9_equals_33 rfl (fun c_33 => absurd rfl c_33) (fun c_33 => ?_)
    refine hG.aload_n dJ9_equals_36 rfl ?_
    refine hG.get dJ9_equals_37 fg_J9_9_J9 ha1 rfl ?_
    refine hG.aload_n dJ9_equals_40 rfl ?_
    refine hG.get dJ9_equals_41 fg_J9_9_J9 hb1 rfl ?_
    refine hG.callS dJ9_equals_44 ks_J9_541 (sp_J26_equals hΓ ha2 hb2 (by omega) (by omega)) rfl rfl (Nat.le_of_ble_eq_true rfl) (by decide) (by omega) (by omega) (fun r44 I44 L44 hI44 h44 => ?_) (fun _ _ _ _ _ h => h.elim)
    obtain ⟨rfl, rfl, rfl⟩ := h44
    refine hG.if_eq (tgt := 54) dJ9_equals_47 rfl (fun c_47 => ?_) (fun c_47 => ?_)
    · refine hG.iconst (v := 0) dJ9_equals_54 rfl ?_
      refine hG.zret dJ9_equals_55 rfl rfl ?_ (by omega) (by omega) trivial
      have e9 : (w.length * (0 + 1) = p.length * (0 + 1) ∧ ∀ t, t < w.length * (0 + 1) → f t = g t) ↔ w = p := by
        rw [list_ext]
        constructor
        · rintro ⟨q1, q2⟩
          exact ⟨by omega, fun t ht => (bs_eq ha3 hb3 ha4 hb4 ht (by omega)).mp (q2 t (by omega))⟩
        · rintro ⟨q1, q2⟩
          exact ⟨by omega, fun t ht => (bs_eq ha3 hb3 ha4 hb4 (by omega) (by omega)).mpr (q2 t (by omega))⟩
      refine ⟨?_, rfl, rfl⟩
      rw [decide_eq_decide.mpr e9] at c_47
      first
      | (rw [show decide (w = p) = false from by cases h9 : decide (w = p) with | false => rfl | true => rw [h9] at c_47; exact absurd c_47 (by decide)]; rfl)
      | (rw [show decide (w = p) = true from by cases h9 : decide (w = p) with | true => rfl | false => rw [h9] at c_47; exact absurd rfl c_47]; rfl)
    · refine hG.iconst (v := 1) dJ9_equals_50 rfl ?_
      refine hG.goto (tgt := 55) dJ9_equals_51 rfl ?_
      refine hG.zret dJ9_equals_55 rfl rfl ?_ (by omega) (by omega) trivial
      have e9 : (w.length * (0 + 1) = p.length * (0 + 1) ∧ ∀ t, t < w.length * (0 + 1) → f t = g t) ↔ w = p := by
        rw [list_ext]
        constructor
        · rintro ⟨q1, q2⟩
          exact ⟨by omega, fun t ht => (bs_eq ha3 hb3 ha4 hb4 ht (by omega)).mp (q2 t (by omega))⟩
        · rintro ⟨q1, q2⟩
          exact ⟨by omega, fun t ht => (bs_eq ha3 hb3 ha4 hb4 (by omega) (by omega)).mpr (q2 t (by omega))⟩
      refine ⟨?_, rfl, rfl⟩
      rw [decide_eq_decide.mpr e9] at c_47
      first
      | (rw [show decide (w = p) = false from by cases h9 : decide (w = p) with | false => rfl | true => rw [h9] at c_47; exact absurd c_47 (by decide)]; rfl)
      | (rw [show decide (w = p) = true from by cases h9 : decide (w = p) with | true => rfl | false => rw [h9] at c_47; exact absurd rfl c_47]; rfl)
  · refine hG.iconst (v := 1) dJ9_equals_5 rfl ?_
    refine hG.zret dJ9_equals_6 rfl rfl ?_ (by omega) (by omega) trivial
    exact ⟨by rw [show decide (w = p) = true from decide_eq_true (hu c_2)]; rfl, rfl, rfl⟩
