/-! strings made -/
/-- a string just made: its cell is ours, its bytes are frozen -/
def NewS (I' : AI) (L L' : AL) (q k : Nat) (cs : List Nat) : Prop := ∃ (arr : Nat) (f : Nat → Int32), L q = none ∧ L' = up1 L q (some (obC ciJ9 [.ref arr, .int (nI k), .int 0, .int 0])) ∧ I' arr (arB (cs.length * (k + 1)) f) ∧ Bs f (enc k cs) ∧ Cok k cs ∧ cs.length ≤ 1000
theorem NewS.r {I' : AI} {L L' : AL} {q k : Nat} {cs : List Nat} (h : NewS I' L L' q k cs) : StrR I' L' q k cs := by
  obtain ⟨arr, f, h1, rfl, h2, h3⟩ := h
  exact ⟨arr, 0, 0, f, Or.inl up1_s, Or.inr h2, h3⟩
theorem frI_in {I : AI} {a : Nat} {e : E1} : frI I a e a e := Or.inr ⟨rfl, rfl⟩
set_option maxHeartbeats 4000000 in
set_option maxRecDepth 100000 in
theorem sp_J26_newString0 {l : Launch} {s0 : State} {D : va_G} {I : AI} {L : AL} {o : Option Nat} (hΓ : Gam l s0 D) (hT : StX s0 D o) {arr i : Nat} : Spc l s0 D yJ26_newString 4 [.ref arr, .int (nI i), .int 0] I L 0 0 (fun r I' L' => ∃ q, r = some (.ref q) ∧ I = I' ∧ L = L' ∧ StrI I' q 0 []) noX := by
  refine Spc.of hΓ cJ26_newString 3 (some (FieldType.object "java/lang/String")) q2984 (by decide +kernel) (by decide) (Nat.le_of_ble_eq_true rfl) (fun G GX hG => ?_)
  have hX := hT.v
  refine hG.iload_n dJ26_newString_0 rfl ?_
  refine hG.if_ne (tgt := 7) dJ26_newString_1 rfl (fun c_1 => absurd rfl c_1) (fun c_1 => ?_)
  refine hG.ldcT dJ26_newString_4 (hT.tx 37 rfl) (fun s4 hs4 => ?_)
  refine hG.aret dJ26_newString_6 rfl (by first | exact Or.inl ⟨_, rfl⟩ | exact Or.inr ⟨_, rfl⟩) (by first | exact Or.inr ⟨_, rfl⟩ | exact Or.inl rfl) ?_ (by omega) (by omega) trivial
  exact ⟨_, rfl, rfl, rfl, hs4⟩
theorem nw_J26_1 : LkN RJ26 1 ciJ9 [.null, .int 0, .int 0, .int 0] 4 := ⟨RJ9, TJ9, tyJ9, cls_J9, q2986, q1020, q85, rfl, fun j hj => by
  match j, hj with
  | 0, _ => rfl
  | 1, _ => rfl
  | 2, _ => rfl
  | 3, _ => rfl
  | _ + 4, h => exact absurd h (by omega)⟩
theorem ks_J26_232 : LkS RJ26 232 yJ19_copyOfRange 3 := ⟨q2987, q1043, q98, by decide +kernel, by decide +kernel, by decide +kernel⟩
theorem ki_J26_112 : LkI RJ26 112 yJ9_init_3 2 := ⟨q2988, q2716, q85, rfl, ⟨by decide +kernel, by decide +kernel, by decide +kernel⟩, by decide +kernel⟩
set_option maxHeartbeats 4000000 in
set_option maxRecDepth 100000 in
theorem sp_J26_newString {l : Launch} {s0 : State} {D : va_G} {I : AI} {L : AL} {o : Option Nat} (hΓ : Gam l s0 D) (hX : StV s0 o) {arr n : Nat} {f : Nat → Int32} (ha : Rd I L arr (arB n f)) (hn : n < 2 ^ 28) {i : Nat} {cs : List Nat} (hF : Fb n f) (hi : i + cs.length ≤ n) (hne : i = 0 → i + cs.length ≠ n) (h0 : 0 < cs.length) (hl : cs.length ≤ 1000) (hb : ∀ t c, cs[t]? = some c → f (i + t) = byt c) (hc : ∀ c ∈ cs, c < 256) : Spc l s0 D yJ26_newString 4 [.ref arr, .int (nI i), .int (nI cs.length)] I L 2 (4 + cs.length) (fun r I' L' => ∃ q, r = some (.ref q) ∧ NewS I' L L' q 0 cs) noX := by
  refine Spc.of hΓ cJ26_newString 3 (some (FieldType.object "java/lang/String")) q2984 (by decide +kernel) (by decide) (Nat.le_of_ble_eq_true rfl) (fun G GX hG => ?_)
  refine hG.iload_n dJ26_newString_0 rfl ?_
  refine hG.if_ne (tgt := 7) dJ26_newString_1 rfl (fun c_1 => ?_) (fun c_1 => absurd c_1 (nI_ne0 h0 (by omega)))
  refine hG.new dJ26_newString_7 nw_J26_1 (by omega) (by omega) (fun q7 hLq7 hIq7 => ?_)
  refine hG.dup dJ26_newString_10 rfl ?_
  refine hG.aload_n dJ26_newString_11 rfl ?_
  refine hG.iload_n dJ26_newString_12 rfl ?_
  refine hG.iload_n dJ26_newString_13 rfl ?_
  refine hG.iload_n dJ26_newString_14 rfl ?_
  refine hG.iadd dJ26_newString_15 ?_
  rw [nI_add]
  refine hG.callS dJ26_newString_16 ks_J26_232 (sp_J19_copyOfRange hΓ (ha.new hLq7 _) (by omega) (Nat.le_add_right i cs.length) hi hne hF) rfl rfl (Nat.le_of_ble_eq_true rfl) (by decide) (by omega) (by omega) (fun r16 I16 L16 hI16 h16 => ?_) (fun _ _ _ _ _ h => h.elim)
  rw [Nat.add_sub_cancel_left] at h16
  obtain ⟨rfl, q, g, rfl, h1, rfl, h2⟩ := h16
  refine hG.iconst (v := 0) dJ26_newString_19 rfl ?_
  refine hG.callI dJ26_newString_20 ki_J26_112 (sp_J9_init_3 (k := 0) hΓ (by decide) ((up1_n (ne_none up1_s h1)).trans up1_s)) rfl rfl (Nat.le_of_ble_eq_true rfl) (by decide) (by omega) (by omega) (fun r20 I20 L20 hI20 h20 => ?_) (fun _ _ _ _ _ h => h.elim)
  obtain ⟨rfl, rfl, rfl⟩ := h20
  have hL9 : L q = none := (up1_n (ne_none up1_s h1).symm).symm.trans h1
  refine hG.fr (a := q) (e1 := arB (cs.length) g) (by rw [up1_n (ne_none up1_s h1).symm, up1_s]) ?_
  rw [up_fr (ne_none up1_s h1).symm hL9]
  refine hG.aret dJ26_newString_23 rfl (by first | exact Or.inl ⟨_, rfl⟩ | exact Or.inr ⟨_, rfl⟩) (by first | exact Or.inr ⟨_, rfl⟩ | exact Or.inl rfl) ?_ (by omega) (by omega) trivial
  refine ⟨q7, rfl, q, g, hLq7, rfl, by rw [Nat.zero_add, Nat.mul_one]; exact frI_in, fun t b hb9 => ?_, Or.inl ⟨rfl, hc⟩, hl⟩
  rw [enc0] at hb9
  cases hct : cs[t]? with
  | none => rw [hct] at hb9; cases hb9
  | some c =>
    rw [hct] at hb9
    rw [h2 t (List.getElem?_eq_some_iff.mp hct).1, hb t c hct]
    exact Option.some.inj hb9
theorem ks_J10_173 : LkS RJ10 173 yJ10_checkBoundsOffCount 3 := ⟨q975, q976, q86, by decide +kernel, by decide +kernel, by decide +kernel⟩
set_option maxHeartbeats 4000000 in
set_option maxRecDepth 100000 in
theorem sp_J10_inflate {l : Launch} {s0 : State} {D : va_G} {I : AI} {L : AL} {o : Option Nat} (hΓ : Gam l s0 D) (hX : StV s0 o) {src dst n m so du len : Nat} {f g0 : Nat → Int32} {ch : Nat → Nat} (hs : Rd I L src (arB n f)) (hd : L dst = some (.inl (arB m g0))) (hne : src ≠ dst) (h1 : so + len ≤ n) (h2 : 2 * (du + len) ≤ m) (hn : n < 2 ^ 28) (hm : m < 2 ^ 28) (hch : ∀ t, t < len → f (so + t) = byt (ch t) ∧ ch t < 256) : Spc l s0 D yJ10_inflate 4 [.ref src, .int (nI so), .ref dst, .int (nI du), .int (nI len)] I L 0 0 (fun r I' L' => r = none ∧ I = I' ∧ ∃ g : Nat → Int32, L' = up1 L dst (some (.inl (arB m g))) ∧ (∀ t, t < len → g (2 * (du + t)) = byt (ch t) ∧ g (2 * (du + t) + 1) = hib (ch t)) ∧ ∀ j, (j < 2 * du ∨ 2 * (du + len) ≤ j) → g j = g0 j) noX := by
  refine Spc.of hΓ cJ10_inflate 6 none q974 (by decide +kernel) (by decide) (Nat.le_of_ble_eq_true rfl) (fun G GX hG => ?_)
  have loop : ∀ (w i : Nat) (g : Nat → Int32) (L1 : AL), i + w = len → L1 = up1 L dst (some (.inl (arB m g))) → ((∀ t, t < i → g (2 * (du + t)) = byt (ch t) ∧ g (2 * (du + t) + 1) = hib (ch t)) ∧ ∀ j, (j < 2 * du ∨ 2 * (du + i) ≤ j) → g j = g0 j) → G 10 [(0, .ref src), (1, .int (nI (so + i))), (2, .ref dst), (3, .int (nI (du + i))), (4, .int (nI len)), (5, .int (nI i))] [] I L1 0 0 := by
    intro w
    induction w with
    | zero =>
      intro i g L1 hiw hL1 hg
      subst hL1
      refine hG.iload dJ10_inflate_10 rfl ?_
      refine hG.iload dJ10_inflate_12 rfl ?_
      refine hG.icmp_ge (tgt := 41) dJ10_inflate_14 rfl (fun c_14 => ?_) (fun c_14 => absurd (nI_le (by omega) (by omega)) c_14)
      refine hG.vret dJ10_inflate_41 rfl ?_ (by omega) (by omega) trivial
      cases (show i = len by omega)
      exact ⟨rfl, rfl, g, rfl, hg⟩
    | succ w ih =>
      intro i g L1 hiw hL1 hg
      subst hL1
      refine hG.iload dJ10_inflate_10 rfl ?_
      refine hG.iload dJ10_inflate_12 rfl ?_
      refine hG.icmp_ge (tgt := 41) dJ10_inflate_14 rfl (fun c_14 => absurd c_14 (nI_ge (by omega) (by omega))) (fun c_14 => ?_)
      refine hG.aload_n dJ10_inflate_17 rfl ?_
      refine hG.iload_n dJ10_inflate_18 rfl ?_
      refine hG.iinc dJ10_inflate_19 rfl (by decide) ?_
      refine hG.aload_n dJ10_inflate_22 rfl ?_
      refine hG.iload_n dJ10_inflate_23 rfl ?_
      refine hG.iinc dJ10_inflate_24 rfl (by decide) ?_
      refine hG.bald dJ10_inflate_27 (hs.imp (fun h => (up1_n hne).trans h) id) (vp_in_nI (n := so + i) (by omega) (by omega)) ?_
      rw [nI_clamp (by omega), (hch i (by omega)).1]
      refine hG.sipush (v := 255) dJ10_inflate_28 rfl ?_
      refine hG.iand dJ10_inflate_31 ?_
      rw [byt_and, Nat.mod_eq_of_lt (hch i (by omega)).2]
      refine hG.callS dJ10_inflate_32 ks_J10_111 (sp_J10_putChar hΓ hX (c := ch i) up1_s (by omega) (by omega) (by have := (hch i (by omega)).2; omega)) rfl rfl (Nat.le_of_ble_eq_true rfl) (by decide) (by omega) (by omega) (fun r32 I32 L32 hI32 h32 => ?_) (fun _ _ _ _ _ h => h.elim)
      obtain ⟨rfl, rfl, rfl⟩ := h32
      rw [up1_up1]
      refine hG.iinc dJ10_inflate_35 rfl (by decide) ?_
      refine hG.goto (tgt := 10) dJ10_inflate_38 rfl ?_
      refine hG.lsb [(0, .ref src), (1, .int (nI (so + (i + 1)))), (2, .ref dst), (3, .int (nI (du + (i + 1)))), (4, .int (nI len)), (5, .int (nI (i + 1)))] ⟨rfl, ?_, rfl, ?_, rfl, ?_, trivial⟩ (ih (i + 1) _ _ (by omega) rfl ⟨fun t ht => ?_, fun j hj => ?_⟩)
      · show some (Value.int (nI (so + i) + Int32.ofInt 1)) = _
        rw [show nI (so + i) + Int32.ofInt 1 = nI (so + (i + 1)) from nI_add _ 1]
      · show some (Value.int (nI (du + i) + Int32.ofInt 1)) = _
        rw [show nI (du + i) + Int32.ofInt 1 = nI (du + (i + 1)) from nI_add _ 1]
      · show some (Value.int (nI i + Int32.ofInt 1)) = _
        rw [show nI i + Int32.ofInt 1 = nI (i + 1) from nI_add _ 1]
      · by_cases hti : t = i
        · subst hti
          exact ⟨(pk_un (by omega)).trans pk_us, pk_us⟩
        · obtain ⟨a1, a2⟩ := hg.1 t (by omega)
          exact ⟨((pk_un (by omega)).trans (pk_un (by omega))).trans a1, ((pk_un (by omega)).trans (pk_un (by omega))).trans a2⟩
      · exact ((pk_un (by omega)).trans (pk_un (by omega))).trans (hg.2 j (by omega))
  refine hG.iload_n dJ10_inflate_0 rfl ?_
  refine hG.iload dJ10_inflate_1 rfl ?_
  refine hG.aload_n dJ10_inflate_3 rfl ?_
  refine hG.callS dJ10_inflate_4 ks_J10_173 (sp_J10_checkBoundsOffCount hΓ hX (Or.inl hd) (by omega) (by omega)) rfl rfl (Nat.le_of_ble_eq_true rfl) (by decide) (by omega) (by omega) (fun r4 I4 L4 hI4 h4 => ?_) (fun _ _ _ _ _ h => h.elim)
  obtain ⟨rfl, rfl, rfl⟩ := h4
  refine hG.iconst (v := 0) dJ10_inflate_7 rfl ?_
  refine hG.istore dJ10_inflate_8 (by decide) ?_
  exact hG.lsb [(0, .ref src), (1, .int (nI so)), (2, .ref dst), (3, .int (nI du)), (4, .int (nI len)), (5, .int (nI 0))] ⟨rfl, rfl, rfl, rfl, rfl, rfl, trivial⟩ (loop len 0 g0 _ (by omega) (by rw [← hd, up1_self]) ⟨fun t ht => absurd ht (Nat.not_lt_zero t), fun j _ => rfl⟩)
theorem ks_J26_240 : LkS RJ26 240 yJ10_inflate 5 := ⟨q972, q973, q86, by decide +kernel, by decide +kernel, by decide +kernel⟩
set_option maxHeartbeats 4000000 in
set_option maxRecDepth 100000 in
theorem sp_J26_inflate {l : Launch} {s0 : State} {D : va_G} {I : AI} {L : AL} {o : Option Nat} (hΓ : Gam l s0 D) (hX : StV s0 o) {src dst n m so du len : Nat} {f g0 : Nat → Int32} {ch : Nat → Nat} (hs : Rd I L src (arB n f)) (hd : L dst = some (.inl (arB m g0))) (hne : src ≠ dst) (h1 : so + len ≤ n) (h2 : 2 * (du + len) ≤ m) (hn : n < 2 ^ 28) (hm : m < 2 ^ 28) (hch : ∀ t, t < len → f (so + t) = byt (ch t) ∧ ch t < 256) : Spc l s0 D yJ26_inflate 5 [.ref src, .int (nI so), .ref dst, .int (nI du), .int (nI len)] I L 0 0 (fun r I' L' => r = none ∧ I = I' ∧ ∃ g : Nat → Int32, L' = up1 L dst (some (.inl (arB m g))) ∧ (∀ t, t < len → g (2 * (du + t)) = byt (ch t) ∧ g (2 * (du + t) + 1) = hib (ch t)) ∧ ∀ j, (j < 2 * du ∨ 2 * (du + len) ≤ j) → g j = g0 j) noX := by
  refine Spc.of hΓ cJ26_inflate 5 none q971 (by decide +kernel) (by decide) (Nat.le_of_ble_eq_true rfl) (fun G GX hG => ?_)
  refine hG.aload_n dJ26_inflate_0 rfl ?_
  refine hG.iload_n dJ26_inflate_1 rfl ?_
  refine hG.aload_n dJ26_inflate_2 rfl ?_
  refine hG.iload_n dJ26_inflate_3 rfl ?_
  refine hG.iload dJ26_inflate_4 rfl ?_
  refine hG.callS dJ26_inflate_6 ks_J26_240 (sp_J10_inflate hΓ hX hs hd hne h1 h2 hn hm hch) rfl rfl (Nat.le_of_ble_eq_true rfl) (by decide) (by omega) (by omega) (fun r6 I6 L6 hI6 h6 => ?_) (fun _ _ _ _ _ h => h.elim)
  obtain ⟨rfl, rfl, g, rfl, hg⟩ := h6
  refine hG.vret dJ26_inflate_9 rfl ?_ (by omega) (by omega) trivial
  exact ⟨rfl, rfl, g, rfl, hg⟩
