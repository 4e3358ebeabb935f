/-! the model writes -/
theorem nI_div {a b : Nat} (ha : a < 100000000) (hb : b < 100000000) : nI a / nI b = nI (a / b) := by
  apply Int32.toInt_inj.mp
  have hd : a / b < 100000000 := Nat.lt_of_le_of_lt (Nat.div_le_self a b) ha
  rw [Int32.toInt_div, nI_toInt (by omega), nI_toInt (by omega), nI_toInt (by omega), Int.tdiv_eq_ediv_of_nonneg (by omega), show ((a : Int) / (b : Int)) = ((a / b : Nat) : Int) from (Int.natCast_ediv a b).symm]
  generalize a / b = q at hd ⊢
  exact bm (by omega) (by omega)
theorem nI_sub {a b : Nat} (hb : b ≤ a) (ha : a < 100000000) : nI a - nI b = nI (a - b) := by
  apply Int32.toInt_inj.mp
  rw [t_sub (by rw [nI_toInt (by omega), nI_toInt (by omega)]; omega) (by rw [nI_toInt (by omega), nI_toInt (by omega)]; omega), nI_toInt (by omega), nI_toInt (by omega), nI_toInt (by omega)]
  omega
theorem nI_mul {a b : Nat} : nI a * nI b = nI (a * b) := pk_mul a b
theorem nI_mod {a b : Nat} (ha : a < 100000000) (hb : b < 100000000) : nI a - nI a / nI b * nI b = nI (a % b) := by
  have h1 := Nat.div_add_mod a b
  have h2 : a / b * b = b * (a / b) := Nat.mul_comm _ _
  rw [nI_div ha hb, nI_mul, nI_sub (by omega) ha]
  congr 1
  omega
abbrev VL (V : MV) (f : Nat → Int32) (d : Int32) : MV := (V.wLn f).wLd d
theorem vl_d {V : MV} {f : Nat → Int32} {d e : Int32} : (VL V f d).wLd e = VL V f e := rfl
theorem vl_f {V : MV} {f g : Nat → Int32} {d : Int32} : (VL V f d).wLn g = VL V g d := rfl
theorem vl_ld {V : MV} {f : Nat → Int32} {d : Int32} : (VL V f d).ld = d := rfl
theorem vl_ln {V : MV} {f : Nat → Int32} {d : Int32} : (VL V f d).ln = f := rfl
theorem vl_nw {V : MV} {f : Nat → Int32} {d : Int32} : (VL V f d).nw = V.nw := rfl
theorem vl_kp {V : MV} {f : Nat → Int32} {d : Int32} : (VL V f d).kp = V.kp := rfl
theorem vl_un {V : MV} {f : Nat → Int32} {d : Int32} : (VL V f d).un = V.un := rfl
theorem vl_le {V : MV} {f : Nat → Int32} {d : Int32} : (VL V f d).le = V.le := rfl
theorem vl_tx {V : MV} {f : Nat → Int32} {d : Int32} : (VL V f d).tx = V.tx := rfl
theorem vl_fa {V : MV} {f : Nat → Int32} {d : Int32} : (VL V f d).fa = V.fa := rfl
theorem vl_re {V : MV} {f : Nat → Int32} {d : Int32} : (VL V f d).re = V.re := rfl
theorem vl_de {V : MV} {f : Nat → Int32} {d : Int32} : (VL V f d).de = V.de := rfl
theorem vl_is {V : MV} {f : Nat → Int32} {d : Int32} : (VL V f d).is = V.is := rfl
theorem vl_sv {V : MV} {f : Nat → Int32} {d : Int32} : (VL V f d).sv = V.sv := rfl
theorem vl_th {V : MV} {f : Nat → Int32} {d : Int32} : (VL V f d).th = V.th := rfl
def LnA (a : List Nat) (f : Nat → Int32) (d : Int32) : Prop := d = nI a.length ∧ ∀ i c, a[i]? = some c → f i = nI c
theorem Mr.vl {N : Nat} {F : Fy} {V : MV} {f : Nat → Int32} {d : Int32} {u : List Nat} (h : Mr N F V) (hL : LnA u f d) : Mr N (F.wLi (u.map nI)) (VL V f d) := by
  unfold Mr at h ⊢
  rw [vl_nw, vl_kp, vl_un, vl_le, vl_tx, vl_ld, vl_ln, vl_fa, vl_re, vl_de, vl_is, vl_sv]
  obtain ⟨h1, h2, h3, h4, h5, -, -, h8, h9, h10, h11⟩ := h
  refine ⟨h1, h2, h3, h4, h5, by rw [List.length_map]; exact hL.1, fun i c hc => ?_, h8, h9, h10, h11⟩
  have hc : (List.map nI u)[i]? = some c := hc
  rw [List.getElem?_map] at hc
  cases hq : u[i]? with
  | none => rw [hq] at hc; cases hc
  | some c9 =>
    rw [hq] at hc
    cases hc
    exact hL.2 i c9 hq
theorem LnA.snoc {a : List Nat} {f : Nat → Int32} {d : Int32} {c : Nat} (h : LnA a f d) : LnA (a ++ [c]) (va_up f a.length (nI c)) (nI (a.length + 1)) := by
  refine ⟨by rw [List.length_append, List.length_singleton], fun i e he => ?_⟩
  by_cases hi : i < a.length
  · rw [List.getElem?_append_left hi] at he
    exact (va_ne (by omega)).trans (h.2 i e he)
  · rw [List.getElem?_append_right (by omega)] at he
    have h0 : i - a.length = 0 := by
      have := (List.getElem?_eq_some_iff.mp he).1
      simp at this
      omega
    rw [h0] at he
    cases he
    exact va_eq (by omega)
theorem kv_X4_178 : LkV RX4 178 yJ9_length 0 := ⟨q3527, q949, q950, q85, by decide +kernel, by decide +kernel, by decide +kernel⟩
theorem fp_X4_181_X4 {nm : String} : LkP RX4 nm 181 ciX4 10 (tyX4 10) := ⟨RX4, TX4, 21, tyX4, _, cls_X4, by decide, rfl, Or.inl rfl, Or.inl ⟨rfl, q3280⟩⟩
theorem kv_X4_184 : LkV RX4 184 yJ9_charAt 1 := ⟨q3528, q2755, q3674, q85, by decide +kernel, by decide +kernel, by decide +kernel⟩
set_option maxHeartbeats 4000000 in
set_option maxRecDepth 100000 in
theorem sp_X4_writes {l : Launch} {s0 : State} {D : va_G} {I : AI} {L : AL} {o : Option Nat} {m : Nat} {A : MA} {V V0 : MV} (hΓ : Gam l s0 D) (hX : StV s0 o) (hA : MOk m A) {f : Nat → Int32} {d : Int32} {acc : List Nat} (hV : V = VL V0 f d) (hL : LnA acc f d) {q : Nat} {cs : List Nat} (hs : StrI I q 0 cs) (hcs : ∀ c ∈ cs, c < 256) (hl : acc.length + cs.length ≤ 400) : Spc l s0 D yX4_writes 5 [.ref m, .ref q] I (mdL L m A V) 0 0 ((fun r I' L' => r = none ∧ I = I' ∧ ∃ (f2 : Nat → Int32) (d2 : Int32) (V2 : MV), L' = mdL L m A V2 ∧ V2 = VL V0 f2 d2 ∧ LnA (acc ++ cs) f2 d2)) noX := by
  refine Spc.of hΓ cX4_writes 3 none q3526 (by decide +kernel) (by decide) (Nat.le_of_ble_eq_true rfl) (fun G GX hG => ?_)
  refine hG.iconst (v := 0) dX4_writes_0 rfl ?_
  refine hG.istore_n dX4_writes_1 (by decide) ?_
  have loop : ∀ (u i : Nat) (f1 : Nat → Int32) (d1 : Int32) (V1 : MV), i + u = cs.length → V1 = VL V0 f1 d1 → LnA (acc ++ cs.take i) f1 d1 → G 2 [(0, .ref m), (1, .ref q), (2, .int (nI i))] [] I (mdL L m A V1) 0 0 := by
    intro u
    induction u with
    | zero =>
      intro i f1 d1 V1 hiu hV1 hL1
      refine hG.iload_n dX4_writes_2 rfl ?_
      refine hG.aload_n dX4_writes_3 rfl ?_
      refine hG.callV dX4_writes_4 kv_X4_178 (hs.r _).rcv (sp_J9_length hΓ hX (hs.r _)) rfl rfl (Nat.le_of_ble_eq_true rfl) (by decide) (by omega) (by omega) (fun r4 I4 L4 hI4 h4 => ?_) (fun _ _ _ _ _ h => h.elim)
      obtain ⟨rfl, rfl, rfl⟩ := h4
      refine hG.icmp_ge (tgt := 37) dX4_writes_7 rfl (fun c_7 => ?_) (fun c_7 => absurd (nI_le (by omega) (by omega)) c_7)
      refine hG.vret dX4_writes_37 rfl ?_ (by omega) (by omega) trivial
      rw [List.take_of_length_le (by omega)] at hL1
      exact ⟨rfl, rfl, f1, d1, V1, rfl, hV1, hL1⟩
    | succ u ih =>
      intro i f1 d1 V1 hiu hV1 hL1
      obtain ⟨c, hc, hcm⟩ := get_lt (show i < cs.length by omega)
      have hcc : c < 65536 := Nat.lt_of_lt_of_le (hcs c hcm) (by decide)
      have hld : V1.ld = nI (acc ++ cs.take i).length := by rw [hV1, vl_ld]; exact hL1.1
      refine hG.iload_n dX4_writes_2 rfl ?_
      refine hG.aload_n dX4_writes_3 rfl ?_
      refine hG.callV dX4_writes_4 kv_X4_178 (hs.r _).rcv (sp_J9_length hΓ hX (hs.r _)) rfl rfl (Nat.le_of_ble_eq_true rfl) (by decide) (by omega) (by omega) (fun r4 I4 L4 hI4 h4 => ?_) (fun _ _ _ _ _ h => h.elim)
      obtain ⟨rfl, rfl, rfl⟩ := h4
      refine hG.icmp_ge (tgt := 37) dX4_writes_7 rfl (fun c_7 => absurd c_7 (nI_ge (by omega) (by omega))) (fun c_7 => ?_)
      refine hG.aload_n dX4_writes_10 rfl ?_
      refine hG.get dX4_writes_11 fg_X4_44_X4 (Or.inl mdL_m) rfl ?_
      refine hG.aload_n dX4_writes_14 rfl ?_
      refine hG.dup dX4_writes_15 rfl ?_
      refine hG.get dX4_writes_16 fg_X4_181_X4 (Or.inl mdL_m) rfl ?_
      rw [hld]
      refine hG.dup_x1 dX4_writes_19 rfl rfl ?_
      refine hG.iconst (v := 1) dX4_writes_20 rfl ?_
      refine hG.iadd dX4_writes_21 ?_
      rw [nI_1]
      refine hG.put dX4_writes_22 fp_X4_181_X4 mdL_m rfl rfl (Nat.le_of_ble_eq_true rfl) ?_
      refine hG.mp_ld ?_
      refine hG.aload_n dX4_writes_25 rfl ?_
      refine hG.iload_n dX4_writes_26 rfl ?_
      refine hG.callV dX4_writes_27 kv_X4_184 (hs.r _).rcv (sp_J9_charAt hΓ hX (hs.r _) hc) rfl rfl (Nat.le_of_ble_eq_true rfl) (by decide) (by omega) (by omega) (fun r27 I27 L27 hI27 h27 => ?_) (fun _ _ _ _ _ h => h.elim)
      obtain ⟨rfl, rfl, rfl⟩ := h27
      refine hG.st_ln hA (acc ++ cs.take i).length dX4_writes_30 rfl (by rw [List.length_append, List.length_take]; omega) ⟨c, hcc, rfl⟩ ?_
      refine hG.iinc dX4_writes_31 rfl (by decide) ?_
      refine hG.goto (tgt := 2) dX4_writes_34 rfl ?_
      refine hG.lsb [(0, .ref m), (1, .ref q), (2, .int (nI i + Int32.ofInt 1))] ⟨rfl, rfl, rfl, trivial⟩ ?_
      rw [show nI i + Int32.ofInt 1 = nI (i + 1) from nI_add i 1]
      refine ih (i + 1) (va_up f1 (acc ++ cs.take i).length (nI c)) (nI ((acc ++ cs.take i).length + 1)) _ (by omega) ?_ ?_
      · subst hV1
        rw [vl_d, vl_f, vl_ln]
      · rw [take_next hc, ← List.append_assoc]
        exact hL1.snoc
  exact hG.lsb [(0, .ref m), (1, .ref q), (2, .int (nI 0))] ⟨rfl, rfl, rfl, trivial⟩ (loop cs.length 0 f d V (by omega) hV (by rw [List.take_zero, List.append_nil]; exact hL))
set_option maxHeartbeats 4000000 in
set_option maxRecDepth 100000 in
theorem sp_X4_writesNumber {l : Launch} {s0 : State} {D : va_G} {I : AI} {L : AL} {m : Nat} {A : MA} {V V0 : MV} (hΓ : Gam l s0 D) (hA : MOk m A) {f : Nat → Int32} {d : Int32} {acc : List Nat} (hV : V = VL V0 f d) (hL : LnA acc f d) {n : Nat} (hn : n < 1000) (hl9 : acc.length + 3 ≤ 400) : Spc l s0 D yX4_writesNumber 2 [.ref m, .int (nI n)] I (mdL L m A V) 0 0 ((fun r I' L' => r = none ∧ I = I' ∧ ∃ (f2 : Nat → Int32) (d2 : Int32) (V2 : MV), L' = mdL L m A V2 ∧ V2 = VL V0 f2 d2 ∧ LnA (acc ++ dec n) f2 d2)) noX := by
  refine Spc.of hΓ cX4_writesNumber 3 none q3533 (by decide +kernel) (by decide) (Nat.le_of_ble_eq_true rfl) (fun G GX hG => ?_)
  refine hG.iconst (v := 1) dX4_writesNumber_0 rfl ?_
  refine hG.istore_n dX4_writesNumber_1 (by decide) ?_
  have kd : ∀ (b : Nat) (ac : List Nat) (f1 : Nat → Int32) (d1 : Int32) (V1 : MV), 0 < b → b ≤ 100 → ac.length < 400 → V1 = VL V0 f1 d1 → LnA ac f1 d1 → (∀ (f2 : Nat → Int32) (d2 : Int32) (V2 : MV), V2 = VL V0 f2 d2 → LnA (ac ++ [48 + n / b % 10]) f2 d2 → G 18 [(0, .ref m), (1, .int (nI n)), (2, .int (nI (b / 10)))] [] I (mdL L m A V2) 0 0) → G 18 [(0, .ref m), (1, .int (nI n)), (2, .int (nI b))] [] I (mdL L m A V1) 0 0 := by
    intro b ac f1 d1 V1 hb0 hb1 hac hV1 hL1 kk
    have hnb : n / b ≤ n := Nat.div_le_self n b
    have hld : V1.ld = nI ac.length := by rw [hV1, vl_ld]; exact hL1.1
    refine hG.iload_n dX4_writesNumber_18 rfl ?_
    refine hG.if_le (tgt := 56) dX4_writesNumber_19 rfl (fun c_19 => absurd c_19 (fun e => absurd ((nI_leI (b := 0) (by omega) (by decide)).mp e) (by omega))) (fun c_19 => ?_)
    refine hG.aload_n dX4_writesNumber_22 rfl ?_
    refine hG.get dX4_writesNumber_23 fg_X4_44_X4 (Or.inl mdL_m) rfl ?_
    refine hG.aload_n dX4_writesNumber_26 rfl ?_
    refine hG.dup dX4_writesNumber_27 rfl ?_
    refine hG.get dX4_writesNumber_28 fg_X4_181_X4 (Or.inl mdL_m) rfl ?_
    rw [hld]
    refine hG.dup_x1 dX4_writesNumber_31 rfl rfl ?_
    refine hG.iconst (v := 1) dX4_writesNumber_32 rfl ?_
    refine hG.iadd dX4_writesNumber_33 ?_
    rw [nI_1]
    refine hG.put dX4_writesNumber_34 fp_X4_181_X4 mdL_m rfl rfl (Nat.le_of_ble_eq_true rfl) ?_
    refine hG.mp_ld ?_
    refine hG.bipush (v := 48) dX4_writesNumber_37 rfl ?_
    refine hG.iload_n dX4_writesNumber_39 rfl ?_
    refine hG.iload_n dX4_writesNumber_40 rfl ?_
    refine hG.idiv dX4_writesNumber_41 (fun e => absurd ((nI_eq (b := 0) (by omega) (by decide)).mp e) (by omega)) ?_
    rw [nI_div (a := n) (b := b) (by omega) (by omega)]
    refine hG.bipush (v := 10) dX4_writesNumber_42 rfl ?_
    refine hG.irem dX4_writesNumber_44 (by decide) ?_
    rw [show nI (n / b) - nI (n / b) / 10 * 10 = nI (n / b % 10) from nI_mod (b := 10) (by omega) (by decide)]
    refine hG.iadd dX4_writesNumber_45 ?_
    rw [show (48 : Int32) + nI (n / b % 10) = nI (48 + n / b % 10) from ix1 48 _]
    refine hG.i2c dX4_writesNumber_46 ?_
    rw [i2c_n (by omega)]
    refine hG.st_ln hA ac.length dX4_writesNumber_47 rfl (by omega) ⟨48 + n / b % 10, by omega, rfl⟩ ?_
    refine hG.iload_n dX4_writesNumber_48 rfl ?_
    refine hG.bipush (v := 10) dX4_writesNumber_49 rfl ?_
    refine hG.idiv dX4_writesNumber_51 (by decide) ?_
    rw [show nI b / 10 = nI (b / 10) from nI_div (b := 10) (by omega) (by decide)]
    refine hG.istore_n dX4_writesNumber_52 (by decide) ?_
    skip
    refine hG.goto (tgt := 18) dX4_writesNumber_53 rfl ?_
    refine hG.lsb [(0, .ref m), (1, .int (nI n)), (2, .int (nI (b / 10)))] ⟨rfl, rfl, rfl, trivial⟩ (kk (va_up f1 ac.length (nI (48 + n / b % 10))) (nI (ac.length + 1)) _ ?_ hL1.snoc)
    subst hV1
    rw [vl_d, vl_f, vl_ln]
  have ke : ∀ (f1 : Nat → Int32) (d1 : Int32) (V1 : MV), V1 = VL V0 f1 d1 → LnA (acc ++ dec n) f1 d1 → G 18 [(0, .ref m), (1, .int (nI n)), (2, .int (nI 0))] [] I (mdL L m A V1) 0 0 := by
    intro f1 d1 V1 hV1 hL1
    refine hG.iload_n dX4_writesNumber_18 rfl ?_
    refine hG.if_le (tgt := 56) dX4_writesNumber_19 rfl (fun c_19 => ?_) (fun c_19 => absurd (by decide) c_19)
    refine hG.vret dX4_writesNumber_56 rfl ?_ (by omega) (by omega) trivial
    exact ⟨rfl, rfl, f1, d1, V1, rfl, hV1, hL1⟩
  have kw1 : ∀ (b : Nat), 0 < b → b ≤ 100 → 9 < n / b → G 2 [(0, .ref m), (1, .int (nI n)), (2, .int (nI (b * 10)))] [] I (mdL L m A V) 0 0 → G 2 [(0, .ref m), (1, .int (nI n)), (2, .int (nI b))] [] I (mdL L m A V) 0 0 := by
    intro b hb0 hb1 hn9 kk
    have hnb : n / b ≤ n := Nat.div_le_self n b
    refine hG.iload_n dX4_writesNumber_2 rfl ?_
    refine hG.iload_n dX4_writesNumber_3 rfl ?_
    refine hG.idiv dX4_writesNumber_4 (fun e => absurd ((nI_eq (b := 0) (by omega) (by decide)).mp e) (by omega)) ?_
    rw [nI_div (a := n) (b := b) (by omega) (by omega)]
    refine hG.bipush (v := 9) dX4_writesNumber_5 rfl ?_
    refine hG.icmp_le (tgt := 18) dX4_writesNumber_7 rfl (fun c_7 => absurd c_7 (nI_ge (a := 9) (by omega) (by omega))) (fun c_7 => ?_)
    refine hG.iload_n dX4_writesNumber_10 rfl ?_
    refine hG.bipush (v := 10) dX4_writesNumber_11 rfl ?_
    refine hG.imul dX4_writesNumber_13 ?_
    refine hG.istore_n dX4_writesNumber_14 (by decide) ?_
    refine hG.goto (tgt := 2) dX4_writesNumber_15 rfl ?_
    refine hG.lsb [(0, .ref m), (1, .int (nI n)), (2, .int (nI b * 10))] ⟨rfl, rfl, rfl, trivial⟩ ?_
    rw [show nI (b * 10) = nI b * 10 from (pk_mul b 10).symm] at kk
    exact kk
  have kw0 : ∀ (b : Nat), 0 < b → b ≤ 100 → n / b ≤ 9 → G 18 [(0, .ref m), (1, .int (nI n)), (2, .int (nI b))] [] I (mdL L m A V) 0 0 → G 2 [(0, .ref m), (1, .int (nI n)), (2, .int (nI b))] [] I (mdL L m A V) 0 0 := by
    intro b hb0 hb1 hn9 kk
    have hnb : n / b ≤ n := Nat.div_le_self n b
    refine hG.iload_n dX4_writesNumber_2 rfl ?_
    refine hG.iload_n dX4_writesNumber_3 rfl ?_
    refine hG.idiv dX4_writesNumber_4 (fun e => absurd ((nI_eq (b := 0) (by omega) (by decide)).mp e) (by omega)) ?_
    rw [nI_div (a := n) (b := b) (by omega) (by omega)]
    refine hG.bipush (v := 9) dX4_writesNumber_5 rfl ?_
    refine hG.icmp_le (tgt := 18) dX4_writesNumber_7 rfl (fun c_7 => ?_) (fun c_7 => absurd (nI_le (b := 9) (by omega) (by decide)) c_7)
    exact hG.lsb [(0, .ref m), (1, .int (nI n)), (2, .int (nI b))] ⟨rfl, rfl, rfl, trivial⟩ kk
  have hdl := dec_len n
  refine hG.lsb [(0, .ref m), (1, .int (nI n)), (2, .int (nI 1))] ⟨rfl, rfl, rfl, trivial⟩ ?_
  by_cases h1 : n < 10
  · rw [dec_1 h1] at ke
    refine kw0 1 (by decide) (by decide) (by omega) (kd 1 acc f d V (by decide) (by decide) (by omega) hV hL (fun f2 d2 V2 hV2 hL2 => ke f2 d2 V2 hV2 ?_))
    rw [show 48 + n = 48 + n / 1 % 10 by omega]
    exact hL2
  · by_cases h2 : n < 100
    · rw [dec_2 (by omega) h2] at ke hdl
      refine kw1 1 (by decide) (by decide) (by omega) (kw0 10 (by decide) (by decide) (by omega) (kd 10 acc f d V (by decide) (by decide) (by omega) hV hL (fun f2 d2 V2 hV2 hL2 => kd 1 _ f2 d2 V2 (by decide) (by decide) (by rw [List.length_append, List.length_singleton]; simp at hl9; omega) hV2 hL2 (fun f3 d3 V3 hV3 hL3 => ke f3 d3 V3 hV3 ?_))))
      rw [List.append_assoc] at hL3
      rw [show [48 + n / 10, 48 + n % 10] = [48 + n / 10 % 10] ++ [48 + n / 1 % 10] by rw [Nat.div_one, Nat.mod_eq_of_lt (show n / 10 < 10 by omega)]; rfl]
      exact hL3
    · rw [dec_3 (by omega)] at ke hdl
      refine kw1 1 (by decide) (by decide) (by omega) (kw1 10 (by decide) (by decide) (by omega) (kw0 100 (by decide) (by decide) (by omega) (kd 100 acc f d V (by decide) (by decide) (by omega) hV hL (fun f2 d2 V2 hV2 hL2 => kd 10 _ f2 d2 V2 (by decide) (by decide) (by rw [List.length_append, List.length_singleton]; simp at hl9; omega) hV2 hL2 (fun f3 d3 V3 hV3 hL3 => kd 1 _ f3 d3 V3 (by decide) (by decide) (by rw [List.length_append, List.length_append, List.length_singleton, List.length_singleton]; simp at hl9; omega) hV3 hL3 (fun f4 d4 V4 hV4 hL4 => ke f4 d4 V4 hV4 ?_))))))
      rw [List.append_assoc, List.append_assoc] at hL4
      rw [show [48 + n / 100, 48 + n / 10 % 10, 48 + n % 10] = [48 + n / 100 % 10] ++ ([48 + n / 10 % 10] ++ [48 + n / 1 % 10]) by rw [Nat.div_one, Nat.mod_eq_of_lt (show n / 100 < 10 by omega)]; rfl]
      exact hL4
