/-! a channel is split -/
theorem rv_eq {R S : Rv} (h0 : R.1 = S.1) (h1 : R.2.1 = S.2.1) (h2 : R.2.2.1 = S.2.2.1) (h3 : R.2.2.2.1 = S.2.2.2.1) (h4 : R.2.2.2.2.1 = S.2.2.2.2.1) (h5 : R.2.2.2.2.2.1 = S.2.2.2.2.2.1) (h6 : R.2.2.2.2.2.2.1 = S.2.2.2.2.2.2.1) (h7 : R.2.2.2.2.2.2.2.1 = S.2.2.2.2.2.2.2.1) (h8 : R.2.2.2.2.2.2.2.2.1 = S.2.2.2.2.2.2.2.2.1) (h9 : R.2.2.2.2.2.2.2.2.2.1 = S.2.2.2.2.2.2.2.2.2.1) (h10 : R.2.2.2.2.2.2.2.2.2.2.1 = S.2.2.2.2.2.2.2.2.2.2.1) (h11 : R.2.2.2.2.2.2.2.2.2.2.2.1 = S.2.2.2.2.2.2.2.2.2.2.2.1) (h12 : R.2.2.2.2.2.2.2.2.2.2.2.2.1 = S.2.2.2.2.2.2.2.2.2.2.2.2.1) (h13 : R.2.2.2.2.2.2.2.2.2.2.2.2.2.1 = S.2.2.2.2.2.2.2.2.2.2.2.2.2.1) (h14 : R.2.2.2.2.2.2.2.2.2.2.2.2.2.2 = S.2.2.2.2.2.2.2.2.2.2.2.2.2.2) : R = S := Prod.ext h0 (Prod.ext h1 (Prod.ext h2 (Prod.ext h3 (Prod.ext h4 (Prod.ext h5 (Prod.ext h6 (Prod.ext h7 (Prod.ext h8 (Prod.ext h9 (Prod.ext h10 (Prod.ext h11 (Prod.ext h12 (Prod.ext h13 (h14))))))))))))))
theorem rv_cast {dE : Nat} {I : AI} {L : AL} {r : Nat} {R S : Rv} {A : RA} (h : RvO dE I L r R A) (e : R = S) : RvO dE I L r S A := e ▸ h
def TOk (m : Nat) (t : Tal) : Prop := (t.map (·.1)).Nodup ∧ ∀ x ∈ t, x.1 < 147 ∧ x.1 / 7 % 7 ≤ m ∧ x.1 % 7 ≤ m ∧ 0 < x.2 ∧ x.2 ≤ 999
abbrev aSp (j : Int32) (a : T3) : T3 := (if a.1 ≤ j then a.1 else a.1 + 1, a.2)
abbrev spC (R : Rv) (i : Nat) (c : T3) (w : Int32) : List T3 := (R.ch.set i (tW c w)).insertIdx (i + 1) (tW c (c.1 - w))
abbrev spR (R : Rv) (i : Nat) (c : T3) (w : Int32) : Rv := (((((R.wCh (spC R i c w)).wAn (R.an.map (aSp (nI i)))).wWa (tsp i R.wa)).wFo (tsp i R.fo)).wAf (tsp i R.af)).wSt (R.st + b2i (!decide (R.st ≤ nI i)))
def splO (R : Rv) (n w : Int32) : Out := if inR n 0 (nI R.ch.length - 1) = true then (match R.ch[n.toNatClampNeg]? with
  | some c => if R.ch.length < 6 then (if inR w 10 99 = true then (if inR (c.1 - w) 10 99 = true then .inl (c.1 - w, spR R n.toNatClampNeg c w) else .inr (.inr (2, c.1 - w))) else .inr (.inr (2, w))) else .inr (.inr (1, 6))
  | none => .inr (.inl false)) else .inr (.inl false)
theorem spl_a {R : Rv} {n w : Int32} (h : inR n 0 (nI R.ch.length - 1) = false) : splO R n w = .inr (.inl false) := by
  unfold splO
  rw [if_neg (bFT h)]
theorem spl_b {R : Rv} {i : Nat} {w : Int32} {c : T3} (hi : i < 2 ^ 31) (h1 : inR (nI i) 0 (nI R.ch.length - 1) = true) (hc : R.ch[i]? = some c) : splO R (nI i) w = if R.ch.length < 6 then (if inR w 10 99 = true then (if inR (c.1 - w) 10 99 = true then .inl (c.1 - w, spR R i c w) else .inr (.inr (2, c.1 - w))) else .inr (.inr (2, w))) else .inr (.inr (1, 6)) := by
  unfold splO
  rw [if_pos h1, nI_clamp hi, hc]
abbrev mpK (f : T3 → T3) (l : List T3) (k : Nat) : List T3 := (l.take k).map f ++ l.drop k
theorem mpK_at {f : T3 → T3} {l : List T3} {k : Nat} {a : T3} (h : l[k]? = some a) : (mpK f l k)[k]? = some a := by
  have hk : k < l.length := (List.getElem?_eq_some_iff.mp h).1
  unfold mpK
  rw [List.getElem?_append_right (by simp; omega)]
  simp [Nat.min_eq_left (Nat.le_of_lt hk), h]
theorem mpK_len {f : T3 → T3} {l : List T3} {k : Nat} : (mpK f l k).length = l.length := by simp [mpK]; omega
theorem mpK_set {f : T3 → T3} {l : List T3} {k : Nat} {a : T3} (h : l[k]? = some a) : (mpK f l k).set k (f a) = mpK f l (k + 1) := by
  obtain ⟨hk, e⟩ := List.getElem?_eq_some_iff.mp h
  unfold mpK
  rw [take_next h, List.map_append, List.drop_eq_getElem_cons hk, e]
  rw [List.set_append, if_neg (by simp; omega)]
  simp [Nat.min_eq_left (Nat.le_of_lt hk)]
theorem mpK_end {f : T3 → T3} {l : List T3} {k : Nat} (h : l.length ≤ k) : mpK f l k = l.map f := by
  unfold mpK
  rw [List.take_of_length_le h, List.drop_of_length_le h, List.append_nil]
theorem TOk.nz {m : Nat} {t : Tal} (h : TOk m t) : ∀ x ∈ t, x.2 ≠ 0 := fun x hx e => by
  have := (h.2 x hx).2.2.2.1
  rw [e] at this
  exact absurd this (by decide)
theorem TOk.sp {m : Nat} {t : Tal} (h : TOk m t) (hm : m ≤ 5) : ∀ x ∈ t, x.1 / 7 % 7 ≤ 5 ∧ x.1 % 7 ≤ 5 := fun x hx => ⟨by have := (h.2 x hx).2.1; omega, by have := (h.2 x hx).2.2.1; omega⟩
theorem tsp_nz {j : Nat} {t : Tal} (h : ∀ x ∈ t, x.2 ≠ 0) : ∀ x ∈ tsp j t, x.2 ≠ 0 := fun x hx => by
  obtain ⟨y, hy, rfl⟩ := List.mem_map.mp hx
  exact h y hy
theorem RvO.nw {dE : Nat} {I J : AI} {L : AL} {r q : Nat} {R : Rv} {A : RA} (h : RvO dE I L r R A) (hI : ile I J) (hq : L q = none) (c : Option Cel) : RvO dE J (up1 L q c) r R A := h.mono hI (fun z _ y hy => (up1_n (fun e : z = q => by rw [e, hq] at hy; cases hy)).trans hy)
theorem up_drop {L : AL} {a q : Nat} {c : Cel} (c2 : Cel) (hq : L q = none) (hqa : q ≠ a) : ∀ z x, up1 L a (some c2) z = some x → up1 (up1 L q (some c)) a (some c2) z = some x := fun z x hx => by
  by_cases hz : z = a
  · subst hz
    rw [up1_s] at hx ⊢
    exact hx
  · rw [up1_n hz] at hx ⊢
    rw [up1_n (fun e => by rw [e, hq] at hx; cases hx)]
    exact hx
theorem kv_X2_243 : LkV RX2 243 yX8_split 1 := ⟨q2172, q2173, q2174, q118, by decide +kernel, by decide +kernel, by decide +kernel⟩
theorem ks_X2_246 : LkS RX2 246 yX2_split_2 2 := ⟨q2176, q2177, q74, by decide +kernel, by decide +kernel, by decide +kernel⟩
theorem ks_X2_249 : LkS RX2 249 yX2_replace 2 := ⟨q2187, q2188, q74, by decide +kernel, by decide +kernel, by decide +kernel⟩
theorem kf_X2_240_J2 : LkF RX2 240 RJ2 ⟨"java/util/List", "add", "(ILjava/lang/Object;)V"⟩ yJ2_add_3 2 := ⟨q2144, q2147, q2149, q77, ⟨by decide +kernel, by decide +kernel, by decide +kernel⟩, q2146, q2145, q2150, q2148, q413⟩
set_option maxHeartbeats 4000000 in
set_option maxRecDepth 100000 in
theorem sp_X2_split {l : Launch} {s0 : State} {D : va_G} {I : AI} {L : AL} {dE ca : Nat} {ad : Nat → Nat} {r : Nat} {R : Rv} {A : RA} (hΓ : Gam l s0 D) (hZ : Std s0 D dE ca ad) (h : RvO dE I L r R A) {n w : Int32} (hch6 : R.ch.length ≤ 6) (hl6 : R.an.length ≤ 6) (hw : TOk R.ch.length R.wa) (hf : TOk R.ch.length R.fo) (ha : TOk R.ch.length R.af) (hlw : R.wa.length ≤ 24) (hlf : R.fo.length ≤ 24) (hla : R.af.length ≤ 24) : Spc l s0 D yX2_split 11 [.ref r, .int n, .int w] I L 600 6200 (pO dE (splO R n w) r A L) (xO (splO R n w) L) := by
  refine Spc.of hΓ cX2_split 7 (some FieldType.int) q2142 (by decide +kernel) (by decide) (Nat.le_of_ble_eq_true rfl) (fun G GX hG => ?_)
  refine hG.peek h.h0 (fun J9 S9 _ hli => ?_)
  have hl10 : A.xs.length ≤ 10 := hli.1
  have hll := h.e0.len
  refine hG.aload_n dX2_split_0 rfl ?_
  refine hG.iload_n dX2_split_1 rfl ?_
  refine hG.callV dX2_split_2 kv_X2_228 (Rcv.raw h.h cl_X2) (sp_X2_channel hΓ hZ h) rfl rfl (Nat.le_of_ble_eq_true rfl) (by decide) (by omega) (by omega) (fun r2 I2 L2 hI2 h2 => ?_) (fun E q I' L' hI ⟨e1, e2, e3⟩ => hG.out (by simp) ⟨e3, Or.inl ⟨_, spl_a e2, e1⟩⟩ (by omega) (by omega) trivial)
  obtain ⟨rfl, rfl, i, c, x, rfl, hc, rfl, hxc0⟩ := h2
  have hil : i < R.ch.length := (List.getElem?_eq_some_iff.mp hc).1
  have hb1 := inR_idx (n := nI i) (by omega) hil rfl
  have ho := spl_b (w := w) (by omega) hb1 hc
  have hi6 : i ≤ 6 := by omega
  obtain ⟨x0, hx0, hx0c⟩ := h.e0.get hc
  refine hG.astore_n dX2_split_5 (by decide) ?_
  refine hG.aload_n dX2_split_6 rfl ?_
  refine hG.get dX2_split_7 fg_X2_12_X2 (Or.inl h.h) rfl ?_
  refine hG.callF dX2_split_10 kf_X2_96_J2 (Rcv.li h.h0) cl_J2 (sp_J2_size hΓ h.h0) rfl rfl (Nat.le_of_ble_eq_true rfl) (by decide) (by omega) (by omega) (fun r10 I10 L10 hI10 h10 => ?_) (fun _ _ _ _ _ h => h.elim)
  obtain ⟨rfl, rfl, rfl⟩ := h10
  refine hG.bipush (v := 6) dX2_split_15 rfl ?_
  refine hG.dia1 (p := 17) (fun kt kf => hG.icmp_ge (tgt := 24) dX2_split_17 rfl kt kf) dX2_split_20 dX2_split_21 rfl dX2_split_24 ?_
  refine hG.iconst (v := 1) dX2_split_25 rfl ?_
  refine hG.bipush (v := 6) dX2_split_26 rfl ?_
  refine hG.callNS dX2_split_28 ks_X2_176 (sp_X1_allow hΓ) rfl rfl (Nat.le_of_ble_eq_true rfl) (by decide) (by omega) (by omega) (fun r28 I28 L28 hI28 h28 => ?_) (fun E q I' L' hI ⟨e1, e2, e3, e4⟩ => hG.out (by simp) ⟨e3, Or.inr ⟨_, ho.trans (if_neg (fun z => absurd (show nI 6 ≤ nI A.xs.length from ndecF.mp e2) (by rw [hll]; exact nI_ge z (by omega)))), e1, e4⟩⟩ (by omega) (by omega) trivial)
  obtain ⟨rfl, hb, rfl, rfl⟩ := h28
  have hlt6 : R.ch.length < 6 := by
    have q := ndec.mp hb
    exact Nat.lt_of_not_le (fun z => q (by rw [hll]; exact nI_le (a := 6) z (by omega)))
  have hm5 : R.ch.length ≤ 5 := by omega
  rw [if_pos hlt6] at ho
  refine hG.iload_n dX2_split_31 rfl ?_
  refine hG.callS dX2_split_32 ks_X2_231 (sp_X2_allowWidth hΓ) rfl rfl (Nat.le_of_ble_eq_true rfl) (by decide) (by omega) (by omega) (fun r32 I32 L32 hI32 h32 => ?_) (fun E q I' L' hI ⟨e1, e2, e3, e4⟩ => hG.out (by simp) ⟨e3, Or.inr ⟨_, ho.trans (if_neg (bFT e2)), e1, e4⟩⟩ (by omega) (by omega) trivial)
  obtain ⟨rfl, hb4, rfl, rfl⟩ := h32
  rw [if_pos hb4] at ho
  refine hG.aload_n dX2_split_35 rfl ?_
  refine hG.get dX2_split_36 fg_X2_234_X6 (Or.inr hxc0) rfl ?_
  refine hG.iload_n dX2_split_39 rfl ?_
  refine hG.isub dX2_split_40 ?_
  refine hG.callS dX2_split_41 ks_X2_231 (sp_X2_allowWidth hΓ) rfl rfl (Nat.le_of_ble_eq_true rfl) (by decide) (by omega) (by omega) (fun r41 I41 L41 hI41 h41 => ?_) (fun E q I' L' hI ⟨e1, e2, e3, e4⟩ => hG.out (by simp) ⟨e3, Or.inr ⟨_, ho.trans (if_neg (bFT e2)), e1, e4⟩⟩ (by omega) (by omega) trivial)
  obtain ⟨rfl, hb5, rfl, rfl⟩ := h41
  rw [if_pos hb5] at ho
  refine hG.aload_n dX2_split_44 rfl ?_
  refine hG.get dX2_split_45 fg_X2_12_X2 (Or.inl h.h) rfl ?_
  refine hG.iload_n dX2_split_48 rfl ?_
  refine hG.aload_n dX2_split_49 rfl ?_
  refine hG.iload_n dX2_split_50 rfl ?_
  refine hG.callV dX2_split_51 kv_X2_237 (Rcv.imm hxc0 cl_X6) (sp_X6_as hΓ hxc0) rfl rfl (Nat.le_of_ble_eq_true rfl) (by decide) (by omega) (by omega) (fun r51 I51 L51 hI51 h51 => ?_) (fun _ _ _ _ _ h => h.elim)
  obtain ⟨rfl, x1, rfl, hx1⟩ := h51
  have hm := h.mono hI51 (fun _ _ _ hx => hx)
  refine hG.callF dX2_split_54 kf_X2_166_J2 (Rcv.li hm.h0) cl_J2 (sp_J2_set hΓ (elt_of hx1 cl_X6 q3692) hm.h0 hx0) rfl rfl (Nat.le_of_ble_eq_true rfl) (by decide) (by omega) (by omega) (fun r54 I54 L54 hI54 h54 => ?_) (fun _ _ _ _ _ h => h.elim)
  obtain ⟨rfl, rfl, rfl⟩ := h54
  have hb2 := hm.sCh (m := A.m0) (hm.e0.set (i := i) hx1)
  refine hG.castS dX2_split_59 q556 (Rcv.imm (hI51 _ _ hx0c) cl_X6) cl_X6 ?_
  refine hG.astore dX2_split_62 (by decide) ?_
  refine hG.aload_n dX2_split_64 rfl ?_
  refine hG.get dX2_split_65 fg_X2_12_X2 (Or.inl hb2.h) rfl ?_
  refine hG.iload_n dX2_split_68 rfl ?_
  refine hG.iconst (v := 1) dX2_split_69 rfl ?_
  refine hG.iadd dX2_split_70 ?_
  rw [nI_1]
  refine hG.aload_n dX2_split_71 rfl ?_
  refine hG.aload_n dX2_split_72 rfl ?_
  refine hG.get dX2_split_73 fg_X2_234_X6 (Or.inr (hI51 _ _ hxc0)) rfl ?_
  refine hG.iload_n dX2_split_76 rfl ?_
  refine hG.isub dX2_split_77 ?_
  refine hG.callV dX2_split_78 kv_X2_237 (Rcv.imm (hI51 _ _ hxc0) cl_X6) (sp_X6_as hΓ (hI51 _ _ hxc0)) rfl rfl (Nat.le_of_ble_eq_true rfl) (by decide) (by omega) (by omega) (fun r78 I78 L78 hI78 h78 => ?_) (fun _ _ _ _ _ h => h.elim)
  obtain ⟨rfl, y1, rfl, hy1⟩ := h78
  have hm2 := hb2.mono hI78 (fun _ _ _ hx => hx)
  have hls : (A.xs.set i x1).length = A.xs.length := List.length_set
  refine hG.callF dX2_split_81 kf_X2_240_J2 (Rcv.li hm2.h0) cl_J2 (sp_J2_add3 (i := i + 1) hΓ (hm2.e0.elt cl_X6 q3692) (elt_of hy1 cl_X6 q3692) hm2.h0 (by rw [hls]; omega) (by rw [hls]; omega) (fun e => absurd (show (A.xs.set i x1).length = 0 by rw [show A.xs.set i x1 = [] from e]; rfl) (by rw [hls]; omega))) rfl rfl (Nat.le_of_ble_eq_true rfl) (by decide) (by omega) (by omega) (fun r81 I81 L81 hI81 h81 => ?_) (fun _ _ _ _ _ h => h.elim)
  obtain ⟨rfl, rfl, rfl⟩ := h81
  have h1 := hm2.sCh (m := A.m0 + 1) (hm2.e0.ins (i := i + 1) hy1 (by rw [hls]; omega))
  have F1 := (h.f_a0 (some (liC dE A.m0 (A.xs.set i x1)))).tr (hb2.f_a0 (some (liC dE (A.m0 + 1) ((A.xs.set i x1).insertIdx (i + 1) y1))))
  have hxc := ile_tr hI51 hI78 _ _ hxc0
  have hI9 := ile_tr hI51 hI78
  have hCH : spC R i c w = (R.ch.set i (w, c.2)).insertIdx (i + 1) (c.1 - w, c.2) := rfl
  rw [← hCH] at h1
  generalize hCHe : spC R i c w = CH at h1
  refine hG.iconst (v := 0) dX2_split_86 rfl ?_
  refine hG.istore dX2_split_87 (by decide) ?_
  have loop : ∀ (m k : Nat) (A1 : RA) (I1 : AI) (L1 : AL), k + m = R.an.length → ile I I1 → RvO dE I1 L1 r ((R.wCh CH).wAn (mpK (aSp (nI i)) R.an k)) A1 → Far L (RN r A) (RN r A1) L1 → (∀ (A2 : RA) (I2 : AI) (L2 : AL), ile I I2 → RvO dE I2 L2 r ((R.wCh CH).wAn (R.an.map (aSp (nI i)))) A2 → Far L (RN r A) (RN r A2) L2 → G 143 [(0, .ref r), (1, .int (nI i)), (2, .int w), (3, .ref x)] [] I2 L2 12 60) → G 89 [(0, .ref r), (1, .int (nI i)), (2, .int w), (3, .ref x), (5, .int (nI k))] [] I1 L1 (6 + k) (40 + 3 * k) := by
    intro m
    induction m with
    | zero =>
      intro k A1 I1 L1 hkw hII h1 hF kk
      refine hG.peek h1.h2 (fun J9 S9 _ hli => ?_)
      have hl10 : A1.zs.length ≤ 10 := hli.1
      have hll := h1.e2.len
      have hll2 : A1.zs.length = R.an.length := hll.trans mpK_len
      refine hG.iload dX2_split_89 rfl ?_
      refine hG.aload_n dX2_split_91 rfl ?_
      refine hG.get dX2_split_92 fg_X2_21_X2 (Or.inl h1.h) rfl ?_
      refine hG.callF dX2_split_95 kf_X2_96_J2 (Rcv.li h1.h2) cl_J2 (sp_J2_size hΓ h1.h2) rfl rfl (Nat.le_of_ble_eq_true rfl) (by decide) (by omega) (by omega) (fun r95 I95 L95 hI95 h95 => ?_) (fun _ _ _ _ _ h => h.elim)
      obtain ⟨rfl, rfl, rfl⟩ := h95
      refine hG.icmp_ge (tgt := 143) dX2_split_100 rfl (fun c_100 => ?_) (fun c_100 => absurd (nI_le (by omega) (by omega)) c_100)
      refine hG.lsb [(0, .ref r), (1, .int (nI i)), (2, .int w), (3, .ref x)] ⟨rfl, rfl, rfl, rfl, trivial⟩ (hG.wid (k' := 12) (n' := 60) (by omega) (by omega) (kk A1 _ _ hII (by rw [← mpK_end (f := aSp (nI i)) (l := R.an) (k := k) (by omega)]; exact h1) hF))
    | succ m ih =>
      intro k A1 I1 L1 hkw hII h1 hF kk
      refine hG.peek h1.h2 (fun J9 S9 _ hli => ?_)
      have hl10 : A1.zs.length ≤ 10 := hli.1
      have hll := h1.e2.len
      have hll2 : A1.zs.length = R.an.length := hll.trans mpK_len
      obtain ⟨a, ha, ham⟩ := get_lt (show k < R.an.length by omega)
      obtain ⟨y, hy, hyc⟩ := h1.e2.get (mpK_at ha)
      refine hG.iload dX2_split_89 rfl ?_
      refine hG.aload_n dX2_split_91 rfl ?_
      refine hG.get dX2_split_92 fg_X2_21_X2 (Or.inl h1.h) rfl ?_
      refine hG.callF dX2_split_95 kf_X2_96_J2 (Rcv.li h1.h2) cl_J2 (sp_J2_size hΓ h1.h2) rfl rfl (Nat.le_of_ble_eq_true rfl) (by decide) (by omega) (by omega) (fun r95 I95 L95 hI95 h95 => ?_) (fun _ _ _ _ _ h => h.elim)
      obtain ⟨rfl, rfl, rfl⟩ := h95
      refine hG.icmp_ge (tgt := 143) dX2_split_100 rfl (fun c_100 => absurd c_100 (nI_ge (by omega) (by omega))) (fun c_100 => ?_)
      refine hG.aload_n dX2_split_103 rfl ?_
      refine hG.get dX2_split_104 fg_X2_21_X2 (Or.inl h1.h) rfl ?_
      refine hG.iload dX2_split_107 rfl ?_
      refine hG.aload_n dX2_split_109 rfl ?_
      refine hG.get dX2_split_110 fg_X2_21_X2 (Or.inl h1.h) rfl ?_
      refine hG.iload dX2_split_113 rfl ?_
      refine hG.callF dX2_split_115 kf_X2_108_J2 (Rcv.li h1.h2) cl_J2 (sp_J2_get hΓ h1.h2 hy) rfl rfl (Nat.le_of_ble_eq_true rfl) (by decide) (by omega) (by omega) (fun r115 I115 L115 hI115 h115 => ?_) (fun _ _ _ _ _ h => h.elim)
      obtain ⟨rfl, rfl, rfl⟩ := h115
      refine hG.castS dX2_split_120 q656 (Rcv.imm hyc cl_X8) cl_X8 ?_
      refine hG.iload_n dX2_split_123 rfl ?_
      refine hG.callV dX2_split_124 kv_X2_243 (Rcv.imm hyc cl_X8) (sp_X8_split hΓ hyc) rfl rfl (Nat.le_of_ble_eq_true rfl) (by decide) (by omega) (by omega) (fun r124 I124 L124 hI124 h124 => ?_) (fun _ _ _ _ _ h => h.elim)
      obtain ⟨rfl, z, rfl, hz⟩ := h124
      have hm := h1.mono hI124 (fun _ _ _ hx => hx)
      have hz2 : I124 z (t3E ciX8 (aSp (nI i) a)) := hz
      refine hG.callF dX2_split_127 kf_X2_166_J2 (Rcv.li hm.h2) cl_J2 (sp_J2_set hΓ (elt_of hz cl_X8 q3712) hm.h2 hy) rfl rfl (Nat.le_of_ble_eq_true rfl) (by decide) (by omega) (by omega) (fun r127 I127 L127 hI127 h127 => ?_) (fun _ _ _ _ _ h => h.elim)
      obtain ⟨rfl, rfl, rfl⟩ := h127
      have h2 := hm.sAn (m := A1.m2) (hm.e2.set (i := k) hz2)
      refine hG.castS dX2_split_132 q656 (Rcv.imm (hI124 _ _ hyc) cl_X8) cl_X8 ?_
      refine hG.astore dX2_split_135 (by decide) ?_
      refine hG.iinc dX2_split_137 rfl (by decide) ?_
      refine hG.goto (tgt := 89) dX2_split_140 rfl ?_
      refine hG.lsb [(0, .ref r), (1, .int (nI i)), (2, .int w), (3, .ref x), (5, .int (nI k + Int32.ofInt 1))] ⟨rfl, rfl, rfl, rfl, rfl, trivial⟩ ?_
      rw [show nI k + Int32.ofInt 1 = nI (k + 1) from nI_add k 1]
      refine ih (k + 1) ((A1.wM2 A1.m2).wZs (A1.zs.set k z)) _ _ (by omega) (ile_tr hII hI124) ?_ (hF.tr (h1.f_a2 _)) kk
      have h3 := h2
      rw [show (mpK (aSp (nI i)) R.an k).set k (aSp (nI i) a) = mpK (aSp (nI i)) R.an (k + 1) from mpK_set ha] at h3
      exact h3
  have k143 : ∀ (A2 : RA) (I2 : AI) (L2 : AL), ile I I2 → RvO dE I2 L2 r ((R.wCh CH).wAn (R.an.map (aSp (nI i)))) A2 → Far L (RN r A) (RN r A2) L2 → G 143 [(0, .ref r), (1, .int (nI i)), (2, .int w), (3, .ref x)] [] I2 L2 12 60 := by
    intro A2 I2 L2 hIL h2 F2
    have hxc2 := hIL _ _ hxc0
    refine hG.aload_n dX2_split_143 rfl ?_
    refine hG.get dX2_split_144 fg_X2_27_X2 (Or.inl h2.h) rfl ?_
    refine hG.aload_n dX2_split_147 rfl ?_
    refine hG.get dX2_split_148 fg_X2_27_X2 (Or.inl h2.h) rfl ?_
    refine hG.iload_n dX2_split_151 rfl ?_
    refine hG.callS dX2_split_152 ks_X2_246 (sp_X2_split_2 (u := R.wa) hΓ hZ hi6 h2.h3 hw.nz (hw.sp hm5) hlw) rfl rfl (Nat.le_of_ble_eq_true rfl) (by decide) (by omega) (by omega) (fun r152 I152 L152 hI152 h152 => ?_) (fun _ _ _ _ _ h => h.elim)
    obtain ⟨q, hq, rfl, rfl⟩ := h152
    have hlt2 : (tsp i R.wa).length = R.wa.length := List.length_map (fun x : Nat × Int32 => (gsp i x.1, x.2))
    have g2 := h2.nw hI152 hq (some (taC (tsp i R.wa)))
    have hqa : q ≠ A2.a3 := fun e => by rw [e, h2.h3] at hq; cases hq
    refine hG.callS dX2_split_155 ks_X2_249 (sp_X2_replace (t := R.wa) (u := tsp i R.wa) hΓ hZ g2.h3 up1_s hqa.symm (tsp_nz hw.nz) (by rw [List.length_map]; exact hlw)) rfl rfl (Nat.le_of_ble_eq_true rfl) (by decide) (by omega) (by omega) (fun r155 I155 L155 hI155 h155 => ?_) (fun _ _ _ _ _ h => h.elim)
    obtain ⟨rfl, rfl⟩ := h155
    refine hG.sub (S := up1 _ A2.a3 (some (taC (tsp i R.wa)))) (up_drop _ hq hqa) ?_
    have h3 := (h2.mono (ile_tr hI152 hI155) (fun _ _ _ hx => hx)).sWa (tsp i R.wa)
    have F3 := F2.tr (h2.f_a3 (some (taC (tsp i R.wa))))
    clear g2 hqa hq q
    refine hG.aload_n dX2_split_158 rfl ?_
    refine hG.get dX2_split_159 fg_X2_31_X2 (Or.inl h3.h) rfl ?_
    refine hG.aload_n dX2_split_162 rfl ?_
    refine hG.get dX2_split_163 fg_X2_31_X2 (Or.inl h3.h) rfl ?_
    refine hG.iload_n dX2_split_166 rfl ?_
    refine hG.callS dX2_split_167 ks_X2_246 (sp_X2_split_2 (u := R.fo) hΓ hZ hi6 h3.h4 hf.nz (hf.sp hm5) hlf) rfl rfl (Nat.le_of_ble_eq_true rfl) (by decide) (by omega) (by omega) (fun r167 I167 L167 hI167 h167 => ?_) (fun _ _ _ _ _ h => h.elim)
    obtain ⟨q, hq, rfl, rfl⟩ := h167
    have hlt3 : (tsp i R.fo).length = R.fo.length := List.length_map (fun x : Nat × Int32 => (gsp i x.1, x.2))
    have g3 := h3.nw hI167 hq (some (taC (tsp i R.fo)))
    have hqa : q ≠ A2.a4 := fun e => by rw [e, h3.h4] at hq; cases hq
    refine hG.callS dX2_split_170 ks_X2_249 (sp_X2_replace (t := R.fo) (u := tsp i R.fo) hΓ hZ g3.h4 up1_s hqa.symm (tsp_nz hf.nz) (by rw [List.length_map]; exact hlf)) rfl rfl (Nat.le_of_ble_eq_true rfl) (by decide) (by omega) (by omega) (fun r170 I170 L170 hI170 h170 => ?_) (fun _ _ _ _ _ h => h.elim)
    obtain ⟨rfl, rfl⟩ := h170
    refine hG.sub (S := up1 _ A2.a4 (some (taC (tsp i R.fo)))) (up_drop _ hq hqa) ?_
    have h4 := (h3.mono (ile_tr hI167 hI170) (fun _ _ _ hx => hx)).sFo (tsp i R.fo)
    have F4 := F3.tr (h3.f_a4 (some (taC (tsp i R.fo))))
    clear g3 hqa hq q
    refine hG.aload_n dX2_split_173 rfl ?_
    refine hG.get dX2_split_174 fg_X2_34_X2 (Or.inl h4.h) rfl ?_
    refine hG.aload_n dX2_split_177 rfl ?_
    refine hG.get dX2_split_178 fg_X2_34_X2 (Or.inl h4.h) rfl ?_
    refine hG.iload_n dX2_split_181 rfl ?_
    refine hG.callS dX2_split_182 ks_X2_246 (sp_X2_split_2 (u := R.af) hΓ hZ hi6 h4.h5 ha.nz (ha.sp hm5) hla) rfl rfl (Nat.le_of_ble_eq_true rfl) (by decide) (by omega) (by omega) (fun r182 I182 L182 hI182 h182 => ?_) (fun _ _ _ _ _ h => h.elim)
    obtain ⟨q, hq, rfl, rfl⟩ := h182
    have hlt4 : (tsp i R.af).length = R.af.length := List.length_map (fun x : Nat × Int32 => (gsp i x.1, x.2))
    have g4 := h4.nw hI182 hq (some (taC (tsp i R.af)))
    have hqa : q ≠ A2.a5 := fun e => by rw [e, h4.h5] at hq; cases hq
    refine hG.callS dX2_split_185 ks_X2_249 (sp_X2_replace (t := R.af) (u := tsp i R.af) hΓ hZ g4.h5 up1_s hqa.symm (tsp_nz ha.nz) (by rw [List.length_map]; exact hla)) rfl rfl (Nat.le_of_ble_eq_true rfl) (by decide) (by omega) (by omega) (fun r185 I185 L185 hI185 h185 => ?_) (fun _ _ _ _ _ h => h.elim)
    obtain ⟨rfl, rfl⟩ := h185
    refine hG.sub (S := up1 _ A2.a5 (some (taC (tsp i R.af)))) (up_drop _ hq hqa) ?_
    have h5 := (h4.mono (ile_tr hI182 hI185) (fun _ _ _ hx => hx)).sAf (tsp i R.af)
    have F5 := F4.tr (h4.f_a5 (some (taC (tsp i R.af))))
    clear g4 hqa hq q
    refine hG.aload_n dX2_split_188 rfl ?_
    refine hG.dup dX2_split_189 rfl ?_
    refine hG.get dX2_split_190 fg_X2_84_X2 (Or.inl h5.h) rfl ?_
    refine hG.aload_n dX2_split_193 rfl ?_
    refine hG.get dX2_split_194 fg_X2_84_X2 (Or.inl h5.h) rfl ?_
    refine hG.iload_n dX2_split_197 rfl ?_
    refine hG.dia1 (p := 198) (fun kt kf => hG.icmp_le (tgt := 205) dX2_split_198 rfl kt kf) dX2_split_201 dX2_split_202 rfl dX2_split_205 ?_
    refine hG.iadd dX2_split_206 ?_
    refine hG.put dX2_split_207 fp_X2_84_X2 h5.h rfl rfl (Nat.le_of_ble_eq_true rfl) ?_
    have h6 := h5.sInts R.hr (R.st + b2i (!decide (R.st ≤ nI i))) R.rp R.ld R.pd R.cr
    refine hG.aload_n dX2_split_210 rfl ?_
    refine hG.get dX2_split_211 fg_X2_234_X6 (Or.inr (hI185 _ _ (hI182 _ _ (hI170 _ _ (hI167 _ _ (hI155 _ _ (hI152 _ _ hxc2))))))) rfl ?_
    refine hG.iload_n dX2_split_214 rfl ?_
    refine hG.isub dX2_split_215 ?_
    refine hG.iret dX2_split_216 rfl ?_ (by omega) (by omega) trivial
    exact ⟨_, _, A2, ho, rfl, rv_cast h6 (rv_eq hCHe.symm rfl rfl rfl rfl rfl rfl rfl rfl rfl rfl rfl rfl rfl rfl), F5.tr (h5.f_r _)⟩
  exact hG.lsb [(0, .ref r), (1, .int (nI i)), (2, .int w), (3, .ref x), (5, .int (nI 0))] ⟨rfl, rfl, rfl, rfl, rfl, trivial⟩ (hG.wid (by omega) (by omega) (loop R.an.length 0 _ _ _ (by omega) hI9 h1 F1 k143))

