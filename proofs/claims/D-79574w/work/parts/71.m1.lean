/-! what the model's array says of a river -/
def FlOk (f : T3) : Prop := 0 ≤ f.1 ∧ f.1 < f.2.2 ∧ f.2.2 ≤ 10200 ∧ 1 ≤ f.2.1 ∧ f.2.1 ≤ 9
def ChOk (c : T3) : Prop := 10 ≤ c.1 ∧ c.1 ≤ 99 ∧ 0 ≤ c.2.1 ∧ c.2.1 ≤ 9 ∧ 1 ≤ c.2.2 ∧ c.2.2 ≤ 9
def AnOk1 (a : T3) : Prop := 1 ≤ a.2.1 ∧ a.2.1 ≤ 9 ∧ 0 ≤ a.2.2 ∧ a.2.2 ≤ 99
def Wf (N : Nat) (R : Rv) : Prop := AnOk R ∧ R.fl.length ≤ 5 ∧ R.an.length ≤ 6 ∧ (TOk R.ch.length R.wa ∧ TOk R.ch.length R.fo ∧ TOk R.ch.length R.af) ∧ (R.wa.length ≤ N ∧ R.fo.length ≤ N ∧ R.af.length ≤ N) ∧ (∃ j, j ≤ R.ch.length ∧ R.st = nI j) ∧ (0 ≤ R.hr ∧ R.hr ≤ 9999) ∧ (∀ c ∈ R.ch, ChOk c) ∧ (∀ f ∈ R.fl, FlOk f) ∧ (∀ a ∈ R.an, AnOk1 a) ∧ (0 ≤ ldR R ∧ ldR R ≤ 60)
theorem Wf.wc {N : Nat} {R : Rv} (h : Wf N R) (hN : N ≤ 23) : Wc R := ⟨h.1, h.2.2.1, h.2.2.2.1, ⟨Nat.le_trans h.2.2.2.2.1.1 hN, Nat.le_trans h.2.2.2.2.1.2.1 hN, Nat.le_trans h.2.2.2.2.1.2.2 hN⟩, h.2.2.2.2.2.1⟩
theorem Wf.ok {N : Nat} {R : Rv} (h : Wf N R) : AnOk R := h.1
theorem Wf.ch6 {N : Nat} {R : Rv} (h : Wf N R) : R.ch.length ≤ 6 := h.1.1
theorem Wf.fl5 {N : Nat} {R : Rv} (h : Wf N R) : R.fl.length ≤ 5 := h.2.1
theorem Wf.an6 {N : Nat} {R : Rv} (h : Wf N R) : R.an.length ≤ 6 := h.2.2.1
theorem Wf.wa {N : Nat} {R : Rv} (h : Wf N R) : TOk R.ch.length R.wa := h.2.2.2.1.1
theorem Wf.fo {N : Nat} {R : Rv} (h : Wf N R) : TOk R.ch.length R.fo := h.2.2.2.1.2.1
theorem Wf.af {N : Nat} {R : Rv} (h : Wf N R) : TOk R.ch.length R.af := h.2.2.2.1.2.2
theorem Wf.ln {N : Nat} {R : Rv} (h : Wf N R) : R.wa.length ≤ N ∧ R.fo.length ≤ N ∧ R.af.length ≤ N := h.2.2.2.2.1
theorem Wf.st {N : Nat} {R : Rv} (h : Wf N R) : ∃ j, j ≤ R.ch.length ∧ R.st = nI j := h.2.2.2.2.2.1
theorem Wf.hr {N : Nat} {R : Rv} (h : Wf N R) : 0 ≤ R.hr ∧ R.hr ≤ 9999 := h.2.2.2.2.2.2.1
theorem Wf.cs {N : Nat} {R : Rv} (h : Wf N R) : ∀ c ∈ R.ch, ChOk c := h.2.2.2.2.2.2.2.1
theorem Wf.fs {N : Nat} {R : Rv} (h : Wf N R) : ∀ f ∈ R.fl, FlOk f := h.2.2.2.2.2.2.2.2.1
theorem Wf.as {N : Nat} {R : Rv} (h : Wf N R) : ∀ a ∈ R.an, AnOk1 a := h.2.2.2.2.2.2.2.2.2.1
theorem Wf.ld {N : Nat} {R : Rv} (h : Wf N R) : 0 ≤ ldR R ∧ ldR R ≤ 60 := h.2.2.2.2.2.2.2.2.2.2
/-- the order of coming -/
def OrdA (N : Nat) (t : Tal) (n : Nat → Int32) : Prop := ∃ (cm : Nat) (rk : Nat → Nat), n 9 = nI cm ∧ cm ≤ N ∧ t.Pairwise (fun x y => rk x.1 < rk y.1) ∧ ∀ x ∈ t, 0 < rk x.1 ∧ rk x.1 ≤ cm ∧ n (211 + x.1) = nI (rk x.1)
def Rep (N : Nat) (R : Rv) (n : Nat → Int32) : Prop := (n 0 = nI R.ch.length ∧ n 1 = nI R.fl.length ∧ n 2 = nI R.an.length) ∧ (n 3 = R.hr ∧ n 4 = R.st ∧ n 5 = R.rp ∧ n 6 = R.ld ∧ n 7 = R.pd ∧ n 8 = R.cr) ∧ (n 10 = R.f0 ∧ n 11 = R.f1 ∧ n 12 = R.f2) ∧ (∀ i c, R.ch[i]? = some c → n (13 + 3 * i) = c.1 ∧ n (13 + 3 * i + 1) = c.2.1 ∧ n (13 + 3 * i + 2) = c.2.2) ∧ (∀ i f, R.fl[i]? = some f → n (31 + 3 * i) = f.1 ∧ n (31 + 3 * i + 1) = f.2.2 ∧ n (31 + 3 * i + 2) = f.2.1) ∧ (∀ i a, R.an[i]? = some a → n (46 + 3 * i) = a.1 ∧ n (46 + 3 * i + 1) = a.2.1 ∧ n (46 + 3 * i + 2) = a.2.2) ∧ (∀ c, c < 147 → n (64 + c) = tof R.wa c) ∧ (∀ c, c < 147 → n (358 + c) = tof R.fo c) ∧ (∀ c, c < 147 → n (505 + c) = tof R.af c) ∧ OrdA N R.wa n
theorem Rep.k0 {N : Nat} {R : Rv} {n : Nat → Int32} (h : Rep N R n) : n 0 = nI R.ch.length := h.1.1
theorem Rep.k1 {N : Nat} {R : Rv} {n : Nat → Int32} (h : Rep N R n) : n 1 = nI R.fl.length := h.1.2.1
theorem Rep.k2 {N : Nat} {R : Rv} {n : Nat → Int32} (h : Rep N R n) : n 2 = nI R.an.length := h.1.2.2
theorem Rep.k3 {N : Nat} {R : Rv} {n : Nat → Int32} (h : Rep N R n) : n 3 = R.hr := h.2.1.1
theorem Rep.k4 {N : Nat} {R : Rv} {n : Nat → Int32} (h : Rep N R n) : n 4 = R.st := h.2.1.2.1
theorem Rep.k5 {N : Nat} {R : Rv} {n : Nat → Int32} (h : Rep N R n) : n 5 = R.rp := h.2.1.2.2.1
theorem Rep.k6 {N : Nat} {R : Rv} {n : Nat → Int32} (h : Rep N R n) : n 6 = R.ld := h.2.1.2.2.2.1
theorem Rep.k7 {N : Nat} {R : Rv} {n : Nat → Int32} (h : Rep N R n) : n 7 = R.pd := h.2.1.2.2.2.2.1
theorem Rep.k8 {N : Nat} {R : Rv} {n : Nat → Int32} (h : Rep N R n) : n 8 = R.cr := h.2.1.2.2.2.2.2
theorem Rep.f {N : Nat} {R : Rv} {n : Nat → Int32} (h : Rep N R n) {k : Nat} (hk : k < 3) : n (10 + k) = faR R k := by
  match k, hk with
  | 0, _ => exact h.2.2.1.1
  | 1, _ => exact h.2.2.1.2.1
  | 2, _ => exact h.2.2.1.2.2
  | _ + 3, h9 => exact absurd h9 (by omega)
theorem Rep.c {N : Nat} {R : Rv} {n : Nat → Int32} (h : Rep N R n) {i : Nat} {c : T3} (hc : R.ch[i]? = some c) : n (13 + 3 * i) = c.1 ∧ n (13 + 3 * i + 1) = c.2.1 ∧ n (13 + 3 * i + 2) = c.2.2 := h.2.2.2.1 i c hc
theorem Rep.l {N : Nat} {R : Rv} {n : Nat → Int32} (h : Rep N R n) {i : Nat} {c : T3} (hc : R.fl[i]? = some c) : n (31 + 3 * i) = c.1 ∧ n (31 + 3 * i + 1) = c.2.2 ∧ n (31 + 3 * i + 2) = c.2.1 := h.2.2.2.2.1 i c hc
theorem Rep.a {N : Nat} {R : Rv} {n : Nat → Int32} (h : Rep N R n) {i : Nat} {c : T3} (hc : R.an[i]? = some c) : n (46 + 3 * i) = c.1 ∧ n (46 + 3 * i + 1) = c.2.1 ∧ n (46 + 3 * i + 2) = c.2.2 := h.2.2.2.2.2.1 i c hc
theorem Rep.w {N : Nat} {R : Rv} {n : Nat → Int32} (h : Rep N R n) {c : Nat} (hc : c < 147) : n (64 + c) = tof R.wa c := h.2.2.2.2.2.2.1 c hc
theorem Rep.fo {N : Nat} {R : Rv} {n : Nat → Int32} (h : Rep N R n) {c : Nat} (hc : c < 147) : n (358 + c) = tof R.fo c := h.2.2.2.2.2.2.2.1 c hc
theorem Rep.af {N : Nat} {R : Rv} {n : Nat → Int32} (h : Rep N R n) {c : Nat} (hc : c < 147) : n (505 + c) = tof R.af c := h.2.2.2.2.2.2.2.2.1 c hc
theorem Rep.or {N : Nat} {R : Rv} {n : Nat → Int32} (h : Rep N R n) : OrdA N R.wa n := h.2.2.2.2.2.2.2.2.2
theorem ix_b (a i b : Nat) : nI a + nI 3 * nI i + nI b = nI (a + 3 * i + b) := by rw [ix3, ix1]
section NW
variable {l : Launch} {s0 : State} {D : va_G} {own nm : String} {cc : ByteArray} {nL : Nat} {ret : Option FieldType} {tab : List ExceptionTableEntry} {d mc ms : Nat} {Ib : AI} {post : Option Value → AI → AL → Prop} {xp : String → Nat → AI → AL → Prop} {md : Prop} {G : Gt} {GX : GXt}
variable {pc : Nat} {ls : List (Nat × Value)} {st : List Value} {I : AI} {L : AL} {k n : Nat}
theorem IsG.nld (hG : IsG l s0 D own nm cc nL ret tab d mc ms Ib post xp md G GX) {m : Nat} {A : MA} {V : MV} (hA : MOk m A) (j : Nat) {i v : Int32} (hd : decode cc pc = .ok (.iaload, 1)) (hi : i = nI j) (hj : j < 652) (hv : V.nw j = v) (kk : G (pc + 1) ls (.int v :: st) I (mdL L m A V) k n) : G pc ls (.int i :: .ref A.nw :: st) I (mdL L m A V) k n := by
  subst hi
  subst hv
  refine hG.iald hd (Or.inl (mdL_nw hA)) (vp_in_nI hj (by decide)) ?_
  rw [nI_clamp (by omega)]
  exact kk
theorem IsG.nst (hG : IsG l s0 D own nm cc nL ret tab d mc ms Ib post xp md G GX) {m : Nat} {A : MA} {V : MV} (hA : MOk m A) (j : Nat) {i x : Int32} (hd : decode cc pc = .ok (.iastore, 1)) (hi : i = nI j) (hj : j < 652) (kk : G (pc + 1) ls st I (mdL L m A (V.wNw (va_up V.nw j x))) k n) : G pc ls (.int x :: .int i :: .ref A.nw :: st) I (mdL L m A V) k n := by
  subst hi
  refine hG.iast hd (mdL_nw hA) (vp_in_nI hj (by decide)) ?_
  rw [nI_clamp (by omega)]
  exact hG.ma_nw hA kk
end NW
set_option maxHeartbeats 4000000 in
set_option maxRecDepth 100000 in
theorem sp_X4_in {l : Launch} {s0 : State} {D : va_G} {I : AI} {L : AL} (hΓ : Gam l s0 D) {v a b : Int32} : Spc l s0 D yX4_in 1 [.int v, .int a, .int b] I L 0 0 (pV (.int (b2i (inR v a b))) I L) noX := by
  refine Spc.of hΓ cX4_in 3 (some FieldType.boolean) q3349 (by decide +kernel) (by decide) (Nat.le_of_ble_eq_true rfl) (fun G GX hG => ?_)
  refine hG.iload_n dX4_in_0 rfl ?_
  refine hG.iload_n dX4_in_1 rfl ?_
  refine hG.icmp_lt (tgt := 14) dX4_in_2 rfl (fun c_2 => ?_) (fun c_2 => ?_)
  · refine hG.iconst (v := 0) dX4_in_14 rfl ?_
    refine hG.zret dX4_in_15 rfl (by first | rfl | exact b2i_nar _) ?_ (by omega) (by omega) trivial
    first
    | (rw [inR_lt c_2]; exact ⟨rfl, rfl, rfl⟩)
    | (rw [inR_gt c_7]; exact ⟨rfl, rfl, rfl⟩)
    | (rw [inR_ok c_2 c_7]; exact ⟨rfl, rfl, rfl⟩)
  · refine hG.iload_n dX4_in_5 rfl ?_
    refine hG.iload_n dX4_in_6 rfl ?_
    refine hG.icmp_gt (tgt := 14) dX4_in_7 rfl (fun c_7 => ?_) (fun c_7 => ?_)
    · refine hG.iconst (v := 0) dX4_in_14 rfl ?_
      refine hG.zret dX4_in_15 rfl (by first | rfl | exact b2i_nar _) ?_ (by omega) (by omega) trivial
      first
      | (rw [inR_lt c_2]; exact ⟨rfl, rfl, rfl⟩)
      | (rw [inR_gt c_7]; exact ⟨rfl, rfl, rfl⟩)
      | (rw [inR_ok c_2 c_7]; exact ⟨rfl, rfl, rfl⟩)
    · refine hG.iconst (v := 1) dX4_in_10 rfl ?_
      refine hG.goto (tgt := 15) dX4_in_11 rfl ?_
      refine hG.zret dX4_in_15 rfl (by first | rfl | exact b2i_nar _) ?_ (by omega) (by omega) trivial
      first
      | (rw [inR_lt c_2]; exact ⟨rfl, rfl, rfl⟩)
      | (rw [inR_gt c_7]; exact ⟨rfl, rfl, rfl⟩)
      | (rw [inR_ok c_2 c_7]; exact ⟨rfl, rfl, rfl⟩)
set_option maxHeartbeats 4000000 in
set_option maxRecDepth 100000 in
theorem sp_X4_weighs {l : Launch} {s0 : State} {D : va_G} {I : AI} {L : AL} (hΓ : Gam l s0 D) {v : Int32} : Spc l s0 D yX4_weighs 1 [.int v] I L 0 0 (pV (.int (wof v)) I L) noX := by
  refine Spc.of hΓ cX4_weighs 1 (some FieldType.int) q3460 (by decide +kernel) (by decide) (Nat.le_of_ble_eq_true rfl) (fun G GX hG => ?_)
  refine hG.iload_n dX4_weighs_0 rfl ?_
  refine hG.if_ne (tgt := 8) dX4_weighs_1 rfl (fun c_1 => ?_) (fun c_1 => ?_)
  · refine hG.iload_n dX4_weighs_8 rfl ?_
    refine hG.iconst (v := 1) dX4_weighs_9 rfl ?_
    refine hG.icmp_ne (tgt := 18) dX4_weighs_10 rfl (fun c_10 => ?_) (fun c_10 => ?_)
    · refine hG.bipush (v := 20) dX4_weighs_18 rfl ?_
      refine hG.iret dX4_weighs_20 rfl ?_ (by omega) (by omega) trivial
      refine ⟨?_, rfl, rfl⟩
      unfold wof
      simp_all
    · refine hG.bipush (v := 8) dX4_weighs_13 rfl ?_
      refine hG.goto (tgt := 20) dX4_weighs_15 rfl ?_
      refine hG.iret dX4_weighs_20 rfl ?_ (by omega) (by omega) trivial
      refine ⟨?_, rfl, rfl⟩
      unfold wof
      simp_all
  · refine hG.iconst (v := 1) dX4_weighs_4 rfl ?_
    refine hG.goto (tgt := 20) dX4_weighs_5 rfl ?_
    refine hG.iret dX4_weighs_20 rfl ?_ (by omega) (by omega) trivial
    refine ⟨?_, rfl, rfl⟩
    unfold wof
    simp_all
set_option maxHeartbeats 4000000 in
set_option maxRecDepth 100000 in
theorem sp_X4_groupAt {l : Launch} {s0 : State} {D : va_G} {I : AI} {L : AL} (hΓ : Gam l s0 D) {k f t : Nat} : Spc l s0 D yX4_groupAt 1 [.int (nI k), .int (nI f), .int (nI t)] I L 0 0 (pV (.int (nI (gco k f t))) I L) noX := by
  refine Spc.of hΓ cX4_groupAt 3 (some FieldType.int) q3380 (by decide +kernel) (by decide) (Nat.le_of_ble_eq_true rfl) (fun G GX hG => ?_)
  refine hG.bipush (v := 49) dX4_groupAt_0 rfl ?_
  refine hG.iload_n dX4_groupAt_2 rfl ?_
  refine hG.imul dX4_groupAt_3 ?_
  refine hG.bipush (v := 7) dX4_groupAt_4 rfl ?_
  refine hG.iload_n dX4_groupAt_6 rfl ?_
  refine hG.imul dX4_groupAt_7 ?_
  refine hG.iadd dX4_groupAt_8 ?_
  refine hG.iload_n dX4_groupAt_9 rfl ?_
  refine hG.iadd dX4_groupAt_10 ?_
  refine hG.iret dX4_groupAt_11 rfl ?_ (by omega) (by omega) trivial
  refine ⟨?_, rfl, rfl⟩
  unfold gco
  rw [show (49 : Int32) * nI k = nI (49 * k) from pk_mul 49 k, show (7 : Int32) * nI f = nI (7 * f) from pk_mul 7 f, ix1, ix1]
theorem ks_X4_80 : LkS RX4 80 yX4_in 3 := ⟨q3347, q3348, q87, by decide +kernel, by decide +kernel, by decide +kernel⟩
set_option maxHeartbeats 4000000 in
set_option maxRecDepth 100000 in
theorem sp_X4_isKind {l : Launch} {s0 : State} {D : va_G} {I : AI} {L : AL} (hΓ : Gam l s0 D) {v : Int32} : Spc l s0 D yX4_isKind 2 [.int v] I L 0 0 (pV (.int (b2i (inR v 0 2))) I L) noX := by
  refine Spc.of hΓ cX4_isKind 1 (some FieldType.boolean) q3488 (by decide +kernel) (by decide) (Nat.le_of_ble_eq_true rfl) (fun G GX hG => ?_)
  refine hG.iload_n dX4_isKind_0 rfl ?_
  refine hG.iconst (v := 0) dX4_isKind_1 rfl ?_
  refine hG.iconst (v := 2) dX4_isKind_2 rfl ?_
  refine hG.callS dX4_isKind_3 ks_X4_80 (sp_X4_in hΓ) rfl rfl (Nat.le_of_ble_eq_true rfl) (by decide) (by omega) (by omega) (fun r3 I3 L3 hI3 h3 => ?_) (fun _ _ _ _ _ h => h.elim)
  obtain ⟨rfl, rfl, rfl⟩ := h3
  refine hG.zret dX4_isKind_6 rfl (by first | rfl | exact b2i_nar _) ?_ (by omega) (by omega) trivial
  exact ⟨rfl, rfl, rfl⟩
theorem cls_X4 : CLs ciX4 RX4 TX4 21 tyX4 := ⟨rfl, in_X4, tyX4_ok, nmX4⟩
theorem fg_X4_21_X4 : LkG RX4 21 ciX4 1 := ⟨RX4, TX4, 21, tyX4, _, cls_X4, by decide, Or.inl rfl, Or.inl q3271⟩
set_option maxHeartbeats 4000000 in
set_option maxRecDepth 100000 in
theorem sp_X4_isStop {l : Launch} {s0 : State} {D : va_G} {I : AI} {L : AL} {m : Nat} {A : MA} {V : MV} {N : Nat} {R : Rv} (hΓ : Gam l s0 D) (hA : MOk m A) (hR : Rep N R V.nw) (hw : Wf N R) {v : Int32} : Spc l s0 D yX4_isStop 2 [.ref m, .int v] I (mdL L m A V) 0 0 (pV (.int (b2i (inR v 0 (nI R.ch.length)))) I (mdL L m A V)) noX := by
  refine Spc.of hΓ cX4_isStop 2 (some FieldType.boolean) q3485 (by decide +kernel) (by decide) (Nat.le_of_ble_eq_true rfl) (fun G GX hG => ?_)
  refine hG.iload_n dX4_isStop_0 rfl ?_
  refine hG.iconst (v := 0) dX4_isStop_1 rfl ?_
  refine hG.aload_n dX4_isStop_2 rfl ?_
  refine hG.get dX4_isStop_3 fg_X4_21_X4 (Or.inl mdL_m) rfl ?_
  refine hG.iconst (v := 0) dX4_isStop_6 rfl ?_
  refine hG.nld hA (0) dX4_isStop_7 rfl (by decide) hR.k0 ?_
  refine hG.callS dX4_isStop_8 ks_X4_80 (sp_X4_in hΓ) rfl rfl (Nat.le_of_ble_eq_true rfl) (by decide) (by omega) (by omega) (fun r8 I8 L8 hI8 h8 => ?_) (fun _ _ _ _ _ h => h.elim)
  obtain ⟨rfl, rfl, rfl⟩ := h8
  refine hG.zret dX4_isStop_11 rfl (by first | rfl | exact b2i_nar _) ?_ (by omega) (by omega) trivial
  exact ⟨rfl, rfl, rfl⟩
set_option maxHeartbeats 4000000 in
set_option maxRecDepth 100000 in
theorem sp_X4_isChannel {l : Launch} {s0 : State} {D : va_G} {I : AI} {L : AL} {m : Nat} {A : MA} {V : MV} {N : Nat} {R : Rv} (hΓ : Gam l s0 D) (hA : MOk m A) (hR : Rep N R V.nw) (hw : Wf N R) {v : Int32} : Spc l s0 D yX4_isChannel 2 [.ref m, .int v] I (mdL L m A V) 0 0 (pV (.int (b2i (inR v 0 (nI R.ch.length - 1)))) I (mdL L m A V)) noX := by
  refine Spc.of hΓ cX4_isChannel 2 (some FieldType.boolean) q3373 (by decide +kernel) (by decide) (Nat.le_of_ble_eq_true rfl) (fun G GX hG => ?_)
  refine hG.iload_n dX4_isChannel_0 rfl ?_
  refine hG.iconst (v := 0) dX4_isChannel_1 rfl ?_
  refine hG.aload_n dX4_isChannel_2 rfl ?_
  refine hG.get dX4_isChannel_3 fg_X4_21_X4 (Or.inl mdL_m) rfl ?_
  refine hG.iconst (v := 0) dX4_isChannel_6 rfl ?_
  refine hG.nld hA (0) dX4_isChannel_7 rfl (by decide) hR.k0 ?_
  refine hG.iconst (v := 1) dX4_isChannel_8 rfl ?_
  refine hG.isub dX4_isChannel_9 ?_
  refine hG.callS dX4_isChannel_10 ks_X4_80 (sp_X4_in hΓ) rfl rfl (Nat.le_of_ble_eq_true rfl) (by decide) (by omega) (by omega) (fun r10 I10 L10 hI10 h10 => ?_) (fun _ _ _ _ _ h => h.elim)
  obtain ⟨rfl, rfl, rfl⟩ := h10
  refine hG.zret dX4_isChannel_13 rfl (by first | rfl | exact b2i_nar _) ?_ (by omega) (by omega) trivial
  exact ⟨rfl, rfl, rfl⟩
set_option maxHeartbeats 4000000 in
set_option maxRecDepth 100000 in
theorem sp_X4_isAnchor {l : Launch} {s0 : State} {D : va_G} {I : AI} {L : AL} {m : Nat} {A : MA} {V : MV} {N : Nat} {R : Rv} (hΓ : Gam l s0 D) (hA : MOk m A) (hR : Rep N R V.nw) (hw : Wf N R) {v : Int32} : Spc l s0 D yX4_isAnchor 2 [.ref m, .int v] I (mdL L m A V) 0 0 (pV (.int (b2i (inR v 0 (nI R.an.length - 1)))) I (mdL L m A V)) noX := by
  refine Spc.of hΓ cX4_isAnchor 2 (some FieldType.boolean) q3437 (by decide +kernel) (by decide) (Nat.le_of_ble_eq_true rfl) (fun G GX hG => ?_)
  refine hG.iload_n dX4_isAnchor_0 rfl ?_
  refine hG.iconst (v := 0) dX4_isAnchor_1 rfl ?_
  refine hG.aload_n dX4_isAnchor_2 rfl ?_
  refine hG.get dX4_isAnchor_3 fg_X4_21_X4 (Or.inl mdL_m) rfl ?_
  refine hG.iconst (v := 2) dX4_isAnchor_6 rfl ?_
  refine hG.nld hA (2) dX4_isAnchor_7 rfl (by decide) hR.k2 ?_
  refine hG.iconst (v := 1) dX4_isAnchor_8 rfl ?_
  refine hG.isub dX4_isAnchor_9 ?_
  refine hG.callS dX4_isAnchor_10 ks_X4_80 (sp_X4_in hΓ) rfl rfl (Nat.le_of_ble_eq_true rfl) (by decide) (by omega) (by omega) (fun r10 I10 L10 hI10 h10 => ?_) (fun _ _ _ _ _ h => h.elim)
  obtain ⟨rfl, rfl, rfl⟩ := h10
  refine hG.zret dX4_isAnchor_13 rfl (by first | rfl | exact b2i_nar _) ?_ (by omega) (by omega) trivial
  exact ⟨rfl, rfl, rfl⟩
set_option maxHeartbeats 4000000 in
set_option maxRecDepth 100000 in
theorem sp_X4_holds {l : Launch} {s0 : State} {D : va_G} {I : AI} {L : AL} {m : Nat} {A : MA} {V : MV} {N : Nat} {R : Rv} (hΓ : Gam l s0 D) (hA : MOk m A) (hR : Rep N R V.nw) (hw : Wf N R) {i : Nat} {a : T3} (ha : R.an[i]? = some a) : Spc l s0 D yX4_holds 1 [.ref m, .int (nI i)] I (mdL L m A V) 0 0 (pV (.int (b2i (holdsA a))) I (mdL L m A V)) noX := by
  refine Spc.of hΓ cX4_holds 2 (some FieldType.boolean) q3401 (by decide +kernel) (by decide) (Nat.le_of_ble_eq_true rfl) (fun G GX hG => ?_)
  have hil : i < R.an.length := (List.getElem?_eq_some_iff.mp ha).1
  have hi6 := hw.an6
  refine hG.aload_n dX4_holds_0 rfl ?_
  refine hG.get dX4_holds_1 fg_X4_21_X4 (Or.inl mdL_m) rfl ?_
  refine hG.bipush (v := 46) dX4_holds_4 rfl ?_
  refine hG.iconst (v := 3) dX4_holds_6 rfl ?_
  refine hG.iload_n dX4_holds_7 rfl ?_
  refine hG.imul dX4_holds_8 ?_
  refine hG.iadd dX4_holds_9 ?_
  refine hG.iconst (v := 2) dX4_holds_10 rfl ?_
  refine hG.iadd dX4_holds_11 ?_
  refine hG.nld hA (46 + 3 * i + 2) dX4_holds_12 (ix_b 46 i 2) (by omega) (hR.a ha).2.2 ?_
  refine hG.bipush (v := 50) dX4_holds_13 rfl ?_
  refine hG.icmp_ge (tgt := 22) dX4_holds_15 rfl (fun c_15 => ?_) (fun c_15 => ?_)
  · refine hG.iconst (v := 0) dX4_holds_22 rfl ?_
    refine hG.zret dX4_holds_23 rfl (by first | rfl | exact b2i_nar _) ?_ (by omega) (by omega) trivial
    first
    | (rw [show holdsA a = false from decide_eq_false (fun q => lt_not.mp q c_15)]; exact ⟨rfl, rfl, rfl⟩)
    | (rw [show holdsA a = true from decide_eq_true (lt_not.mpr c_15)]; exact ⟨rfl, rfl, rfl⟩)
  · refine hG.iconst (v := 1) dX4_holds_18 rfl ?_
    refine hG.goto (tgt := 23) dX4_holds_19 rfl ?_
    refine hG.zret dX4_holds_23 rfl (by first | rfl | exact b2i_nar _) ?_ (by omega) (by omega) trivial
    first
    | (rw [show holdsA a = false from decide_eq_false (fun q => lt_not.mp q c_15)]; exact ⟨rfl, rfl, rfl⟩)
    | (rw [show holdsA a = true from decide_eq_true (lt_not.mpr c_15)]; exact ⟨rfl, rfl, rfl⟩)
theorem le_pred {h a b : Int32} (h1 : 0 ≤ a) (h2 : a < b) : h ≤ b - 1 ↔ h < b := by
  have a1 := Int32.le_iff_toInt_le.mp h1
  have a2 := Int32.lt_iff_toInt_lt.mp h2
  have z : (0 : Int32).toInt = 0 := rfl
  have z1 : (1 : Int32).toInt = 1 := rfl
  have hb := b.toInt_lt
  have e : (b - 1).toInt = b.toInt - 1 := by
    rw [Int32.toInt_sub, z1]
    exact Int.bmod_eq_of_le (by omega) (by omega)
  rw [Int32.le_iff_toInt_le, Int32.lt_iff_toInt_lt, e]
  omega
set_option maxHeartbeats 4000000 in
set_option maxRecDepth 100000 in
theorem sp_X4_flowAt {l : Launch} {s0 : State} {D : va_G} {I : AI} {L : AL} {m : Nat} {A : MA} {V : MV} {N : Nat} {R : Rv} (hΓ : Gam l s0 D) (hA : MOk m A) (hR : Rep N R V.nw) (hw : Wf N R) {j : Nat} {c0 : T3} {at_ : Int32} (hj : R.ch[j]? = some c0) : Spc l s0 D yX4_flowAt 2 [.ref m, .int (nI j), .int at_] I (mdL L m A V) 0 0 (pV (.int (flowV R c0 at_)) I (mdL L m A V)) noX := by
  refine Spc.of hΓ cX4_flowAt 5 (some FieldType.int) q3392 (by decide +kernel) (by decide) (Nat.le_of_ble_eq_true rfl) (fun G GX hG => ?_)
  have loop : ∀ (w i : Nat) (acc : Int32), i + w = R.fl.length → acc = flowS (R.fl.take i) at_ c0.2.1 → G 17 [(0, .ref m), (1, .int (nI j)), (2, .int at_), (3, .int acc), (4, .int (nI i))] [] I (mdL L m A V) 0 0 := by
    intro w
    induction w with
    | zero =>
      intro i acc hiw hacc
      refine hG.iload dX4_flowAt_17 rfl ?_
      refine hG.aload_n dX4_flowAt_19 rfl ?_
      refine hG.get dX4_flowAt_20 fg_X4_21_X4 (Or.inl mdL_m) rfl ?_
      refine hG.iconst (v := 1) dX4_flowAt_23 rfl ?_
      refine hG.nld hA (1) dX4_flowAt_24 rfl (by decide) hR.k1 ?_
      refine hG.icmp_ge (tgt := 85) dX4_flowAt_25 rfl (fun c_25 => ?_) (fun c_25 => absurd (nI_le (by omega) (by have := hw.fl5; omega)) c_25)
      refine hG.bipush (v := 30) dX4_flowAt_85 rfl ?_
      refine hG.iload_n dX4_flowAt_87 rfl ?_
      refine hG.mmin dX4_flowAt_88 q3393 (Nat.le_of_ble_eq_true rfl) (by decide) ?_
      refine hG.iret dX4_flowAt_91 rfl ?_ (by omega) (by omega) trivial
      rw [hacc, show R.fl.take i = R.fl by rw [show i = R.fl.length by omega]; exact List.take_length]
      exact ⟨rfl, rfl, rfl⟩
    | succ w ih =>
      intro i acc hiw hacc
      obtain ⟨f, hf, hfm⟩ := get_lt (show i < R.fl.length by omega)
      obtain ⟨o1, o2, o3, o4, o5⟩ := hw.fs f hfm
      have hfl := hw.fl5
      refine hG.iload dX4_flowAt_17 rfl ?_
      refine hG.aload_n dX4_flowAt_19 rfl ?_
      refine hG.get dX4_flowAt_20 fg_X4_21_X4 (Or.inl mdL_m) rfl ?_
      refine hG.iconst (v := 1) dX4_flowAt_23 rfl ?_
      refine hG.nld hA (1) dX4_flowAt_24 rfl (by decide) hR.k1 ?_
      refine hG.icmp_ge (tgt := 85) dX4_flowAt_25 rfl (fun c_25 => absurd c_25 (nI_ge (by omega) (by have := hw.fl5; omega))) (fun c_25 => ?_)
      refine hG.iload_n dX4_flowAt_28 rfl ?_
      refine hG.aload_n dX4_flowAt_29 rfl ?_
      refine hG.get dX4_flowAt_30 fg_X4_21_X4 (Or.inl mdL_m) rfl ?_
      refine hG.bipush (v := 31) dX4_flowAt_33 rfl ?_
      refine hG.iconst (v := 3) dX4_flowAt_35 rfl ?_
      refine hG.iload dX4_flowAt_36 rfl ?_
      refine hG.imul dX4_flowAt_38 ?_
      refine hG.iadd dX4_flowAt_39 ?_
      refine hG.nld hA (31 + 3 * i) dX4_flowAt_40 (ix3 31 i) (by omega) (hR.l hf).1 ?_
      refine hG.icmp_lt (tgt := 79) dX4_flowAt_41 rfl (fun c_41 => ?_) (fun c_41 => ?_)
      · refine hG.iinc dX4_flowAt_79 rfl (by decide) ?_
        refine hG.goto (tgt := 17) dX4_flowAt_82 rfl ?_
        refine hG.lsb [(0, .ref m), (1, .int (nI j)), (2, .int at_), (3, .int acc), (4, .int (nI i + Int32.ofInt 1))] ⟨rfl, rfl, rfl, rfl, rfl, trivial⟩ ?_
        rw [show nI i + Int32.ofInt 1 = nI (i + 1) from nI_add i 1]
        refine ih (i + 1) _ (by omega) ?_
        unfold flowS
        rw [foldl_take hf]
        show _ = flowS (R.fl.take i) at_ c0.2.1 + rise f at_
        rw [← hacc]
        unfold rise
        first
        | (rw [if_pos (inR_iff.mpr ⟨Int32.not_lt.mp c_41, (le_pred o1 o2).mpr (lt_not.mpr c_59)⟩)])
        | (rw [if_neg (fun q => lt_not.mp c_41 (inR_iff.mp q).1), Int32.add_zero])
        | (rw [if_neg (fun q => lt_not.mp ((le_pred o1 o2).mp (inR_iff.mp q).2) c_59), Int32.add_zero])
      · refine hG.iload_n dX4_flowAt_44 rfl ?_
        refine hG.aload_n dX4_flowAt_45 rfl ?_
        refine hG.get dX4_flowAt_46 fg_X4_21_X4 (Or.inl mdL_m) rfl ?_
        refine hG.bipush (v := 31) dX4_flowAt_49 rfl ?_
        refine hG.iconst (v := 3) dX4_flowAt_51 rfl ?_
        refine hG.iload dX4_flowAt_52 rfl ?_
        refine hG.imul dX4_flowAt_54 ?_
        refine hG.iadd dX4_flowAt_55 ?_
        refine hG.iconst (v := 1) dX4_flowAt_56 rfl ?_
        refine hG.iadd dX4_flowAt_57 ?_
        refine hG.nld hA (31 + 3 * i + 1) dX4_flowAt_58 (ix_b 31 i 1) (by omega) (hR.l hf).2.1 ?_
        refine hG.icmp_ge (tgt := 79) dX4_flowAt_59 rfl (fun c_59 => ?_) (fun c_59 => ?_)
        · refine hG.iinc dX4_flowAt_79 rfl (by decide) ?_
          refine hG.goto (tgt := 17) dX4_flowAt_82 rfl ?_
          refine hG.lsb [(0, .ref m), (1, .int (nI j)), (2, .int at_), (3, .int acc), (4, .int (nI i + Int32.ofInt 1))] ⟨rfl, rfl, rfl, rfl, rfl, trivial⟩ ?_
          rw [show nI i + Int32.ofInt 1 = nI (i + 1) from nI_add i 1]
          refine ih (i + 1) _ (by omega) ?_
          unfold flowS
          rw [foldl_take hf]
          show _ = flowS (R.fl.take i) at_ c0.2.1 + rise f at_
          rw [← hacc]
          unfold rise
          first
          | (rw [if_pos (inR_iff.mpr ⟨Int32.not_lt.mp c_41, (le_pred o1 o2).mpr (lt_not.mpr c_59)⟩)])
          | (rw [if_neg (fun q => lt_not.mp c_41 (inR_iff.mp q).1), Int32.add_zero])
          | (rw [if_neg (fun q => lt_not.mp ((le_pred o1 o2).mp (inR_iff.mp q).2) c_59), Int32.add_zero])
        · refine hG.iload_n dX4_flowAt_62 rfl ?_
          refine hG.aload_n dX4_flowAt_63 rfl ?_
          refine hG.get dX4_flowAt_64 fg_X4_21_X4 (Or.inl mdL_m) rfl ?_
          refine hG.bipush (v := 31) dX4_flowAt_67 rfl ?_
          refine hG.iconst (v := 3) dX4_flowAt_69 rfl ?_
          refine hG.iload dX4_flowAt_70 rfl ?_
          refine hG.imul dX4_flowAt_72 ?_
          refine hG.iadd dX4_flowAt_73 ?_
          refine hG.iconst (v := 2) dX4_flowAt_74 rfl ?_
          refine hG.iadd dX4_flowAt_75 ?_
          refine hG.nld hA (31 + 3 * i + 2) dX4_flowAt_76 (ix_b 31 i 2) (by omega) (hR.l hf).2.2 ?_
          refine hG.iadd dX4_flowAt_77 ?_
          refine hG.istore_n dX4_flowAt_78 (by decide) ?_
          refine hG.iinc dX4_flowAt_79 rfl (by decide) ?_
          refine hG.goto (tgt := 17) dX4_flowAt_82 rfl ?_
          refine hG.lsb [(0, .ref m), (1, .int (nI j)), (2, .int at_), (3, .int (acc + f.2.1)), (4, .int (nI i + Int32.ofInt 1))] ⟨rfl, rfl, rfl, rfl, rfl, trivial⟩ ?_
          rw [show nI i + Int32.ofInt 1 = nI (i + 1) from nI_add i 1]
          refine ih (i + 1) _ (by omega) ?_
          unfold flowS
          rw [foldl_take hf]
          show _ = flowS (R.fl.take i) at_ c0.2.1 + rise f at_
          rw [← hacc]
          unfold rise
          first
          | (rw [if_pos (inR_iff.mpr ⟨Int32.not_lt.mp c_41, (le_pred o1 o2).mpr (lt_not.mpr c_59)⟩)])
          | (rw [if_neg (fun q => lt_not.mp c_41 (inR_iff.mp q).1), Int32.add_zero])
          | (rw [if_neg (fun q => lt_not.mp ((le_pred o1 o2).mp (inR_iff.mp q).2) c_59), Int32.add_zero])
  have hjl : j < R.ch.length := (List.getElem?_eq_some_iff.mp hj).1
  have hj6 := hw.ch6
  refine hG.aload_n dX4_flowAt_0 rfl ?_
  refine hG.get dX4_flowAt_1 fg_X4_21_X4 (Or.inl mdL_m) rfl ?_
  refine hG.bipush (v := 13) dX4_flowAt_4 rfl ?_
  refine hG.iconst (v := 3) dX4_flowAt_6 rfl ?_
  refine hG.iload_n dX4_flowAt_7 rfl ?_
  refine hG.imul dX4_flowAt_8 ?_
  refine hG.iadd dX4_flowAt_9 ?_
  refine hG.iconst (v := 1) dX4_flowAt_10 rfl ?_
  refine hG.iadd dX4_flowAt_11 ?_
  refine hG.nld hA (13 + 3 * j + 1) dX4_flowAt_12 (ix_b 13 j 1) (by omega) (hR.c hj).2.1 ?_
  refine hG.istore_n dX4_flowAt_13 (by decide) ?_
  refine hG.iconst (v := 0) dX4_flowAt_14 rfl ?_
  refine hG.istore dX4_flowAt_15 (by decide) ?_
  exact hG.lsb [(0, .ref m), (1, .int (nI j)), (2, .int at_), (3, .int c0.2.1), (4, .int (nI 0))] ⟨rfl, rfl, rfl, rfl, rfl, trivial⟩ (loop R.fl.length 0 _ (by omega) rfl)
