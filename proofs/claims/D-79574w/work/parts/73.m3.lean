/-! the model: what is tried, kept, and how a call ends -/
section AW
variable {l : Launch} {s0 : State} {D : va_G} {own nm : String} {cc : ByteArray} {nL : Nat} {ret : Option FieldType} {tab : List ExceptionTableEntry} {d mc ms : Nat} {Ib : AI} {post : Option Value → AI → AL → Prop} {xp : String → Nat → AI → AL → Prop} {md : Prop} {G : Gt} {GX : GXt}
variable {pc : Nat} {ls : List (Nat × Value)} {st : List Value} {I : AI} {L : AL} {k n : Nat}
theorem IsG.ld_tr (hG : IsG l s0 D own nm cc nL ret tab d mc ms Ib post xp md G GX) {m : Nat} {A : MA} {V : MV} (hA : MOk m A) (j : Nat) {i v : Int32} (hd : decode cc pc = .ok (.iaload, 1)) (hi : i = nI j) (hj : j < 652) (hv : V.tr j = v) (kk : G (pc + 1) ls (.int v :: st) I (mdL L m A V) k n) : G pc ls (.int i :: .ref A.tr :: st) I (mdL L m A V) k n := by
  subst hi
  subst hv
  refine hG.iald hd (Or.inl (mdL_tr hA)) (vp_in_nI hj (by decide)) ?_
  rw [nI_clamp (by omega)]
  exact kk
theorem IsG.st_tr (hG : IsG l s0 D own nm cc nL ret tab d mc ms Ib post xp md G GX) {m : Nat} {A : MA} {V : MV} (hA : MOk m A) (j : Nat) {i x : Int32} (hd : decode cc pc = .ok (.iastore, 1)) (hi : i = nI j) (hj : j < 652) (kk : G (pc + 1) ls st I (mdL L m A (V.wTr (va_up V.tr j x))) k n) : G pc ls (.int x :: .int i :: .ref A.tr :: st) I (mdL L m A V) k n := by
  subst hi
  refine hG.iast hd (mdL_tr hA) (vp_in_nI hj (by decide)) ?_
  rw [nI_clamp (by omega)]
  exact hG.ma_tr hA kk
theorem IsG.ld_kp (hG : IsG l s0 D own nm cc nL ret tab d mc ms Ib post xp md G GX) {m : Nat} {A : MA} {V : MV} (hA : MOk m A) (j : Nat) {i v : Int32} (hd : decode cc pc = .ok (.iaload, 1)) (hi : i = nI j) (hj : j < 5216) (hv : V.kp j = v) (kk : G (pc + 1) ls (.int v :: st) I (mdL L m A V) k n) : G pc ls (.int i :: .ref A.kp :: st) I (mdL L m A V) k n := by
  subst hi
  subst hv
  refine hG.iald hd (Or.inl (mdL_kp hA)) (vp_in_nI hj (by decide)) ?_
  rw [nI_clamp (by omega)]
  exact kk
theorem IsG.st_kp (hG : IsG l s0 D own nm cc nL ret tab d mc ms Ib post xp md G GX) {m : Nat} {A : MA} {V : MV} (hA : MOk m A) (j : Nat) {i x : Int32} (hd : decode cc pc = .ok (.iastore, 1)) (hi : i = nI j) (hj : j < 5216) (kk : G (pc + 1) ls st I (mdL L m A (V.wKp (va_up V.kp j x))) k n) : G pc ls (.int x :: .int i :: .ref A.kp :: st) I (mdL L m A V) k n := by
  subst hi
  refine hG.iast hd (mdL_kp hA) (vp_in_nI hj (by decide)) ?_
  rw [nI_clamp (by omega)]
  exact hG.ma_kp hA kk
theorem IsG.ld_sv (hG : IsG l s0 D own nm cc nL ret tab d mc ms Ib post xp md G GX) {m : Nat} {A : MA} {V : MV} (hA : MOk m A) (j : Nat) {i v : Int32} (hd : decode cc pc = .ok (.iaload, 1)) (hi : i = nI j) (hj : j < 652) (hv : V.sv j = v) (kk : G (pc + 1) ls (.int v :: st) I (mdL L m A V) k n) : G pc ls (.int i :: .ref A.sv :: st) I (mdL L m A V) k n := by
  subst hi
  subst hv
  refine hG.iald hd (Or.inl (mdL_sv hA)) (vp_in_nI hj (by decide)) ?_
  rw [nI_clamp (by omega)]
  exact kk
theorem IsG.st_sv (hG : IsG l s0 D own nm cc nL ret tab d mc ms Ib post xp md G GX) {m : Nat} {A : MA} {V : MV} (hA : MOk m A) (j : Nat) {i x : Int32} (hd : decode cc pc = .ok (.iastore, 1)) (hi : i = nI j) (hj : j < 652) (kk : G (pc + 1) ls st I (mdL L m A (V.wSv (va_up V.sv j x))) k n) : G pc ls (.int x :: .int i :: .ref A.sv :: st) I (mdL L m A V) k n := by
  subst hi
  refine hG.iast hd (mdL_sv hA) (vp_in_nI hj (by decide)) ?_
  rw [nI_clamp (by omega)]
  exact hG.ma_sv hA kk
theorem IsG.ld_mv (hG : IsG l s0 D own nm cc nL ret tab d mc ms Ib post xp md G GX) {m : Nat} {A : MA} {V : MV} (hA : MOk m A) (j : Nat) {i v : Int32} (hd : decode cc pc = .ok (.iaload, 1)) (hi : i = nI j) (hj : j < 147) (hv : V.mv j = v) (kk : G (pc + 1) ls (.int v :: st) I (mdL L m A V) k n) : G pc ls (.int i :: .ref A.mv :: st) I (mdL L m A V) k n := by
  subst hi
  subst hv
  refine hG.iald hd (Or.inl (mdL_mv hA)) (vp_in_nI hj (by decide)) ?_
  rw [nI_clamp (by omega)]
  exact kk
theorem IsG.st_mv (hG : IsG l s0 D own nm cc nL ret tab d mc ms Ib post xp md G GX) {m : Nat} {A : MA} {V : MV} (hA : MOk m A) (j : Nat) {i x : Int32} (hd : decode cc pc = .ok (.iastore, 1)) (hi : i = nI j) (hj : j < 147) (kk : G (pc + 1) ls st I (mdL L m A (V.wMv (va_up V.mv j x))) k n) : G pc ls (.int x :: .int i :: .ref A.mv :: st) I (mdL L m A V) k n := by
  subst hi
  refine hG.iast hd (mdL_mv hA) (vp_in_nI hj (by decide)) ?_
  rw [nI_clamp (by omega)]
  exact hG.ma_mv hA kk
theorem IsG.ld_to (hG : IsG l s0 D own nm cc nL ret tab d mc ms Ib post xp md G GX) {m : Nat} {A : MA} {V : MV} (hA : MOk m A) (j : Nat) {i v : Int32} (hd : decode cc pc = .ok (.iaload, 1)) (hi : i = nI j) (hj : j < 5) (hv : V.to j = v) (kk : G (pc + 1) ls (.int v :: st) I (mdL L m A V) k n) : G pc ls (.int i :: .ref A.to :: st) I (mdL L m A V) k n := by
  subst hi
  subst hv
  refine hG.iald hd (Or.inl (mdL_to hA)) (vp_in_nI hj (by decide)) ?_
  rw [nI_clamp (by omega)]
  exact kk
theorem IsG.st_to (hG : IsG l s0 D own nm cc nL ret tab d mc ms Ib post xp md G GX) {m : Nat} {A : MA} {V : MV} (hA : MOk m A) (j : Nat) {i x : Int32} (hd : decode cc pc = .ok (.iastore, 1)) (hi : i = nI j) (hj : j < 5) (kk : G (pc + 1) ls st I (mdL L m A (V.wTo (va_up V.to j x))) k n) : G pc ls (.int x :: .int i :: .ref A.to :: st) I (mdL L m A V) k n := by
  subst hi
  refine hG.iast hd (mdL_to hA) (vp_in_nI hj (by decide)) ?_
  rw [nI_clamp (by omega)]
  exact hG.ma_to hA kk
end AW
def KpOk (N : Nat) (past : List Rv) (kp : Nat → Int32) : Prop := ∀ (i : Nat) (P : Rv), past.reverse[i]? = some P → Rep N P (fun k => kp (652 * i + k))
theorem OrdA.cg {N : Nat} {t : Tal} {n n' : Nat → Int32} (h : OrdA N t n) (h9 : n' 9 = n 9) (hx : ∀ x ∈ t, n' (211 + x.1) = n (211 + x.1)) : OrdA N t n' := by
  obtain ⟨cm, rk, a1, a2, a3, a4⟩ := h
  exact ⟨cm, rk, h9.trans a1, a2, a3, fun x hm => ⟨(a4 x hm).1, (a4 x hm).2.1, (hx x hm).trans (a4 x hm).2.2⟩⟩
theorem Rep.cg {N M : Nat} {R : Rv} {n n' : Nat → Int32} (h : Rep N R n) (hw : Wf M R) (hn : ∀ k, k < 652 → n' k = n k) : Rep N R n' := by
  have hi1 := hw.ch6
  have hi2 := hw.fl5
  have hi3 := hw.an6
  refine ⟨⟨(hn _ (by decide)).trans h.k0, (hn _ (by decide)).trans h.k1, (hn _ (by decide)).trans h.k2⟩, ⟨(hn _ (by decide)).trans h.k3, (hn _ (by decide)).trans h.k4, (hn _ (by decide)).trans h.k5, (hn _ (by decide)).trans h.k6, (hn _ (by decide)).trans h.k7, (hn _ (by decide)).trans h.k8⟩, ⟨(hn _ (by decide)).trans h.2.2.1.1, (hn _ (by decide)).trans h.2.2.1.2.1, (hn _ (by decide)).trans h.2.2.1.2.2⟩, fun i c hc => ?_, fun i c hc => ?_, fun i c hc => ?_, fun c hc => (hn _ (by omega)).trans (h.w hc), fun c hc => (hn _ (by omega)).trans (h.fo hc), fun c hc => (hn _ (by omega)).trans (h.af hc), h.or.cg (hn _ (by decide)) (fun x hx => hn _ (by have := (hw.wa.2 x hx).1; omega))⟩
  · have hl := (List.getElem?_eq_some_iff.mp hc).1
    obtain ⟨a, b, c⟩ := h.c hc
    exact ⟨(hn _ (by omega)).trans a, (hn _ (by omega)).trans b, (hn _ (by omega)).trans c⟩
  · have hl := (List.getElem?_eq_some_iff.mp hc).1
    obtain ⟨a, b, c⟩ := h.l hc
    exact ⟨(hn _ (by omega)).trans a, (hn _ (by omega)).trans b, (hn _ (by omega)).trans c⟩
  · have hl := (List.getElem?_eq_some_iff.mp hc).1
    obtain ⟨a, b, c⟩ := h.a hc
    exact ⟨(hn _ (by omega)).trans a, (hn _ (by omega)).trans b, (hn _ (by omega)).trans c⟩
theorem OrdA.mono {N M : Nat} {t : Tal} {n : Nat → Int32} (h : OrdA N t n) (hN : N ≤ M) : OrdA M t n := by
  obtain ⟨cm, rk, a1, a2, a3, a4⟩ := h
  exact ⟨cm, rk, a1, Nat.le_trans a2 hN, a3, a4⟩
theorem Rep.mono {N M : Nat} {R : Rv} {n : Nat → Int32} (h : Rep N R n) (hN : N ≤ M) : Rep M R n := ⟨h.1, h.2.1, h.2.2.1, h.2.2.2.1, h.2.2.2.2.1, h.2.2.2.2.2.1, h.2.2.2.2.2.2.1, h.2.2.2.2.2.2.2.1, h.2.2.2.2.2.2.2.2.1, h.or.mono hN⟩
theorem Wf.mono {N M : Nat} {R : Rv} (h : Wf N R) (hN : N ≤ M) : Wf M R := ⟨h.1, h.2.1, h.2.2.1, h.2.2.2.1, ⟨Nat.le_trans h.ln.1 hN, Nat.le_trans h.ln.2.1 hN, Nat.le_trans h.ln.2.2 hN⟩, h.2.2.2.2.2⟩
theorem KpOk.mono {N M : Nat} {past : List Rv} {kp : Nat → Int32} (h : KpOk N past kp) (hN : N ≤ M) : KpOk M past kp := fun i P hP => (h i P hP).mono hN
theorem fp_X4_64_X4 {nm : String} : LkP RX4 nm 64 ciX4 19 (tyX4 19) := ⟨RX4, TX4, 21, tyX4, _, cls_X4, by decide, rfl, Or.inl rfl, Or.inl ⟨rfl, q3289⟩⟩
set_option maxHeartbeats 4000000 in
set_option maxRecDepth 100000 in
theorem sp_X4_does {l : Launch} {s0 : State} {D : va_G} {I : AI} {L : AL} {m : Nat} {A : MA} {V : MV} (hΓ : Gam l s0 D)  {v : Int32} : Spc l s0 D yX4_does 1 [.ref m, .int v] I (mdL L m A V) 0 0 (fun q I' L' => q = some (.int 0) ∧ I = I' ∧ L' = mdL L m A (V.wAn v)) noX := by
  refine Spc.of hΓ cX4_does 2 (some FieldType.int) q3425 (by decide +kernel) (by decide) (Nat.le_of_ble_eq_true rfl) (fun G GX hG => ?_)
  refine hG.aload_n dX4_does_0 rfl ?_
  refine hG.iload_n dX4_does_1 rfl ?_
  refine hG.put dX4_does_2 fp_X4_64_X4 mdL_m rfl rfl (Nat.le_of_ble_eq_true rfl) ?_
  refine hG.mp_an ?_
  refine hG.iconst (v := 0) dX4_does_5 rfl ?_
  refine hG.iret dX4_does_6 rfl ?_ (by omega) (by omega) trivial
  exact ⟨rfl, rfl, rfl⟩
theorem fp_X4_58_X4 {nm : String} : LkP RX4 nm 58 ciX4 20 (tyX4 20) := ⟨RX4, TX4, 21, tyX4, _, cls_X4, by decide, rfl, Or.inl rfl, Or.inl ⟨rfl, q3290⟩⟩
set_option maxHeartbeats 4000000 in
set_option maxRecDepth 100000 in
theorem sp_X4_raises {l : Launch} {s0 : State} {D : va_G} {I : AI} {L : AL} {m : Nat} {A : MA} {V : MV} (hΓ : Gam l s0 D)  {v : Int32} : Spc l s0 D yX4_raises 1 [.ref m, .int v] I (mdL L m A V) 0 0 (fun q I' L' => q = some (.int 0) ∧ I = I' ∧ L' = mdL L m A (V.wTh v)) noX := by
  refine Spc.of hΓ cX4_raises 2 (some FieldType.int) q3353 (by decide +kernel) (by decide) (Nat.le_of_ble_eq_true rfl) (fun G GX hG => ?_)
  refine hG.aload_n dX4_raises_0 rfl ?_
  refine hG.iload_n dX4_raises_1 rfl ?_
  refine hG.put dX4_raises_2 fp_X4_58_X4 mdL_m rfl rfl (Nat.le_of_ble_eq_true rfl) ?_
  refine hG.mp_th ?_
  refine hG.iconst (v := 0) dX4_raises_5 rfl ?_
  refine hG.iret dX4_raises_6 rfl ?_ (by omega) (by omega) trivial
  exact ⟨rfl, rfl, rfl⟩
theorem fp_X4_67_X4 {nm : String} : LkP RX4 nm 67 ciX4 17 (tyX4 17) := ⟨RX4, TX4, 21, tyX4, _, cls_X4, by decide, rfl, Or.inl rfl, Or.inl ⟨rfl, q3287⟩⟩
theorem fp_X4_70_X4 {nm : String} : LkP RX4 nm 70 ciX4 18 (tyX4 18) := ⟨RX4, TX4, 21, tyX4, _, cls_X4, by decide, rfl, Or.inl rfl, Or.inl ⟨rfl, q3288⟩⟩
set_option maxHeartbeats 4000000 in
set_option maxRecDepth 100000 in
theorem sp_X4_why {l : Launch} {s0 : State} {D : va_G} {I : AI} {L : AL} {m : Nat} {A : MA} {V : MV} (hΓ : Gam l s0 D)  {v w : Int32} : Spc l s0 D yX4_why 1 [.ref m, .int v, .int w] I (mdL L m A V) 0 0 (fun q I' L' => q = some (.int v) ∧ I = I' ∧ L' = mdL L m A ((V.wRe v).wDe w)) noX := by
  refine Spc.of hΓ cX4_why 3 (some FieldType.int) q3357 (by decide +kernel) (by decide) (Nat.le_of_ble_eq_true rfl) (fun G GX hG => ?_)
  refine hG.aload_n dX4_why_0 rfl ?_
  refine hG.iload_n dX4_why_1 rfl ?_
  refine hG.put dX4_why_2 fp_X4_67_X4 mdL_m rfl rfl (Nat.le_of_ble_eq_true rfl) ?_
  refine hG.mp_re ?_
  refine hG.aload_n dX4_why_5 rfl ?_
  refine hG.iload_n dX4_why_6 rfl ?_
  refine hG.put dX4_why_7 fp_X4_70_X4 mdL_m rfl rfl (Nat.le_of_ble_eq_true rfl) ?_
  refine hG.mp_de ?_
  refine hG.iload_n dX4_why_10 rfl ?_
  refine hG.iret dX4_why_11 rfl ?_ (by omega) (by omega) trivial
  exact ⟨rfl, rfl, rfl⟩
theorem fg_X4_58_X4 : LkG RX4 58 ciX4 20 := ⟨RX4, TX4, 21, tyX4, _, cls_X4, by decide, Or.inl rfl, Or.inl q3290⟩
set_option maxHeartbeats 4000000 in
set_option maxRecDepth 100000 in
theorem sp_X4_thrown {l : Launch} {s0 : State} {D : va_G} {I : AI} {L : AL} {m : Nat} {A : MA} {V : MV} (hΓ : Gam l s0 D)   : Spc l s0 D yX4_thrown 1 [.ref m] I (mdL L m A V) 0 0 (pV (.int V.th) I (mdL L m A V)) noX := by
  refine Spc.of hΓ cX4_thrown 1 (some FieldType.int) q3338 (by decide +kernel) (by decide) (Nat.le_of_ble_eq_true rfl) (fun G GX hG => ?_)
  refine hG.aload_n dX4_thrown_0 rfl ?_
  refine hG.get dX4_thrown_1 fg_X4_58_X4 (Or.inl mdL_m) rfl ?_
  refine hG.iret dX4_thrown_4 rfl ?_ (by omega) (by omega) trivial
  exact ⟨rfl, rfl, rfl⟩
theorem fg_X4_25_X4 : LkG RX4 25 ciX4 2 := ⟨RX4, TX4, 21, tyX4, _, cls_X4, by decide, Or.inl rfl, Or.inl q3272⟩
set_option maxHeartbeats 4000000 in
set_option maxRecDepth 100000 in
theorem sp_X4_tries {l : Launch} {s0 : State} {D : va_G} {I : AI} {L : AL} {m : Nat} {A : MA} {V : MV} (hΓ : Gam l s0 D) (hA : MOk m A)  : Spc l s0 D yX4_tries 1 [.ref m] I (mdL L m A V) 0 0 (fun q I' L' => q = none ∧ I = I' ∧ ∃ t : Nat → Int32, (∀ k, k < 652 → t k = V.nw k) ∧ L' = mdL L m A ((V.wTh 0).wTr t)) noX := by
  refine Spc.of hΓ cX4_tries 2 none q3346 (by decide +kernel) (by decide) (Nat.le_of_ble_eq_true rfl) (fun G GX hG => ?_)
  have loop : ∀ (w i : Nat) (t : Nat → Int32), i + w = 652 → (∀ k, k < i → t k = V.nw k) → G 7 [(0, .ref m), (1, .int (nI i))] [] I (mdL L m A ((V.wTh 0).wTr t)) 0 0 := by
    intro w
    induction w with
    | zero =>
      intro i t hiw ht
      have hie : i = 652 := by omega
      subst hie
      refine hG.iload_n dX4_tries_7 rfl ?_
      refine hG.sipush (v := 652) dX4_tries_8 rfl ?_
      refine hG.icmp_ge (tgt := 32) dX4_tries_11 rfl (fun c_11 => ?_) (fun c_11 => absurd (by decide) c_11)
      refine hG.vret dX4_tries_32 rfl ?_ (by omega) (by omega) trivial
      exact ⟨rfl, rfl, t, ht, rfl⟩
    | succ w ih =>
      intro i t hiw ht
      refine hG.iload_n dX4_tries_7 rfl ?_
      refine hG.sipush (v := 652) dX4_tries_8 rfl ?_
      refine hG.icmp_ge (tgt := 32) dX4_tries_11 rfl (fun c_11 => absurd c_11 (nI_ge (a := i) (b := 652) (by omega) (by decide))) (fun c_11 => ?_)
      refine hG.aload_n dX4_tries_14 rfl ?_
      refine hG.get dX4_tries_15 fg_X4_25_X4 (Or.inl mdL_m) rfl ?_
      refine hG.iload_n dX4_tries_18 rfl ?_
      refine hG.aload_n dX4_tries_19 rfl ?_
      refine hG.get dX4_tries_20 fg_X4_21_X4 (Or.inl mdL_m) rfl ?_
      refine hG.iload_n dX4_tries_23 rfl ?_
      refine hG.nld hA i dX4_tries_24 rfl (by omega) rfl ?_
      refine hG.st_tr hA i dX4_tries_25 rfl (by omega) ?_
      refine hG.iinc dX4_tries_26 rfl (by decide) ?_
      refine hG.goto (tgt := 7) dX4_tries_29 rfl ?_
      refine hG.lsb [(0, .ref m), (1, .int (nI i + Int32.ofInt 1))] ⟨rfl, rfl, trivial⟩ ?_
      rw [show nI i + Int32.ofInt 1 = nI (i + 1) from nI_add i 1]
      refine ih (i + 1) (va_up t i (V.nw i)) (by omega) (fun k hk => ?_)
      unfold va_up
      by_cases e : k = i
      · rw [if_pos e, e]
      · rw [if_neg e]; exact ht k (by omega)
  refine hG.aload_n dX4_tries_0 rfl ?_
  refine hG.iconst (v := 0) dX4_tries_1 rfl ?_
  refine hG.put dX4_tries_2 fp_X4_58_X4 mdL_m rfl rfl (Nat.le_of_ble_eq_true rfl) ?_
  refine hG.mp_th ?_
  refine hG.iconst (v := 0) dX4_tries_5 rfl ?_
  refine hG.istore_n dX4_tries_6 (by decide) ?_
  exact hG.lsb [(0, .ref m), (1, .int (nI 0))] ⟨rfl, rfl, trivial⟩ (loop 652 0 V.tr (by omega) (fun k hk => absurd hk (Nat.not_lt_zero k)))
set_option maxHeartbeats 4000000 in
set_option maxRecDepth 100000 in
theorem sp_X4_comesBack {l : Launch} {s0 : State} {D : va_G} {I : AI} {L : AL} {m : Nat} {A : MA} {V : MV} (hΓ : Gam l s0 D) (hA : MOk m A)  : Spc l s0 D yX4_comesBack 1 [.ref m] I (mdL L m A V) 0 0 (fun q I' L' => q = none ∧ I = I' ∧ ∃ t : Nat → Int32, (∀ k, k < 652 → t k = V.tr k) ∧ L' = mdL L m A (V.wNw t)) noX := by
  refine Spc.of hΓ cX4_comesBack 2 none q3632 (by decide +kernel) (by decide) (Nat.le_of_ble_eq_true rfl) (fun G GX hG => ?_)
  have loop : ∀ (w i : Nat) (t : Nat → Int32), i + w = 652 → (∀ k, k < i → t k = V.tr k) → G 2 [(0, .ref m), (1, .int (nI i))] [] I (mdL L m A (V.wNw t)) 0 0 := by
    intro w
    induction w with
    | zero =>
      intro i t hiw ht
      have hie : i = 652 := by omega
      subst hie
      refine hG.iload_n dX4_comesBack_2 rfl ?_
      refine hG.sipush (v := 652) dX4_comesBack_3 rfl ?_
      refine hG.icmp_ge (tgt := 27) dX4_comesBack_6 rfl (fun c_6 => ?_) (fun c_6 => absurd (by decide) c_6)
      refine hG.vret dX4_comesBack_27 rfl ?_ (by omega) (by omega) trivial
      exact ⟨rfl, rfl, t, ht, rfl⟩
    | succ w ih =>
      intro i t hiw ht
      refine hG.iload_n dX4_comesBack_2 rfl ?_
      refine hG.sipush (v := 652) dX4_comesBack_3 rfl ?_
      refine hG.icmp_ge (tgt := 27) dX4_comesBack_6 rfl (fun c_6 => absurd c_6 (nI_ge (a := i) (b := 652) (by omega) (by decide))) (fun c_6 => ?_)
      refine hG.aload_n dX4_comesBack_9 rfl ?_
      refine hG.get dX4_comesBack_10 fg_X4_21_X4 (Or.inl mdL_m) rfl ?_
      refine hG.iload_n dX4_comesBack_13 rfl ?_
      refine hG.aload_n dX4_comesBack_14 rfl ?_
      refine hG.get dX4_comesBack_15 fg_X4_25_X4 (Or.inl mdL_m) rfl ?_
      refine hG.iload_n dX4_comesBack_18 rfl ?_
      refine hG.ld_tr hA i dX4_comesBack_19 rfl (by omega) rfl ?_
      refine hG.nst hA i dX4_comesBack_20 rfl (by omega) ?_
      refine hG.iinc dX4_comesBack_21 rfl (by decide) ?_
      refine hG.goto (tgt := 2) dX4_comesBack_24 rfl ?_
      refine hG.lsb [(0, .ref m), (1, .int (nI i + Int32.ofInt 1))] ⟨rfl, rfl, trivial⟩ ?_
      rw [show nI i + Int32.ofInt 1 = nI (i + 1) from nI_add i 1]
      refine ih (i + 1) (va_up t i (V.tr i)) (by omega) (fun k hk => ?_)
      unfold va_up
      by_cases e : k = i
      · rw [if_pos e, e]
      · rw [if_neg e]; exact ht k (by omega)
  refine hG.iconst (v := 0) dX4_comesBack_0 rfl ?_
  refine hG.istore_n dX4_comesBack_1 (by decide) ?_
  exact hG.lsb [(0, .ref m), (1, .int (nI 0))] ⟨rfl, rfl, trivial⟩ (loop 652 0 V.nw (by omega) (fun k hk => absurd hk (Nat.not_lt_zero k)))
theorem KpOk.push {N : Nat} {past : List Rv} {kp t tr : Nat → Int32} {P0 : Rv} (h : KpOk N past kp) (hw : ∀ P ∈ past, Wf N P) (hT : Rep N P0 tr) (hw0 : Wf N P0) (hl : past.length < 8) (h1 : ∀ j, j < 652 * past.length → t j = kp j) (h2 : ∀ k, k < 652 → t (652 * past.length + k) = tr k) : KpOk N (P0 :: past) t := by
  intro i P hP
  rw [List.reverse_cons] at hP
  by_cases e : i < past.reverse.length
  · rw [List.getElem?_append_left e] at hP
    rw [List.length_reverse] at e
    exact (h i P hP).cg (hw P (List.mem_reverse.mp (List.mem_of_getElem? hP))) (fun k hk => h1 _ (by omega))
  · rw [List.getElem?_append_right (by omega), List.length_reverse] at hP
    rw [List.length_reverse] at e
    have hi : i - past.length = 0 := by
      have := (List.getElem?_eq_some_iff.mp hP).1
      simp at this
      omega
    have hi2 : i = past.length := by omega
    rw [hi] at hP
    cases hP
    subst hi2
    exact hT.cg hw0 (fun k hk => h2 k hk)
theorem KpOk.push8 {N : Nat} {past : List Rv} {kp t tr : Nat → Int32} {P0 : Rv} (h : KpOk N past kp) (hw : ∀ P ∈ past, Wf N P) (hT : Rep N P0 tr) (hw0 : Wf N P0) (hl : past.length = 8) (h1 : ∀ j, j < 4564 → t j = kp (652 + j)) (h2 : ∀ k, k < 652 → t (4564 + k) = tr k) : KpOk N (P0 :: past.take 7) t := by
  have hd : (past.take 7).reverse = past.reverse.drop 1 := by
    rw [List.drop_reverse, hl]
  have hl7 : (past.take 7).length = 7 := by rw [List.length_take]; omega
  have hk7 : KpOk N (past.take 7) (fun j => kp (652 + j)) := by
    intro i P hP
    rw [hd, List.getElem?_drop] at hP
    refine (h (1 + i) P hP).cg (hw P (List.mem_reverse.mp (List.mem_of_getElem? hP))) (fun k hk => ?_)
    show kp (652 + (652 * i + k)) = kp (652 * (1 + i) + k)
    congr 1
    omega
  refine hk7.push (fun P hP => hw P (List.mem_of_mem_take hP)) hT hw0 (by omega) (fun j hj => h1 j (by omega)) (fun k hk => ?_)
  rw [hl7]
  exact h2 k hk
abbrev pushP (P0 : Rv) (past : List Rv) : List Rv := (P0 :: past).take 8
theorem pushP_lt {P0 : Rv} {past : List Rv} (h : past.length < 8) : pushP P0 past = P0 :: past := List.take_of_length_le (by simp; omega)
theorem pushP_8 {P0 : Rv} {past : List Rv} : pushP P0 past = P0 :: past.take 7 := rfl
theorem fg_X4_61_X4 : LkG RX4 61 ciX4 4 := ⟨RX4, TX4, 21, tyX4, _, cls_X4, by decide, Or.inl rfl, Or.inl q3274⟩
theorem fp_X4_61_X4 {nm : String} : LkP RX4 nm 61 ciX4 4 (tyX4 4) := ⟨RX4, TX4, 21, tyX4, _, cls_X4, by decide, rfl, Or.inl rfl, Or.inl ⟨rfl, q3274⟩⟩
theorem fg_X4_28_X4 : LkG RX4 28 ciX4 3 := ⟨RX4, TX4, 21, tyX4, _, cls_X4, by decide, Or.inl rfl, Or.inl q3273⟩
set_option maxHeartbeats 4000000 in
set_option maxRecDepth 100000 in
theorem sp_X4_keeps {l : Launch} {s0 : State} {D : va_G} {I : AI} {L : AL} {m : Nat} {A : MA} {V : MV} (hΓ : Gam l s0 D) (hA : MOk m A) {N : Nat} {v : Int32} {past : List Rv} {P0 : Rv} (hK : KpOk N past V.kp) (hun : V.un = nI past.length) (hl : past.length ≤ 8) (hwp : ∀ P ∈ past, Wf N P) (hT : Rep N P0 V.tr) (hw0 : Wf N P0) : Spc l s0 D yX4_keeps 1 [.ref m, .int v] I (mdL L m A V) 0 0 (fun q I' L' => q = some (Value.int v) ∧ I = I' ∧ ∃ t : Nat → Int32, KpOk N (pushP P0 past) t ∧ L' = mdL L m A ((V.wKp t).wUn (nI (pushP P0 past).length))) noX := by
  refine Spc.of hΓ cX4_keeps 3 (some FieldType.int) q3365 (by decide +kernel) (by decide) (Nat.le_of_ble_eq_true rfl) (fun G GX hG => ?_)
  by_cases e : past.length < 8
  · generalize hu9 : past.length = u at hun
    have hu : u < 8 := by omega
    have hV : V = (V.wKp V.kp).wUn (nI u) := by rw [← hun]; rfl
    have loop2 : ∀ (K : Nat → Int32) (u w i : Nat) (t : Nat → Int32), u < 8 → i + w = 652 → (∀ j, j < 652 * u → t j = K j) → (∀ k, k < i → t (652 * u + k) = V.tr k) → (∀ (t : Nat → Int32), (∀ j, j < 652 * u → t j = K j) → (∀ k, k < 652 → t (652 * u + k) = V.tr k) → (fun q I' L' => q = some (Value.int v) ∧ I = I' ∧ ∃ t : Nat → Int32, KpOk N (pushP P0 past) t ∧ L' = mdL L m A ((V.wKp t).wUn (nI (pushP P0 past).length))) (some (Value.int v)) I (mdL L m A ((V.wKp t).wUn (nI (u + 1))))) → G 52 [(0, .ref m), (1, .int v), (2, .int (nI i))] [] I (mdL L m A ((V.wKp t).wUn (nI u))) 0 0 := by
      intro K u w
      induction w with
      | zero =>
        intro i t hu hiw ht1 ht hP
        have hie : i = 652 := by omega
        subst hie
        refine hG.iload_n dX4_keeps_52 rfl ?_
        refine hG.sipush (v := 652) dX4_keeps_53 rfl ?_
        refine hG.icmp_ge (tgt := 86) dX4_keeps_56 rfl (fun c_56 => ?_) (fun c_56 => absurd (by decide) c_56)
        refine hG.aload_n dX4_keeps_86 rfl ?_
        refine hG.dup dX4_keeps_87 rfl ?_
        refine hG.get dX4_keeps_88 fg_X4_61_X4 (Or.inl mdL_m) rfl ?_
        refine hG.iconst (v := 1) dX4_keeps_91 rfl ?_
        refine hG.iadd dX4_keeps_92 ?_
        rw [nI_1]
        refine hG.put dX4_keeps_93 fp_X4_61_X4 mdL_m rfl rfl (Nat.le_of_ble_eq_true rfl) ?_
        refine hG.mp_un ?_
        refine hG.iload_n dX4_keeps_96 rfl ?_
        refine hG.iret dX4_keeps_97 rfl ?_ (by omega) (by omega) trivial
        exact hP t ht1 ht
      | succ w ih =>
        intro i t hu hiw ht1 ht hP
        refine hG.iload_n dX4_keeps_52 rfl ?_
        refine hG.sipush (v := 652) dX4_keeps_53 rfl ?_
        refine hG.icmp_ge (tgt := 86) dX4_keeps_56 rfl (fun c_56 => absurd c_56 (nI_ge (a := i) (b := 652) (by omega) (by decide))) (fun c_56 => ?_)
        refine hG.aload_n dX4_keeps_59 rfl ?_
        refine hG.get dX4_keeps_60 fg_X4_28_X4 (Or.inl mdL_m) rfl ?_
        refine hG.sipush (v := 652) dX4_keeps_63 rfl ?_
        refine hG.aload_n dX4_keeps_66 rfl ?_
        refine hG.get dX4_keeps_67 fg_X4_61_X4 (Or.inl mdL_m) rfl ?_
        refine hG.imul dX4_keeps_70 ?_
        rw [show (652 : Int32) * nI u = nI (652 * u) from pk_mul 652 u]
        refine hG.iload_n dX4_keeps_71 rfl ?_
        refine hG.iadd dX4_keeps_72 ?_
        rw [ix1]
        refine hG.aload_n dX4_keeps_73 rfl ?_
        refine hG.get dX4_keeps_74 fg_X4_25_X4 (Or.inl mdL_m) rfl ?_
        refine hG.iload_n dX4_keeps_77 rfl ?_
        refine hG.ld_tr hA i dX4_keeps_78 rfl (by omega) rfl ?_
        refine hG.st_kp hA (652 * u + i) dX4_keeps_79 rfl (by omega) ?_
        refine hG.iinc dX4_keeps_80 rfl (by decide) ?_
        refine hG.goto (tgt := 52) dX4_keeps_83 rfl ?_
        refine hG.lsb [(0, .ref m), (1, .int v), (2, .int (nI i + Int32.ofInt 1))] ⟨rfl, rfl, rfl, trivial⟩ ?_
        rw [show nI i + Int32.ofInt 1 = nI (i + 1) from nI_add i 1]
        refine ih (i + 1) (va_up t (652 * u + i) (V.tr i)) hu (by omega) (fun j hj => ?_) (fun k hk => ?_) hP
        · unfold va_up
          rw [if_neg (by omega)]
          exact ht1 j hj
        · unfold va_up
          by_cases e : k = i
          · rw [if_pos (by omega), e]
          · rw [if_neg (by omega)]; exact ht k (by omega)
    refine hG.aload_n dX4_keeps_0 rfl ?_
    refine hG.get dX4_keeps_1 fg_X4_61_X4 (Or.inl mdL_m) rfl ?_
    rw [hun]
    refine hG.bipush (v := 8) dX4_keeps_4 rfl ?_
    refine hG.icmp_ne (tgt := 50) dX4_keeps_6 rfl (fun c_6 => ?_) (fun c_6 => absurd c_6 (fun e => absurd ((nI_eq (b := 8) (by omega) (by decide)).mp e) (by omega)))
    refine hG.iconst (v := 0) dX4_keeps_50 rfl ?_
    refine hG.istore_n dX4_keeps_51 (by decide) ?_
    rw [hV]
    exact hG.lsb [(0, .ref m), (1, .int v), (2, .int (nI 0))] ⟨rfl, rfl, rfl, trivial⟩ (loop2 V.kp u 652 0 V.kp hu (by omega) (fun _ _ => rfl) (fun k hk => absurd hk (Nat.not_lt_zero k)) (fun t h1 h2 => ⟨rfl, rfl, t, by rw [pushP_lt e]; exact hK.push hwp hT hw0 e (by rw [hu9]; exact h1) (by rw [hu9]; exact h2), by rw [pushP_lt e, show (P0 :: past).length = u + 1 by simp [hu9]]⟩))
  · have e8 : past.length = 8 := by omega
    rw [e8] at hun
    have loop2 : ∀ (K : Nat → Int32) (u w i : Nat) (t : Nat → Int32), u < 8 → i + w = 652 → (∀ j, j < 652 * u → t j = K j) → (∀ k, k < i → t (652 * u + k) = V.tr k) → (∀ (t : Nat → Int32), (∀ j, j < 652 * u → t j = K j) → (∀ k, k < 652 → t (652 * u + k) = V.tr k) → (fun q I' L' => q = some (Value.int v) ∧ I = I' ∧ ∃ t : Nat → Int32, KpOk N (pushP P0 past) t ∧ L' = mdL L m A ((V.wKp t).wUn (nI (pushP P0 past).length))) (some (Value.int v)) I (mdL L m A ((V.wKp t).wUn (nI (u + 1))))) → G 52 [(0, .ref m), (1, .int v), (2, .int (nI i))] [] I (mdL L m A ((V.wKp t).wUn (nI u))) 0 0 := by
      intro K u w
      induction w with
      | zero =>
        intro i t hu hiw ht1 ht hP
        have hie : i = 652 := by omega
        subst hie
        refine hG.iload_n dX4_keeps_52 rfl ?_
        refine hG.sipush (v := 652) dX4_keeps_53 rfl ?_
        refine hG.icmp_ge (tgt := 86) dX4_keeps_56 rfl (fun c_56 => ?_) (fun c_56 => absurd (by decide) c_56)
        refine hG.aload_n dX4_keeps_86 rfl ?_
        refine hG.dup dX4_keeps_87 rfl ?_
        refine hG.get dX4_keeps_88 fg_X4_61_X4 (Or.inl mdL_m) rfl ?_
        refine hG.iconst (v := 1) dX4_keeps_91 rfl ?_
        refine hG.iadd dX4_keeps_92 ?_
        rw [nI_1]
        refine hG.put dX4_keeps_93 fp_X4_61_X4 mdL_m rfl rfl (Nat.le_of_ble_eq_true rfl) ?_
        refine hG.mp_un ?_
        refine hG.iload_n dX4_keeps_96 rfl ?_
        refine hG.iret dX4_keeps_97 rfl ?_ (by omega) (by omega) trivial
        exact hP t ht1 ht
      | succ w ih =>
        intro i t hu hiw ht1 ht hP
        refine hG.iload_n dX4_keeps_52 rfl ?_
        refine hG.sipush (v := 652) dX4_keeps_53 rfl ?_
        refine hG.icmp_ge (tgt := 86) dX4_keeps_56 rfl (fun c_56 => absurd c_56 (nI_ge (a := i) (b := 652) (by omega) (by decide))) (fun c_56 => ?_)
        refine hG.aload_n dX4_keeps_59 rfl ?_
        refine hG.get dX4_keeps_60 fg_X4_28_X4 (Or.inl mdL_m) rfl ?_
        refine hG.sipush (v := 652) dX4_keeps_63 rfl ?_
        refine hG.aload_n dX4_keeps_66 rfl ?_
        refine hG.get dX4_keeps_67 fg_X4_61_X4 (Or.inl mdL_m) rfl ?_
        refine hG.imul dX4_keeps_70 ?_
        rw [show (652 : Int32) * nI u = nI (652 * u) from pk_mul 652 u]
        refine hG.iload_n dX4_keeps_71 rfl ?_
        refine hG.iadd dX4_keeps_72 ?_
        rw [ix1]
        refine hG.aload_n dX4_keeps_73 rfl ?_
        refine hG.get dX4_keeps_74 fg_X4_25_X4 (Or.inl mdL_m) rfl ?_
        refine hG.iload_n dX4_keeps_77 rfl ?_
        refine hG.ld_tr hA i dX4_keeps_78 rfl (by omega) rfl ?_
        refine hG.st_kp hA (652 * u + i) dX4_keeps_79 rfl (by omega) ?_
        refine hG.iinc dX4_keeps_80 rfl (by decide) ?_
        refine hG.goto (tgt := 52) dX4_keeps_83 rfl ?_
        refine hG.lsb [(0, .ref m), (1, .int v), (2, .int (nI i + Int32.ofInt 1))] ⟨rfl, rfl, rfl, trivial⟩ ?_
        rw [show nI i + Int32.ofInt 1 = nI (i + 1) from nI_add i 1]
        refine ih (i + 1) (va_up t (652 * u + i) (V.tr i)) hu (by omega) (fun j hj => ?_) (fun k hk => ?_) hP
        · unfold va_up
          rw [if_neg (by omega)]
          exact ht1 j hj
        · unfold va_up
          by_cases e : k = i
          · rw [if_pos (by omega), e]
          · rw [if_neg (by omega)]; exact ht k (by omega)
    have loop1 : ∀ (w i : Nat) (t : Nat → Int32), i + w = 4564 → (∀ j, j < i → t j = V.kp (652 + j)) → (∀ j, i ≤ j → t j = V.kp j) → G 11 [(0, .ref m), (1, .int v), (2, .int (nI i))] [] I (mdL L m A (V.wKp t)) 0 0 := by
      intro w
      induction w with
      | zero =>
        intro i t hiw ht ht2
        have hie : i = 4564 := by omega
        subst hie
        refine hG.iload_n dX4_keeps_11 rfl ?_
        refine hG.sipush (v := 4564) dX4_keeps_12 rfl ?_
        refine hG.icmp_ge (tgt := 40) dX4_keeps_15 rfl (fun c_15 => ?_) (fun c_15 => absurd (by decide) c_15)
        refine hG.aload_n dX4_keeps_40 rfl ?_
        refine hG.dup dX4_keeps_41 rfl ?_
        refine hG.get dX4_keeps_42 fg_X4_61_X4 (Or.inl mdL_m) rfl ?_
        rw [show (V.wKp t).un = nI 8 from hun]
        refine hG.iconst (v := 1) dX4_keeps_45 rfl ?_
        refine hG.isub dX4_keeps_46 ?_
        rw [show nI 8 - 1 = nI 7 from nI_pred 7]
        refine hG.put dX4_keeps_47 fp_X4_61_X4 mdL_m rfl rfl (Nat.le_of_ble_eq_true rfl) ?_
        refine hG.mp_un ?_
        refine hG.iconst (v := 0) dX4_keeps_50 rfl ?_
        refine hG.istore_n dX4_keeps_51 (by decide) ?_
        exact hG.lsb [(0, .ref m), (1, .int v), (2, .int (nI 0))] ⟨rfl, rfl, rfl, trivial⟩ (loop2 t 7 652 0 t (by decide) (by omega) (fun _ _ => rfl) (fun k hk => absurd hk (Nat.not_lt_zero k)) (fun t2 h1 h2 => ⟨rfl, rfl, t2, hK.push8 hwp hT hw0 e8 (fun j hj => (h1 j hj).trans (ht j hj)) h2, by rw [pushP_8, show (P0 :: past.take 7).length = 7 + 1 by simp; omega]⟩))
      | succ w ih =>
        intro i t hiw ht ht2
        refine hG.iload_n dX4_keeps_11 rfl ?_
        refine hG.sipush (v := 4564) dX4_keeps_12 rfl ?_
        refine hG.icmp_ge (tgt := 40) dX4_keeps_15 rfl (fun c_15 => absurd c_15 (nI_ge (a := i) (b := 4564) (by omega) (by decide))) (fun c_15 => ?_)
        refine hG.aload_n dX4_keeps_18 rfl ?_
        refine hG.get dX4_keeps_19 fg_X4_28_X4 (Or.inl mdL_m) rfl ?_
        refine hG.iload_n dX4_keeps_22 rfl ?_
        refine hG.aload_n dX4_keeps_23 rfl ?_
        refine hG.get dX4_keeps_24 fg_X4_28_X4 (Or.inl mdL_m) rfl ?_
        refine hG.sipush (v := 652) dX4_keeps_27 rfl ?_
        refine hG.iload_n dX4_keeps_30 rfl ?_
        refine hG.iadd dX4_keeps_31 ?_
        rw [show (652 : Int32) + nI i = nI (652 + i) from ix1 652 i]
        refine hG.ld_kp hA (652 + i) dX4_keeps_32 rfl (by omega) (ht2 _ (by omega)) ?_
        refine hG.st_kp hA i dX4_keeps_33 rfl (by omega) ?_
        refine hG.iinc dX4_keeps_34 rfl (by decide) ?_
        refine hG.goto (tgt := 11) dX4_keeps_37 rfl ?_
        refine hG.lsb [(0, .ref m), (1, .int v), (2, .int (nI i + Int32.ofInt 1))] ⟨rfl, rfl, rfl, trivial⟩ ?_
        rw [show nI i + Int32.ofInt 1 = nI (i + 1) from nI_add i 1]
        refine ih (i + 1) (va_up t i (V.kp (652 + i))) (by omega) (fun j hj => ?_) (fun j hj => ?_)
        · unfold va_up
          by_cases e : j = i
          · rw [if_pos e, e]
          · rw [if_neg e]; exact ht j (by omega)
        · unfold va_up
          rw [if_neg (by omega)]
          exact ht2 j (by omega)
    refine hG.aload_n dX4_keeps_0 rfl ?_
    refine hG.get dX4_keeps_1 fg_X4_61_X4 (Or.inl mdL_m) rfl ?_
    rw [hun]
    refine hG.bipush (v := 8) dX4_keeps_4 rfl ?_
    refine hG.icmp_ne (tgt := 50) dX4_keeps_6 rfl (fun c_6 => absurd rfl c_6) (fun c_6 => ?_)
    refine hG.iconst (v := 0) dX4_keeps_9 rfl ?_
    refine hG.istore_n dX4_keeps_10 (by decide) ?_
    exact hG.lsb [(0, .ref m), (1, .int v), (2, .int (nI 0))] ⟨rfl, rfl, rfl, trivial⟩ (loop1 4564 0 V.kp (by omega) (fun k hk => absurd hk (Nat.not_lt_zero k)) (fun _ _ => rfl))
theorem fg_X4_64_X4 : LkG RX4 64 ciX4 19 := ⟨RX4, TX4, 21, tyX4, _, cls_X4, by decide, Or.inl rfl, Or.inl q3289⟩
theorem kv_X4_73 : LkV RX4 73 yX4_keeps 1 := ⟨q3362, q3364, qs38, q87, by decide +kernel, by decide +kernel, by decide +kernel⟩
set_option maxHeartbeats 4000000 in
set_option maxRecDepth 100000 in
theorem sp_X4_ends0 {l : Launch} {s0 : State} {D : va_G} {I : AI} {L : AL} {m : Nat} {A : MA} {V : MV} (hΓ : Gam l s0 D) (hA : MOk m A) {N : Nat} {past : List Rv} {P0 : Rv} (hK : KpOk N past V.kp) (hun : V.un = nI past.length) (hl : past.length ≤ 8) (hwp : ∀ P ∈ past, Wf N P) (hT : Rep N P0 V.tr) (hw0 : Wf N P0) {w : Int32} : Spc l s0 D yX4_ends 2 [.ref m, .int 0, .int w] I (mdL L m A V) 0 0 (fun q I' L' => q = some (Value.int V.an) ∧ I = I' ∧ ∃ t : Nat → Int32, KpOk N (pushP P0 past) t ∧ L' = mdL L m A ((V.wKp t).wUn (nI (pushP P0 past).length))) noX := by
  refine Spc.of hΓ cX4_ends 3 (some FieldType.int) q3361 (by decide +kernel) (by decide) (Nat.le_of_ble_eq_true rfl) (fun G GX hG => ?_)
  refine hG.iload_n dX4_ends_0 rfl ?_
  refine hG.if_ne (tgt := 15) dX4_ends_1 rfl (fun c_1 => absurd rfl c_1) (fun c_1 => ?_)
  refine hG.aload_n dX4_ends_4 rfl ?_
  refine hG.aload_n dX4_ends_5 rfl ?_
  refine hG.get dX4_ends_6 fg_X4_64_X4 (Or.inl mdL_m) rfl ?_
  refine hG.callV dX4_ends_9 kv_X4_73 (Rcv.raw mdL_m cl_X4) (sp_X4_keeps hΓ hA hK hun hl hwp hT hw0) rfl rfl (Nat.le_of_ble_eq_true rfl) (by decide) (by omega) (by omega) (fun r9 I9 L9 hI9 h9 => ?_) (fun _ _ _ _ _ h => h.elim)
  obtain ⟨rfl, rfl, t, h1, rfl⟩ := h9
  refine hG.goto (tgt := 29) dX4_ends_12 rfl ?_
  refine hG.iret dX4_ends_29 rfl ?_ (by omega) (by omega) trivial
  exact ⟨rfl, rfl, t, h1, rfl⟩
theorem kv_X4_77 : LkV RX4 77 yX4_raises 1 := ⟨q3350, q3352, qs35, q87, by decide +kernel, by decide +kernel, by decide +kernel⟩
set_option maxHeartbeats 4000000 in
set_option maxRecDepth 100000 in
theorem sp_X4_endsN {l : Launch} {s0 : State} {D : va_G} {I : AI} {L : AL} {m : Nat} {A : MA} {V : MV} (hΓ : Gam l s0 D) {v w c : Int32} (hv : ¬ v = 0) (hc : c = if v < 0 then -v else w) : Spc l s0 D yX4_ends 2 [.ref m, .int v, .int w] I (mdL L m A V) 0 0 (fun q I' L' => q = some (.int 0) ∧ I = I' ∧ L' = mdL L m A (V.wTh c)) noX := by
  refine Spc.of hΓ cX4_ends 3 (some FieldType.int) q3361 (by decide +kernel) (by decide) (Nat.le_of_ble_eq_true rfl) (fun G GX hG => ?_)
  by_cases hz : v < 0
  · refine hG.iload_n dX4_ends_0 rfl ?_
    refine hG.if_ne (tgt := 15) dX4_ends_1 rfl (fun c_1 => ?_) (fun c_1 => absurd c_1 (fun e => hv e))
    refine hG.aload_n dX4_ends_15 rfl ?_
    refine hG.iload_n dX4_ends_16 rfl ?_
    refine hG.if_ge (tgt := 25) dX4_ends_17 rfl (fun c_17 => absurd c_17 (lt_not.mp hz)) (fun c_17 => ?_)
    refine hG.iload_n dX4_ends_20 rfl ?_
    refine hG.ineg dX4_ends_21 ?_
    refine hG.goto (tgt := 26) dX4_ends_22 rfl ?_
    refine hG.callV dX4_ends_26 kv_X4_77 (Rcv.raw mdL_m cl_X4) (sp_X4_raises hΓ) rfl rfl (Nat.le_of_ble_eq_true rfl) (by decide) (by omega) (by omega) (fun r26 I26 L26 hI26 h26 => ?_) (fun _ _ _ _ _ h => h.elim)
    obtain ⟨rfl, rfl, rfl⟩ := h26
    refine hG.iret dX4_ends_29 rfl ?_ (by omega) (by omega) trivial
    exact ⟨rfl, rfl, by rw [hc, if_pos hz]⟩
  · refine hG.iload_n dX4_ends_0 rfl ?_
    refine hG.if_ne (tgt := 15) dX4_ends_1 rfl (fun c_1 => ?_) (fun c_1 => absurd c_1 (fun e => hv e))
    refine hG.aload_n dX4_ends_15 rfl ?_
    refine hG.iload_n dX4_ends_16 rfl ?_
    refine hG.if_ge (tgt := 25) dX4_ends_17 rfl (fun c_17 => ?_) (fun c_17 => absurd (Int32.not_lt.mp hz) c_17)
    refine hG.iload_n dX4_ends_25 rfl ?_
    refine hG.callV dX4_ends_26 kv_X4_77 (Rcv.raw mdL_m cl_X4) (sp_X4_raises hΓ) rfl rfl (Nat.le_of_ble_eq_true rfl) (by decide) (by omega) (by omega) (fun r26 I26 L26 hI26 h26 => ?_) (fun _ _ _ _ _ h => h.elim)
    obtain ⟨rfl, rfl, rfl⟩ := h26
    refine hG.iret dX4_ends_29 rfl ?_ (by omega) (by omega) trivial
    exact ⟨rfl, rfl, by rw [hc, if_neg hz]⟩
