/-! java.util.ArrayDeque of at most 15 in its first array of 17: one cell -/
def dqΦ (xs : List Nat) : AI → Nat → AL → Prop := fun _ a S => ∃ (arr hd : Nat) (f : Nat → Option Nat), S a = some (obC ciJ6 [.ref arr, .int (nI hd), .int (nI ((hd + xs.length) % 17))]) ∧ S arr = some (.inl (arQ OBJ 17 f)) ∧ arr ≠ a ∧ hd < 17 ∧ xs.length ≤ 15 ∧ ∀ i, i < xs.length → f ((hd + i) % 17) = xs[i]?
abbrev dqC (xs : List Nat) : Cel := cel 3 (dqΦ xs)
theorem sub17 : ∀ a, a < 17 → ∀ b, b < 17 → if 0 ≤ nI a - nI b then nI a - nI b = nI ((a + 17 - b) % 17) else nI a - nI b + nI 17 = nI ((a + 17 - b) % 17) := by decide +kernel
theorem inc17 : ∀ a, a < 17 → if nI a + Int32.ofInt 1 < nI 17 then nI a + Int32.ofInt 1 = nI ((a + 1) % 17) else (0 : Int32) = nI ((a + 1) % 17) := by decide +kernel
section DQ
variable {l : Launch} {s0 : State} {D : va_G} {own nm : String} {cc : ByteArray} {nL : Nat} {ret : Option FieldType} {tab : List ExceptionTableEntry} {d mc ms : Nat} {Ib : AI} {post : Option Value → AI → AL → Prop} {xp : String → Nat → AI → AL → Prop} {md : Prop} {G : Gt} {GX : GXt}
variable {pc : Nat} {ls : List (Nat × Value)} {st : List Value} {I : AI} {L : AL} {k n : Nat}
theorem IsG.opD (hG : IsG l s0 D own nm cc nL ret tab d mc ms Ib post xp md G GX) {a : Nat} {xs : List Nat} (ha : L a = some (dqC xs)) (kk : ∀ (arr hd : Nat) (f : Nat → Option Nat) (M : AL), M a = some (obC ciJ6 [.ref arr, .int (nI hd), .int (nI ((hd + xs.length) % 17))]) → M arr = some (.inl (arQ OBJ 17 f)) → arr ≠ a → hd < 17 → xs.length ≤ 15 → (∀ i, i < xs.length → f ((hd + i) % 17) = xs[i]?) → Frm L a [a, arr] M → G pc ls st I M k n) : G pc ls st I L k n := by
  refine hG.opn ha (fun J S M hJ hΦ h1 h2 => ?_)
  obtain ⟨arr, hd, f, e1, e2, e3, e4, e5, e6⟩ := hΦ
  refine kk arr hd f M (h1 _ _ e1) (h1 _ _ e2) e3 e4 e5 e6 (frm_of [a, arr] (fun q hq hqa => ?_) h2)
  rcases List.mem_cons.mp hq with e | e
  · exact absurd e hqa
  · rw [List.mem_singleton.mp e, e2]; exact (fun h => nomatch h)
theorem IsG.clD (hG : IsG l s0 D own nm cc nL ret tab d mc ms Ib post xp md G GX) {a arr hd : Nat} {xs : List Nat} {M : AL} {f : Nat → Option Nat} (L : AL) (hfr : Frm L a [a, arr] M) (e1 : M a = some (obC ciJ6 [.ref arr, .int (nI hd), .int (nI ((hd + xs.length) % 17))])) (e2 : M arr = some (.inl (arQ OBJ 17 f))) (e3 : arr ≠ a) (e4 : hd < 17) (e5 : xs.length ≤ 15) (e6 : ∀ i, i < xs.length → f ((hd + i) % 17) = xs[i]?) (kk : G pc ls st I (up1 L a (some (dqC xs))) k n) : G pc ls st I M k n :=
  hG.clz 3 L [a, arr] hfr (by simp) (by rw [e1]; exact (fun h => nomatch h)) ⟨arr, hd, f, rst_at (by simp) e1, rst_at (by simp) e2, e3, e4, e5, e6⟩ kk
end DQ
theorem Rcv.dq {s0 : State} {D : va_G} {I : AI} {L : AL} {a : Nat} {xs : List Nat} (h : L a = some (dqC xs)) : Rcv s0 D I L a "java/util/ArrayDeque" := by
  intro H hS
  obtain ⟨J, S, h1, h2, h3, h4, h5⟩ := hS.op h
  obtain ⟨arr, hd, f, k1, -⟩ := h2
  exact Rcv.raw (ovl_in k1) cl_J6 H h5
theorem cls_J6 : CLs ciJ6 RJ6 TJ6 3 tyJ6 := ⟨rfl, in_J6, tyJ6_ok, nmJ6⟩
theorem ki_J6_42 : LkI RJ6 42 yJ0_init 0 := ⟨q312, q167, q75, rfl, ⟨by decide +kernel, by decide +kernel, by decide +kernel⟩, by decide +kernel⟩
theorem fp_J6_3_J6 {nm : String} : LkP RJ6 nm 3 ciJ6 0 (tyJ6 0) := ⟨RJ6, TJ6, 3, tyJ6, _, cls_J6, by decide, rfl, Or.inl rfl, Or.inl ⟨rfl, q315⟩⟩
set_option maxHeartbeats 4000000 in
set_option maxRecDepth 100000 in
theorem sp_J6_init {l : Launch} {s0 : State} {D : va_G} {I : AI} {L : AL} {xs : List Nat} {a : Nat} (hΓ : Gam l s0 D) (h0 : L a = some (obC ciJ6 [.null, .int 0, .int 0])) : Spc l s0 D yJ6_init 3 [.ref a] I L 1 17 (pU I L a (dqC [])) noX := by
  refine Spc.of hΓ cJ6_init 1 none q311 (by decide +kernel) (by decide) (Nat.le_of_ble_eq_true rfl) (fun G GX hG => ?_)
  refine hG.aload_n dJ6_init_0 rfl ?_
  refine hG.callI dJ6_init_1 ki_J6_42 (sp_J0_init hΓ) rfl rfl (Nat.le_of_ble_eq_true rfl) (by decide) (by omega) (by omega) (fun r1 I1 L1 hI1 h1 => ?_) (fun _ _ _ _ _ h => h.elim)
  obtain ⟨rfl, rfl, rfl⟩ := h1
  refine hG.aload_n dJ6_init_4 rfl ?_
  refine hG.bipush (v := 17) dJ6_init_5 rfl ?_
  refine hG.newq (C := OBJ) (N := 17) dJ6_init_7 q313 q314 (by decide) (by decide) (by decide) (by omega) (by omega) (fun q hLq hIq => ?_)
  have hqa : q ≠ a := fun e => by subst e; rw [hLq] at h0; cases h0
  refine hG.put dJ6_init_10 fp_J6_3_J6 ((up1_n hqa.symm).trans h0) rfl rfl (Nat.le_of_ble_eq_true rfl) ?_
  have hF : Frm L a [a, q] (up1 (up1 L q (some (.inl (arQ OBJ 17 (fun _ => none))))) a (some (obC ciJ6 [.ref q, .int 0, .int 0]))) := fun z x hz hza => by
    have hzq : z ≠ q := fun e => by rw [e, hLq] at hz; cases hz
    exact ⟨by simp [hza, hzq], (up1_n hza).trans ((up1_n hzq).trans hz)⟩
  refine hG.clD (xs := []) (hd := 0) L hF up1_s ((up1_n hqa).trans up1_s) hqa (by decide) (by decide) (fun i hi => absurd hi (Nat.not_lt_zero i)) ?_
  refine hG.vret dJ6_init_13 rfl ?_ (by omega) (by omega) trivial
  exact ⟨rfl, rfl, rfl⟩
set_option maxHeartbeats 4000000 in
set_option maxRecDepth 100000 in
theorem sp_J6_sub {l : Launch} {s0 : State} {D : va_G} {I : AI} {L : AL} (hΓ : Gam l s0 D) {i j : Nat} (hi : i < 17) (hj : j < 17) : Spc l s0 D yJ6_sub 1 [.int (nI i), .int (nI j), .int (nI 17)] I L 0 0 (pV (.int (nI ((i + 17 - j) % 17))) I L) noX := by
  refine Spc.of hΓ cJ6_sub 3 (some FieldType.int) q2228 (by decide +kernel) (by decide) (Nat.le_of_ble_eq_true rfl) (fun G GX hG => ?_)
  have h9 := sub17 i hi j hj
  refine hG.iload_n dJ6_sub_0 rfl ?_
  refine hG.iload_n dJ6_sub_1 rfl ?_
  refine hG.isub dJ6_sub_2 ?_
  refine hG.dup dJ6_sub_3 rfl ?_
  refine hG.istore_n dJ6_sub_4 (by decide) ?_
  refine hG.if_ge (tgt := 12) dJ6_sub_5 rfl (fun c_5 => ?_) (fun c_5 => ?_)
  · refine hG.iload_n dJ6_sub_12 rfl ?_
    refine hG.iret dJ6_sub_13 rfl ?_ (by omega) (by omega) trivial
    first
    | (rw [if_pos c_5] at h9; exact ⟨by rw [h9], rfl, rfl⟩)
    | (rw [if_neg c_5] at h9; exact ⟨by rw [h9], rfl, rfl⟩)
  · refine hG.iload_n dJ6_sub_8 rfl ?_
    refine hG.iload_n dJ6_sub_9 rfl ?_
    refine hG.iadd dJ6_sub_10 ?_
    refine hG.istore_n dJ6_sub_11 (by decide) ?_
    refine hG.iload_n dJ6_sub_12 rfl ?_
    refine hG.iret dJ6_sub_13 rfl ?_ (by omega) (by omega) trivial
    first
    | (rw [if_pos c_5] at h9; exact ⟨by rw [h9], rfl, rfl⟩)
    | (rw [if_neg c_5] at h9; exact ⟨by rw [h9], rfl, rfl⟩)
set_option maxHeartbeats 4000000 in
set_option maxRecDepth 100000 in
theorem sp_J6_dec {l : Launch} {s0 : State} {D : va_G} {I : AI} {L : AL} (hΓ : Gam l s0 D) {i : Nat} (hi : i < 17) : Spc l s0 D yJ6_dec 1 [.int (nI i), .int (nI 17)] I L 0 0 (pV (.int (nI ((i + 16) % 17))) I L) noX := by
  refine Spc.of hΓ cJ6_dec 2 (some FieldType.int) q2239 (by decide +kernel) (by decide) (Nat.le_of_ble_eq_true rfl) (fun G GX hG => ?_)
  rcases i with _ | j
  · refine hG.iinc dJ6_dec_0 rfl (by decide) ?_
    refine hG.iload_n dJ6_dec_3 rfl ?_
    refine hG.if_ge (tgt := 11) dJ6_dec_4 rfl (fun c_4 => absurd c_4 (by decide)) (fun c_4 => ?_)
    refine hG.iload_n dJ6_dec_7 rfl ?_
    refine hG.iconst (v := 1) dJ6_dec_8 rfl ?_
    refine hG.isub dJ6_dec_9 ?_
    refine hG.istore_n dJ6_dec_10 (by decide) ?_
    refine hG.iload_n dJ6_dec_11 rfl ?_
    refine hG.iret dJ6_dec_12 rfl ?_ (by omega) (by omega) trivial
    exact ⟨rfl, rfl, rfl⟩
  · refine hG.iinc dJ6_dec_0 rfl (by decide) ?_
    rw [show nI (j + 1) + Int32.ofInt (-1) = nI j from pk_m1 j]
    refine hG.iload_n dJ6_dec_3 rfl ?_
    refine hG.if_ge (tgt := 11) dJ6_dec_4 rfl (fun c_4 => ?_) (fun c_4 => absurd (nI_pos' (by omega)) c_4)
    refine hG.iload_n dJ6_dec_11 rfl ?_
    refine hG.iret dJ6_dec_12 rfl ?_ (by omega) (by omega) trivial
    rw [show (j + 1 + 16) % 17 = j by omega]
    exact ⟨rfl, rfl, rfl⟩
set_option maxHeartbeats 4000000 in
set_option maxRecDepth 100000 in
theorem sp_J6_inc {l : Launch} {s0 : State} {D : va_G} {I : AI} {L : AL} (hΓ : Gam l s0 D) {i : Nat} (hi : i < 17) : Spc l s0 D yJ6_inc 1 [.int (nI i), .int (nI 17)] I L 0 0 (pV (.int (nI ((i + 1) % 17))) I L) noX := by
  refine Spc.of hΓ cJ6_inc 2 (some FieldType.int) q3242 (by decide +kernel) (by decide) (Nat.le_of_ble_eq_true rfl) (fun G GX hG => ?_)
  have h9 := inc17 i hi
  refine hG.iinc dJ6_inc_0 rfl (by decide) ?_
  refine hG.iload_n dJ6_inc_3 rfl ?_
  refine hG.iload_n dJ6_inc_4 rfl ?_
  refine hG.icmp_lt (tgt := 10) dJ6_inc_5 rfl (fun c_5 => ?_) (fun c_5 => ?_)
  · refine hG.iload_n dJ6_inc_10 rfl ?_
    refine hG.iret dJ6_inc_11 rfl ?_ (by omega) (by omega) trivial
    first
    | (rw [if_pos c_5] at h9; exact ⟨by rw [h9], rfl, rfl⟩)
    | (rw [if_neg c_5] at h9; exact ⟨by rw [h9], rfl, rfl⟩)
  · refine hG.iconst (v := 0) dJ6_inc_8 rfl ?_
    refine hG.istore_n dJ6_inc_9 (by decide) ?_
    refine hG.iload_n dJ6_inc_10 rfl ?_
    refine hG.iret dJ6_inc_11 rfl ?_ (by omega) (by omega) trivial
    first
    | (rw [if_pos c_5] at h9; exact ⟨by rw [h9], rfl, rfl⟩)
    | (rw [if_neg c_5] at h9; exact ⟨by rw [h9], rfl, rfl⟩)
set_option maxHeartbeats 4000000 in
set_option maxRecDepth 100000 in
theorem sp_J6_elementAt {l : Launch} {s0 : State} {D : va_G} {I : AI} {L : AL} (hΓ : Gam l s0 D) {arr i v : Nat} {f : Nat → Option Nat} (e2 : L arr = some (.inl (arQ OBJ 17 f))) (hi : i < 17) (hv : f i = some v) : Spc l s0 D yJ6_elementAt 1 [.ref arr, .int (nI i)] I L 0 0 (pV (.ref v) I L) noX := by
  refine Spc.of hΓ cJ6_elementAt 2 (some (FieldType.object "java/lang/Object")) q2242 (by decide +kernel) (by decide) (Nat.le_of_ble_eq_true rfl) (fun G GX hG => ?_)
  refine hG.aload_n dJ6_elementAt_0 rfl ?_
  refine hG.iload_n dJ6_elementAt_1 rfl ?_
  refine hG.aald dJ6_elementAt_2 (Or.inl e2) (vp_in_nI hi (by decide)) ?_
  rw [nI_clamp (by omega), hv]
  refine hG.aret dJ6_elementAt_3 rfl (by first | exact Or.inl ⟨_, rfl⟩ | exact Or.inr ⟨_, rfl⟩) (by first | exact Or.inr ⟨_, rfl⟩ | exact Or.inl rfl) ?_ (by omega) (by omega) trivial
  exact ⟨rfl, rfl, rfl⟩
theorem fg_J6_20_J6 : LkG RJ6 20 ciJ6 2 := ⟨RJ6, TJ6, 3, tyJ6, _, cls_J6, by decide, Or.inl rfl, Or.inl q317⟩
theorem fg_J6_24_J6 : LkG RJ6 24 ciJ6 1 := ⟨RJ6, TJ6, 3, tyJ6, _, cls_J6, by decide, Or.inl rfl, Or.inl q316⟩
theorem fg_J6_3_J6 : LkG RJ6 3 ciJ6 0 := ⟨RJ6, TJ6, 3, tyJ6, _, cls_J6, by decide, Or.inl rfl, Or.inl q315⟩
theorem ks_J6_127 : LkS RJ6 127 yJ6_sub 3 := ⟨q2226, q2227, q82, by decide +kernel, by decide +kernel, by decide +kernel⟩
set_option maxHeartbeats 4000000 in
set_option maxRecDepth 100000 in
theorem sp_J6_size {l : Launch} {s0 : State} {D : va_G} {I : AI} {L : AL} {xs : List Nat} {a : Nat} (hΓ : Gam l s0 D) (h0 : L a = some (dqC xs)) : Spc l s0 D yJ6_size 2 [.ref a] I L 0 0 (pV (.int (nI xs.length)) I L) noX := by
  refine Spc.of hΓ cJ6_size 1 (some FieldType.int) q2225 (by decide +kernel) (by decide) (Nat.le_of_ble_eq_true rfl) (fun G GX hG => ?_)
  refine hG.opD h0 (fun arr hd f M e1 e2 e3 e4 e5 e6 hfr => ?_)
  refine hG.aload_n dJ6_size_0 rfl ?_
  refine hG.get dJ6_size_1 fg_J6_20_J6 (Or.inl e1) rfl ?_
  refine hG.aload_n dJ6_size_4 rfl ?_
  refine hG.get dJ6_size_5 fg_J6_24_J6 (Or.inl e1) rfl ?_
  refine hG.aload_n dJ6_size_8 rfl ?_
  refine hG.get dJ6_size_9 fg_J6_3_J6 (Or.inl e1) rfl ?_
  refine hG.alen dJ6_size_12 (Or.inl e2) ?_
  refine hG.callS dJ6_size_13 ks_J6_127 (sp_J6_sub hΓ (Nat.mod_lt _ (by decide)) e4) rfl rfl (Nat.le_of_ble_eq_true rfl) (by decide) (by omega) (by omega) (fun r13 I13 L13 hI13 h13 => ?_) (fun _ _ _ _ _ h => h.elim)
  obtain ⟨rfl, rfl, rfl⟩ := h13
  refine hG.clD L hfr e1 e2 e3 e4 e5 e6 ?_
  rw [show up1 L a (some (dqC xs)) = L by rw [← h0]; exact up1_self]
  rw [show ((hd + xs.length) % 17 + 17 - hd) % 17 = xs.length by omega]
  refine hG.iret dJ6_size_16 rfl ?_ (by omega) (by omega) trivial
  exact ⟨rfl, rfl, rfl⟩
set_option maxHeartbeats 4000000 in
set_option maxRecDepth 100000 in
theorem sp_J6_isEmpty {l : Launch} {s0 : State} {D : va_G} {I : AI} {L : AL} {xs : List Nat} {a : Nat} (hΓ : Gam l s0 D) (h0 : L a = some (dqC xs)) : Spc l s0 D yJ6_isEmpty 1 [.ref a] I L 0 0 (pV (.int (b2i (decide (xs = [])))) I L) noX := by
  refine Spc.of hΓ cJ6_isEmpty 1 (some FieldType.boolean) q3227 (by decide +kernel) (by decide) (Nat.le_of_ble_eq_true rfl) (fun G GX hG => ?_)
  refine hG.opD h0 (fun arr hd f M e1 e2 e3 e4 e5 e6 hfr => ?_)
  refine hG.aload_n dJ6_isEmpty_0 rfl ?_
  refine hG.get dJ6_isEmpty_1 fg_J6_24_J6 (Or.inl e1) rfl ?_
  refine hG.aload_n dJ6_isEmpty_4 rfl ?_
  refine hG.get dJ6_isEmpty_5 fg_J6_20_J6 (Or.inl e1) rfl ?_
  refine hG.icmp_ne (tgt := 15) dJ6_isEmpty_8 rfl (fun c_8 => ?_) (fun c_8 => ?_)
  · refine hG.iconst (v := 0) dJ6_isEmpty_15 rfl ?_
    refine hG.clD L hfr e1 e2 e3 e4 e5 e6 ?_
    rw [show up1 L a (some (dqC xs)) = L by rw [← h0]; exact up1_self]
    refine hG.zret dJ6_isEmpty_16 rfl rfl ?_ (by omega) (by omega) trivial
    have h9 : nI hd = nI ((hd + xs.length) % 17) ↔ xs = [] := by
      rw [nI_eq (by omega) (by omega)]
      constructor
      · intro q
        exact List.eq_nil_of_length_eq_zero (by omega)
      · intro q
        subst q
        show hd = (hd + 0) % 17
        omega
    first
    | exact ⟨by rw [show decide (xs = []) = true from decide_eq_true (h9.mp c_8)]; rfl, rfl, rfl⟩
    | exact ⟨by rw [show decide (xs = []) = false from decide_eq_false (fun z => c_8 (h9.mpr z))]; rfl, rfl, rfl⟩
  · refine hG.iconst (v := 1) dJ6_isEmpty_11 rfl ?_
    refine hG.goto (tgt := 16) dJ6_isEmpty_12 rfl ?_
    refine hG.clD L hfr e1 e2 e3 e4 e5 e6 ?_
    rw [show up1 L a (some (dqC xs)) = L by rw [← h0]; exact up1_self]
    refine hG.zret dJ6_isEmpty_16 rfl rfl ?_ (by omega) (by omega) trivial
    have h9 : nI hd = nI ((hd + xs.length) % 17) ↔ xs = [] := by
      rw [nI_eq (by omega) (by omega)]
      constructor
      · intro q
        exact List.eq_nil_of_length_eq_zero (by omega)
      · intro q
        subst q
        show hd = (hd + 0) % 17
        omega
    first
    | exact ⟨by rw [show decide (xs = []) = true from decide_eq_true (h9.mp c_8)]; rfl, rfl, rfl⟩
    | exact ⟨by rw [show decide (xs = []) = false from decide_eq_false (fun z => c_8 (h9.mpr z))]; rfl, rfl, rfl⟩
theorem ks_J6_103 : LkS RJ6 103 yJ6_elementAt 2 := ⟨q2240, q2241, q82, by decide +kernel, by decide +kernel, by decide +kernel⟩
theorem ks_J6_74 : LkS RJ6 74 yJ6_inc 2 := ⟨q3240, q3241, q82, by decide +kernel, by decide +kernel, by decide +kernel⟩
theorem fp_J6_24_J6 {nm : String} : LkP RJ6 nm 24 ciJ6 1 (tyJ6 1) := ⟨RJ6, TJ6, 3, tyJ6, _, cls_J6, by decide, rfl, Or.inl rfl, Or.inl ⟨rfl, q316⟩⟩
set_option maxHeartbeats 4000000 in
set_option maxRecDepth 100000 in
theorem sp_J6_pollFirst {l : Launch} {s0 : State} {D : va_G} {I : AI} {L : AL} {xs : List Nat} {a : Nat} (hΓ : Gam l s0 D) {x : Nat} (h0 : L a = some (dqC (x :: xs))) : Spc l s0 D yJ6_pollFirst 2 [.ref a] I L 0 0 (pVU (.ref x) I L a (dqC xs)) noX := by
  refine Spc.of hΓ cJ6_pollFirst 4 (some (FieldType.object "java/lang/Object")) q3239 (by decide +kernel) (by decide) (Nat.le_of_ble_eq_true rfl) (fun G GX hG => ?_)
  refine hG.opD h0 (fun arr hd f M e1 e2 e3 e4 e5 e6 hfr => ?_)
  have hf0 : f hd = some x := by
    have := e6 0 (by simp)
    rw [show (hd + 0) % 17 = hd by omega] at this
    exact this
  refine hG.aload_n dJ6_pollFirst_0 rfl ?_
  refine hG.get dJ6_pollFirst_1 fg_J6_3_J6 (Or.inl e1) rfl ?_
  refine hG.dup dJ6_pollFirst_4 rfl ?_
  refine hG.astore_n dJ6_pollFirst_5 (by decide) ?_
  refine hG.aload_n dJ6_pollFirst_6 rfl ?_
  refine hG.get dJ6_pollFirst_7 fg_J6_24_J6 (Or.inl e1) rfl ?_
  refine hG.dup dJ6_pollFirst_10 rfl ?_
  refine hG.istore_n dJ6_pollFirst_11 (by decide) ?_
  refine hG.callS dJ6_pollFirst_12 ks_J6_103 (sp_J6_elementAt hΓ e2 e4 hf0) rfl rfl (Nat.le_of_ble_eq_true rfl) (by decide) (by omega) (by omega) (fun r12 I12 L12 hI12 h12 => ?_) (fun _ _ _ _ _ h => h.elim)
  obtain ⟨rfl, rfl, rfl⟩ := h12
  refine hG.astore_n dJ6_pollFirst_15 (by decide) ?_
  refine hG.aload_n dJ6_pollFirst_16 rfl ?_
  refine hG.ifnull dJ6_pollFirst_17 ?_
  refine hG.aload_n dJ6_pollFirst_20 rfl ?_
  refine hG.iload_n dJ6_pollFirst_21 rfl ?_
  refine hG.null dJ6_pollFirst_22 ?_
  refine hG.aastN dJ6_pollFirst_23 e2 (vp_in_nI e4 (by decide)) ?_
  rw [nI_clamp (by omega)]
  refine hG.aload_n dJ6_pollFirst_24 rfl ?_
  refine hG.iload_n dJ6_pollFirst_25 rfl ?_
  refine hG.aload_n dJ6_pollFirst_26 rfl ?_
  refine hG.alen dJ6_pollFirst_27 (Or.inl up1_s) ?_
  refine hG.callS dJ6_pollFirst_28 ks_J6_74 (sp_J6_inc hΓ e4) rfl rfl (Nat.le_of_ble_eq_true rfl) (by decide) (by omega) (by omega) (fun r28 I28 L28 hI28 h28 => ?_) (fun _ _ _ _ _ h => h.elim)
  obtain ⟨rfl, rfl, rfl⟩ := h28
  refine hG.put dJ6_pollFirst_31 fp_J6_24_J6 ((up1_n e3.symm).trans e1) rfl rfl (Nat.le_of_ble_eq_true rfl) ?_
  refine hG.clD (xs := xs) (hd := (hd + 1) % 17) L ((hfr.up (by simp) _).up (by simp) _) (by rw [up1_s, show ((hd + 1) % 17 + xs.length) % 17 = (hd + (x :: xs).length) % 17 by simp; omega]; rfl) ((up1_n e3).trans up1_s) e3 (Nat.mod_lt _ (by decide)) (by simp at e5; omega) (fun i hi => ?_) ?_
  · have h9 := e6 (i + 1) (by simp; omega)
    unfold va_up
    rw [if_neg (by simp at e5; omega), show ((hd + 1) % 17 + i) % 17 = (hd + (i + 1)) % 17 by omega, h9]
    rfl
  refine hG.aload_n dJ6_pollFirst_34 rfl ?_
  refine hG.aret dJ6_pollFirst_35 rfl (by first | exact Or.inl ⟨_, rfl⟩ | exact Or.inr ⟨_, rfl⟩) (by first | exact Or.inr ⟨_, rfl⟩ | exact Or.inl rfl) ?_ (by omega) (by omega) trivial
  exact ⟨rfl, rfl, rfl⟩
theorem kv_J6_93 : LkV RJ6 93 yJ6_pollFirst 0 := ⟨q3236, q3237, q3238, q82, by decide +kernel, by decide +kernel, by decide +kernel⟩
set_option maxHeartbeats 4000000 in
set_option maxRecDepth 100000 in
theorem sp_J6_removeFirst {l : Launch} {s0 : State} {D : va_G} {I : AI} {L : AL} {xs : List Nat} {a : Nat} (hΓ : Gam l s0 D) {x : Nat} (h0 : L a = some (dqC (x :: xs))) : Spc l s0 D yJ6_removeFirst 3 [.ref a] I L 0 0 (pVU (.ref x) I L a (dqC xs)) noX := by
  refine Spc.of hΓ cJ6_removeFirst 2 (some (FieldType.object "java/lang/Object")) q3235 (by decide +kernel) (by decide) (Nat.le_of_ble_eq_true rfl) (fun G GX hG => ?_)
  refine hG.aload_n dJ6_removeFirst_0 rfl ?_
  refine hG.callV dJ6_removeFirst_1 kv_J6_93 (Rcv.dq h0) (sp_J6_pollFirst hΓ h0) rfl rfl (Nat.le_of_ble_eq_true rfl) (by decide) (by omega) (by omega) (fun r1 I1 L1 hI1 h1 => ?_) (fun _ _ _ _ _ h => h.elim)
  obtain ⟨rfl, rfl, rfl⟩ := h1
  refine hG.astore_n dJ6_removeFirst_4 (by decide) ?_
  refine hG.aload_n dJ6_removeFirst_5 rfl ?_
  refine hG.ifnonnull (tgt := 17) dJ6_removeFirst_6 rfl ?_
  refine hG.aload_n dJ6_removeFirst_17 rfl ?_
  refine hG.aret dJ6_removeFirst_18 rfl (by first | exact Or.inl ⟨_, rfl⟩ | exact Or.inr ⟨_, rfl⟩) (by first | exact Or.inr ⟨_, rfl⟩ | exact Or.inl rfl) ?_ (by omega) (by omega) trivial
  exact ⟨rfl, rfl, rfl⟩
theorem kv_J6_118 : LkV RJ6 118 yJ6_removeFirst 0 := ⟨q3232, q3233, q3234, q82, by decide +kernel, by decide +kernel, by decide +kernel⟩
set_option maxHeartbeats 4000000 in
set_option maxRecDepth 100000 in
theorem sp_J6_pop {l : Launch} {s0 : State} {D : va_G} {I : AI} {L : AL} {xs : List Nat} {a : Nat} (hΓ : Gam l s0 D) {x : Nat} (h0 : L a = some (dqC (x :: xs))) : Spc l s0 D yJ6_pop 4 [.ref a] I L 0 0 (pVU (.ref x) I L a (dqC xs)) noX := by
  refine Spc.of hΓ cJ6_pop 1 (some (FieldType.object "java/lang/Object")) q3231 (by decide +kernel) (by decide) (Nat.le_of_ble_eq_true rfl) (fun G GX hG => ?_)
  refine hG.aload_n dJ6_pop_0 rfl ?_
  refine hG.callV dJ6_pop_1 kv_J6_118 (Rcv.dq h0) (sp_J6_removeFirst hΓ h0) rfl rfl (Nat.le_of_ble_eq_true rfl) (by decide) (by omega) (by omega) (fun r1 I1 L1 hI1 h1 => ?_) (fun _ _ _ _ _ h => h.elim)
  obtain ⟨rfl, rfl, rfl⟩ := h1
  refine hG.aret dJ6_pop_4 rfl (by first | exact Or.inl ⟨_, rfl⟩ | exact Or.inr ⟨_, rfl⟩) (by first | exact Or.inr ⟨_, rfl⟩ | exact Or.inl rfl) ?_ (by omega) (by omega) trivial
  exact ⟨rfl, rfl, rfl⟩
theorem ks_J6_68 : LkS RJ6 68 yJ6_dec 2 := ⟨q2237, q2238, q82, by decide +kernel, by decide +kernel, by decide +kernel⟩
theorem fp_J6_20_J6 {nm : String} : LkP RJ6 nm 20 ciJ6 2 (tyJ6 2) := ⟨RJ6, TJ6, 3, tyJ6, _, cls_J6, by decide, rfl, Or.inl rfl, Or.inl ⟨rfl, q317⟩⟩
set_option maxHeartbeats 4000000 in
set_option maxRecDepth 100000 in
theorem sp_J6_pollLast {l : Launch} {s0 : State} {D : va_G} {I : AI} {L : AL} {xs : List Nat} {a : Nat} (hΓ : Gam l s0 D) {x : Nat} (h0 : L a = some (dqC (xs ++ [x]))) : Spc l s0 D yJ6_pollLast 2 [.ref a] I L 0 0 (pVU (.ref x) I L a (dqC xs)) noX := by
  refine Spc.of hΓ cJ6_pollLast 4 (some (FieldType.object "java/lang/Object")) q2236 (by decide +kernel) (by decide) (Nat.le_of_ble_eq_true rfl) (fun G GX hG => ?_)
  refine hG.opD h0 (fun arr hd f M e1 e2 e3 e4 e5 e6 hfr => ?_)
  have hlen : (xs ++ [x]).length = xs.length + 1 := by simp
  have hi9 : (hd + xs.length) % 17 < 17 := Nat.mod_lt _ (by decide)
  have hf0 : f ((hd + xs.length) % 17) = some x := by
    have := e6 xs.length (by omega)
    rw [this]
    simp
  have hdc : ((hd + (xs ++ [x]).length) % 17 + 16) % 17 = (hd + xs.length) % 17 := by omega
  refine hG.aload_n dJ6_pollLast_0 rfl ?_
  refine hG.get dJ6_pollLast_1 fg_J6_3_J6 (Or.inl e1) rfl ?_
  refine hG.dup dJ6_pollLast_4 rfl ?_
  refine hG.astore_n dJ6_pollLast_5 (by decide) ?_
  refine hG.aload_n dJ6_pollLast_6 rfl ?_
  refine hG.get dJ6_pollLast_7 fg_J6_20_J6 (Or.inl e1) rfl ?_
  refine hG.aload_n dJ6_pollLast_10 rfl ?_
  refine hG.alen dJ6_pollLast_11 (Or.inl e2) ?_
  refine hG.callS dJ6_pollLast_12 ks_J6_68 (sp_J6_dec hΓ (Nat.mod_lt _ (by decide))) rfl rfl (Nat.le_of_ble_eq_true rfl) (by decide) (by omega) (by omega) (fun r12 I12 L12 hI12 h12 => ?_) (fun _ _ _ _ _ h => h.elim)
  obtain ⟨rfl, rfl, rfl⟩ := h12
  rw [hdc]
  refine hG.dup dJ6_pollLast_15 rfl ?_
  refine hG.istore_n dJ6_pollLast_16 (by decide) ?_
  refine hG.callS dJ6_pollLast_17 ks_J6_103 (sp_J6_elementAt hΓ e2 hi9 hf0) rfl rfl (Nat.le_of_ble_eq_true rfl) (by decide) (by omega) (by omega) (fun r17 I17 L17 hI17 h17 => ?_) (fun _ _ _ _ _ h => h.elim)
  obtain ⟨rfl, rfl, rfl⟩ := h17
  refine hG.astore_n dJ6_pollLast_20 (by decide) ?_
  refine hG.aload_n dJ6_pollLast_21 rfl ?_
  refine hG.ifnull dJ6_pollLast_22 ?_
  refine hG.aload_n dJ6_pollLast_25 rfl ?_
  refine hG.aload_n dJ6_pollLast_26 rfl ?_
  refine hG.iload_n dJ6_pollLast_27 rfl ?_
  refine hG.dup_x1 dJ6_pollLast_28 rfl rfl ?_
  refine hG.put dJ6_pollLast_29 fp_J6_20_J6 e1 rfl rfl (Nat.le_of_ble_eq_true rfl) ?_
  refine hG.null dJ6_pollLast_32 ?_
  refine hG.aastN dJ6_pollLast_33 ((up1_n e3).trans e2) (vp_in_nI hi9 (by decide)) ?_
  rw [nI_clamp (by omega)]
  refine hG.clD (xs := xs) (hd := hd) L ((hfr.up (by simp) _).up (by simp) _) ((up1_n e3.symm).trans up1_s) up1_s e3 e4 (by omega) (fun i hi => ?_) ?_
  · have h9 := e6 i (by omega)
    unfold va_up
    rw [if_neg (by omega), h9, List.getElem?_append_left hi]
  refine hG.aload_n dJ6_pollLast_34 rfl ?_
  refine hG.aret dJ6_pollLast_35 rfl (by first | exact Or.inl ⟨_, rfl⟩ | exact Or.inr ⟨_, rfl⟩) (by first | exact Or.inr ⟨_, rfl⟩ | exact Or.inl rfl) ?_ (by omega) (by omega) trivial
  exact ⟨rfl, rfl, rfl⟩
theorem kv_J6_100 : LkV RJ6 100 yJ6_pollLast 0 := ⟨q2233, q2234, q2235, q82, by decide +kernel, by decide +kernel, by decide +kernel⟩
set_option maxHeartbeats 4000000 in
set_option maxRecDepth 100000 in
theorem sp_J6_removeLast {l : Launch} {s0 : State} {D : va_G} {I : AI} {L : AL} {xs : List Nat} {a : Nat} (hΓ : Gam l s0 D) {x : Nat} (h0 : L a = some (dqC (xs ++ [x]))) : Spc l s0 D yJ6_removeLast 3 [.ref a] I L 0 0 (pVU (.ref x) I L a (dqC xs)) noX := by
  refine Spc.of hΓ cJ6_removeLast 2 (some (FieldType.object "java/lang/Object")) q2232 (by decide +kernel) (by decide) (Nat.le_of_ble_eq_true rfl) (fun G GX hG => ?_)
  refine hG.aload_n dJ6_removeLast_0 rfl ?_
  refine hG.callV dJ6_removeLast_1 kv_J6_100 (Rcv.dq h0) (sp_J6_pollLast hΓ h0) rfl rfl (Nat.le_of_ble_eq_true rfl) (by decide) (by omega) (by omega) (fun r1 I1 L1 hI1 h1 => ?_) (fun _ _ _ _ _ h => h.elim)
  obtain ⟨rfl, rfl, rfl⟩ := h1
  refine hG.astore_n dJ6_removeLast_4 (by decide) ?_
  refine hG.aload_n dJ6_removeLast_5 rfl ?_
  refine hG.ifnonnull (tgt := 17) dJ6_removeLast_6 rfl ?_
  refine hG.aload_n dJ6_removeLast_17 rfl ?_
  refine hG.aret dJ6_removeLast_18 rfl (by first | exact Or.inl ⟨_, rfl⟩ | exact Or.inr ⟨_, rfl⟩) (by first | exact Or.inr ⟨_, rfl⟩ | exact Or.inl rfl) ?_ (by omega) (by omega) trivial
  exact ⟨rfl, rfl, rfl⟩
set_option maxHeartbeats 4000000 in
set_option maxRecDepth 100000 in
theorem sp_J6_addFirst {l : Launch} {s0 : State} {D : va_G} {I : AI} {L : AL} {xs : List Nat} {a : Nat} (hΓ : Gam l s0 D) {x : Nat} {C : String} (h0 : L a = some (dqC xs)) (hl : xs.length ≤ 14) (hv9 : ∀ (N : List Nat) (c : Cel) (M : AL), Frm L a N M → Rcv s0 D I (up1 M a (some c)) x C) (hca : Cond.castable C OBJ ∈ lw_tbl) : Spc l s0 D yJ6_addFirst 2 [.ref a, .ref x] I L 0 0 (pU I L a (dqC (x :: xs))) noX := by
  refine Spc.of hΓ cJ6_addFirst 3 none q2252 (by decide +kernel) (by decide) (Nat.le_of_ble_eq_true rfl) (fun G GX hG => ?_)
  refine hG.opD h0 (fun arr hd f M e1 e2 e3 e4 e5 e6 hfr => ?_)
  have hi9 : (hd + 16) % 17 < 17 := Nat.mod_lt _ (by decide)
  refine hG.aload_n dJ6_addFirst_0 rfl ?_
  refine hG.ifnonnull (tgt := 12) dJ6_addFirst_1 rfl ?_
  refine hG.aload_n dJ6_addFirst_12 rfl ?_
  refine hG.get dJ6_addFirst_13 fg_J6_3_J6 (Or.inl e1) rfl ?_
  refine hG.astore_n dJ6_addFirst_16 (by decide) ?_
  refine hG.aload_n dJ6_addFirst_17 rfl ?_
  refine hG.aload_n dJ6_addFirst_18 rfl ?_
  refine hG.aload_n dJ6_addFirst_19 rfl ?_
  refine hG.get dJ6_addFirst_20 fg_J6_24_J6 (Or.inl e1) rfl ?_
  refine hG.aload_n dJ6_addFirst_23 rfl ?_
  refine hG.alen dJ6_addFirst_24 (Or.inl e2) ?_
  refine hG.callS dJ6_addFirst_25 ks_J6_68 (sp_J6_dec hΓ e4) rfl rfl (Nat.le_of_ble_eq_true rfl) (by decide) (by omega) (by omega) (fun r25 I25 L25 hI25 h25 => ?_) (fun _ _ _ _ _ h => h.elim)
  obtain ⟨rfl, rfl, rfl⟩ := h25
  refine hG.dup_x1 dJ6_addFirst_28 rfl rfl ?_
  refine hG.put dJ6_addFirst_29 fp_J6_24_J6 e1 rfl rfl (Nat.le_of_ble_eq_true rfl) ?_
  refine hG.aload_n dJ6_addFirst_32 rfl ?_
  refine hG.aast dJ6_addFirst_33 ((up1_n e3).trans e2) (hv9 _ _ _ hfr) hca (vp_in_nI hi9 (by decide)) ?_
  rw [nI_clamp (by omega)]
  refine hG.aload_n dJ6_addFirst_34 rfl ?_
  refine hG.get dJ6_addFirst_35 fg_J6_24_J6 (Or.inl ((up1_n e3.symm).trans up1_s)) rfl ?_
  refine hG.aload_n dJ6_addFirst_38 rfl ?_
  refine hG.get dJ6_addFirst_39 fg_J6_20_J6 (Or.inl ((up1_n e3.symm).trans up1_s)) rfl ?_
  refine hG.icmp_ne (tgt := 50) dJ6_addFirst_42 rfl (fun c_42 => ?_) (fun c_42 => absurd c_42 (fun e => absurd ((nI_eq (by omega) (by omega)).mp e) (by omega)))
  refine hG.clD (xs := x :: xs) (hd := (hd + 16) % 17) L ((hfr.up (by simp) _).up (by simp) _) (by rw [up1_n e3.symm, up1_s, show ((hd + 16) % 17 + (x :: xs).length) % 17 = (hd + xs.length) % 17 by simp; omega]; rfl) up1_s e3 hi9 (by simp; omega) (fun i hi => ?_) ?_
  · unfold va_up
    match i, hi with
    | 0, _ => rw [if_pos (by omega)]; rfl
    | i + 1, hi =>
      have hi2 : i < xs.length := by simpa using hi
      have h9 := e6 i hi2
      rw [if_neg (by omega), show ((hd + 16) % 17 + (i + 1)) % 17 = (hd + i) % 17 by omega, h9]
      rfl
  refine hG.vret dJ6_addFirst_50 rfl ?_ (by omega) (by omega) trivial
  exact ⟨rfl, rfl, rfl⟩
theorem kv_J6_86 : LkV RJ6 86 yJ6_addFirst 1 := ⟨q2249, q2250, q2251, q82, by decide +kernel, by decide +kernel, by decide +kernel⟩
set_option maxHeartbeats 4000000 in
set_option maxRecDepth 100000 in
theorem sp_J6_push {l : Launch} {s0 : State} {D : va_G} {I : AI} {L : AL} {xs : List Nat} {a : Nat} (hΓ : Gam l s0 D) {x : Nat} {C : String} (h0 : L a = some (dqC xs)) (hl : xs.length ≤ 14) (hv9 : ∀ (N : List Nat) (c : Cel) (M : AL), Frm L a N M → Rcv s0 D I (up1 M a (some c)) x C) (hca : Cond.castable C OBJ ∈ lw_tbl) : Spc l s0 D yJ6_push 3 [.ref a, .ref x] I L 0 0 (pU I L a (dqC (x :: xs))) noX := by
  refine Spc.of hΓ cJ6_push 2 none q2248 (by decide +kernel) (by decide) (Nat.le_of_ble_eq_true rfl) (fun G GX hG => ?_)
  refine hG.aload_n dJ6_push_0 rfl ?_
  refine hG.aload_n dJ6_push_1 rfl ?_
  refine hG.callV dJ6_push_2 kv_J6_86 (Rcv.dq h0) (sp_J6_addFirst hΓ h0 hl hv9 hca) rfl rfl (Nat.le_of_ble_eq_true rfl) (by decide) (by omega) (by omega) (fun r2 I2 L2 hI2 h2 => ?_) (fun _ _ _ _ _ h => h.elim)
  obtain ⟨rfl, rfl, rfl⟩ := h2
  refine hG.vret dJ6_push_5 rfl ?_ (by omega) (by omega) trivial
  exact ⟨rfl, rfl, rfl⟩
set_option maxHeartbeats 4000000 in
set_option maxRecDepth 100000 in
theorem sp_J6_circularClear {l : Launch} {s0 : State} {D : va_G} {I : AI} {L : AL} (hΓ : Gam l s0 D) {arr hd tl : Nat} {f : Nat → Option Nat} (e2 : L arr = some (.inl (arQ OBJ 17 f))) (h1 : hd < 17) (h2 : tl < 17) : Spc l s0 D yJ6_circularClear 1 [.ref arr, .int (nI hd), .int (nI tl)] I L 0 0 (fun r I' L' => r = none ∧ I = I' ∧ ∃ f', L' = up1 L arr (some (.inl (arQ OBJ 17 f')))) noX := by
  refine Spc.of hΓ cJ6_circularClear 4 none q3256 (by decide +kernel) (by decide) (Nat.le_of_ble_eq_true rfl) (fun G GX hG => ?_)
  have loop2 : ∀ (w i : Nat) (f : Nat → Option Nat) (L1 : AL), i + w = tl → L1 = up1 L arr (some (.inl (arQ OBJ 17 f))) → G 12 [(0, .ref arr), (1, .int (nI i)), (2, .int (nI tl)), (3, .int (nI tl))] [] I L1 0 0 := by
    intro w
    induction w with
    | zero =>
      intro i f L1 hiw hL1
      subst hL1
      refine hG.iload_n dJ6_circularClear_12 rfl ?_
      refine hG.iload_n dJ6_circularClear_13 rfl ?_
      refine hG.icmp_ge (tgt := 27) dJ6_circularClear_14 rfl (fun c_14 => ?_) (fun c_14 => absurd (nI_le (by omega) (by omega)) c_14)
      refine hG.iload_n dJ6_circularClear_27 rfl ?_
      refine hG.iload_n dJ6_circularClear_28 rfl ?_
      refine hG.icmp_ne (tgt := 35) dJ6_circularClear_29 rfl (fun c_29 => absurd rfl c_29) (fun c_29 => ?_)
      refine hG.goto (tgt := 42) dJ6_circularClear_32 rfl ?_
      refine hG.vret dJ6_circularClear_42 rfl ?_ (by omega) (by omega) trivial
      exact ⟨rfl, rfl, f, rfl⟩
    | succ w ih =>
      intro i f L1 hiw hL1
      subst hL1
      refine hG.iload_n dJ6_circularClear_12 rfl ?_
      refine hG.iload_n dJ6_circularClear_13 rfl ?_
      refine hG.icmp_ge (tgt := 27) dJ6_circularClear_14 rfl (fun c_14 => absurd c_14 (nI_ge (by omega) (by omega))) (fun c_14 => ?_)
      refine hG.aload_n dJ6_circularClear_17 rfl ?_
      refine hG.iload_n dJ6_circularClear_18 rfl ?_
      refine hG.null dJ6_circularClear_19 ?_
      refine hG.aastN dJ6_circularClear_20 up1_s (vp_in_nI (by omega) (by decide)) ?_
      rw [up1_up1]
      refine hG.iinc dJ6_circularClear_21 rfl (by decide) ?_
      refine hG.goto (tgt := 12) dJ6_circularClear_24 rfl ?_
      refine hG.lsb [(0, .ref arr), (1, .int (nI i + Int32.ofInt 1)), (2, .int (nI tl)), (3, .int (nI tl))] ⟨rfl, rfl, rfl, rfl, trivial⟩ ?_
      rw [show nI i + Int32.ofInt 1 = nI (i + 1) from nI_add i 1]
      exact ih (i + 1) _ _ (by omega) rfl
  have loop1 : ∀ (w i : Nat) (f : Nat → Option Nat) (L1 : AL), i + w = 17 → L1 = up1 L arr (some (.inl (arQ OBJ 17 f))) → G 12 [(0, .ref arr), (1, .int (nI i)), (2, .int (nI tl)), (3, .int (nI 17))] [] I L1 0 0 := by
    intro w
    induction w with
    | zero =>
      intro i f L1 hiw hL1
      subst hL1
      refine hG.iload_n dJ6_circularClear_12 rfl ?_
      refine hG.iload_n dJ6_circularClear_13 rfl ?_
      refine hG.icmp_ge (tgt := 27) dJ6_circularClear_14 rfl (fun c_14 => ?_) (fun c_14 => absurd (nI_le (by omega) (by omega)) c_14)
      refine hG.iload_n dJ6_circularClear_27 rfl ?_
      refine hG.iload_n dJ6_circularClear_28 rfl ?_
      refine hG.icmp_ne (tgt := 35) dJ6_circularClear_29 rfl (fun c_29 => ?_) (fun c_29 => absurd c_29 (fun e => absurd ((nI_eq (by omega) (by omega)).mp e) (by omega)))
      refine hG.iconst (v := 0) dJ6_circularClear_35 rfl ?_
      refine hG.istore_n dJ6_circularClear_36 (by decide) ?_
      refine hG.iload_n dJ6_circularClear_37 rfl ?_
      refine hG.istore_n dJ6_circularClear_38 (by decide) ?_
      refine hG.goto (tgt := 12) dJ6_circularClear_39 rfl ?_
      exact hG.lsb [(0, .ref arr), (1, .int (nI 0)), (2, .int (nI tl)), (3, .int (nI tl))] ⟨rfl, rfl, rfl, rfl, trivial⟩ (loop2 tl 0 _ _ (by omega) rfl)
    | succ w ih =>
      intro i f L1 hiw hL1
      subst hL1
      refine hG.iload_n dJ6_circularClear_12 rfl ?_
      refine hG.iload_n dJ6_circularClear_13 rfl ?_
      refine hG.icmp_ge (tgt := 27) dJ6_circularClear_14 rfl (fun c_14 => absurd c_14 (nI_ge (by omega) (by omega))) (fun c_14 => ?_)
      refine hG.aload_n dJ6_circularClear_17 rfl ?_
      refine hG.iload_n dJ6_circularClear_18 rfl ?_
      refine hG.null dJ6_circularClear_19 ?_
      refine hG.aastN dJ6_circularClear_20 up1_s (vp_in_nI (by omega) (by decide)) ?_
      rw [up1_up1]
      refine hG.iinc dJ6_circularClear_21 rfl (by decide) ?_
      refine hG.goto (tgt := 12) dJ6_circularClear_24 rfl ?_
      refine hG.lsb [(0, .ref arr), (1, .int (nI i + Int32.ofInt 1)), (2, .int (nI tl)), (3, .int (nI 17))] ⟨rfl, rfl, rfl, rfl, trivial⟩ ?_
      rw [show nI i + Int32.ofInt 1 = nI (i + 1) from nI_add i 1]
      exact ih (i + 1) _ _ (by omega) rfl
  refine hG.iload_n dJ6_circularClear_0 rfl ?_
  refine hG.iload_n dJ6_circularClear_1 rfl ?_
  refine hG.icmp_gt (tgt := 9) dJ6_circularClear_2 rfl (fun c_2 => ?_) (fun c_2 => ?_)
  · refine hG.aload_n dJ6_circularClear_9 rfl ?_
    refine hG.alen dJ6_circularClear_10 (Or.inl e2) ?_
    refine hG.istore_n dJ6_circularClear_11 (by decide) ?_
    first
    | exact hG.lsb [(0, .ref arr), (1, .int (nI hd)), (2, .int (nI tl)), (3, .int (nI tl))] ⟨rfl, rfl, rfl, rfl, trivial⟩ (loop2 (tl - hd) hd f _ (by have := (nI_leI (by omega) (by omega)).mp (Int32.not_lt.mp c_2); omega) (by rw [← e2, up1_self]))
    | exact hG.lsb [(0, .ref arr), (1, .int (nI hd)), (2, .int (nI tl)), (3, .int (nI 17))] ⟨rfl, rfl, rfl, rfl, trivial⟩ (loop1 (17 - hd) hd f _ (by omega) (by rw [← e2, up1_self]))
  · refine hG.iload_n dJ6_circularClear_5 rfl ?_
    refine hG.goto (tgt := 11) dJ6_circularClear_6 rfl ?_
    refine hG.istore_n dJ6_circularClear_11 (by decide) ?_
    first
    | exact hG.lsb [(0, .ref arr), (1, .int (nI hd)), (2, .int (nI tl)), (3, .int (nI tl))] ⟨rfl, rfl, rfl, rfl, trivial⟩ (loop2 (tl - hd) hd f _ (by have := (nI_leI (by omega) (by omega)).mp (Int32.not_lt.mp c_2); omega) (by rw [← e2, up1_self]))
    | exact hG.lsb [(0, .ref arr), (1, .int (nI hd)), (2, .int (nI tl)), (3, .int (nI 17))] ⟨rfl, rfl, rfl, rfl, trivial⟩ (loop1 (17 - hd) hd f _ (by omega) (by rw [← e2, up1_self]))
theorem ks_J6_181 : LkS RJ6 181 yJ6_circularClear 3 := ⟨q3254, q3255, q82, by decide +kernel, by decide +kernel, by decide +kernel⟩
set_option maxHeartbeats 4000000 in
set_option maxRecDepth 100000 in
theorem sp_J6_clear {l : Launch} {s0 : State} {D : va_G} {I : AI} {L : AL} {xs : List Nat} {a : Nat} (hΓ : Gam l s0 D) (h0 : L a = some (dqC xs)) : Spc l s0 D yJ6_clear 2 [.ref a] I L 0 0 (pU I L a (dqC [])) noX := by
  refine Spc.of hΓ cJ6_clear 1 none q3253 (by decide +kernel) (by decide) (Nat.le_of_ble_eq_true rfl) (fun G GX hG => ?_)
  refine hG.opD h0 (fun arr hd f M e1 e2 e3 e4 e5 e6 hfr => ?_)
  refine hG.aload_n dJ6_clear_0 rfl ?_
  refine hG.get dJ6_clear_1 fg_J6_3_J6 (Or.inl e1) rfl ?_
  refine hG.aload_n dJ6_clear_4 rfl ?_
  refine hG.get dJ6_clear_5 fg_J6_24_J6 (Or.inl e1) rfl ?_
  refine hG.aload_n dJ6_clear_8 rfl ?_
  refine hG.get dJ6_clear_9 fg_J6_20_J6 (Or.inl e1) rfl ?_
  refine hG.callS dJ6_clear_12 ks_J6_181 (sp_J6_circularClear hΓ e2 e4 (Nat.mod_lt _ (by decide))) rfl rfl (Nat.le_of_ble_eq_true rfl) (by decide) (by omega) (by omega) (fun r12 I12 L12 hI12 h12 => ?_) (fun _ _ _ _ _ h => h.elim)
  obtain ⟨rfl, rfl, f', rfl⟩ := h12
  refine hG.aload_n dJ6_clear_15 rfl ?_
  refine hG.aload_n dJ6_clear_16 rfl ?_
  refine hG.iconst (v := 0) dJ6_clear_17 rfl ?_
  refine hG.dup_x1 dJ6_clear_18 rfl rfl ?_
  refine hG.put dJ6_clear_19 fp_J6_20_J6 ((up1_n e3.symm).trans e1) rfl rfl (Nat.le_of_ble_eq_true rfl) ?_
  refine hG.put dJ6_clear_22 fp_J6_24_J6 up1_s rfl rfl (Nat.le_of_ble_eq_true rfl) ?_
  refine hG.clD (xs := []) (hd := 0) L (((hfr.up (by simp) _).up (by simp) _).up (by simp) _) up1_s ((up1_n e3).trans ((up1_n e3).trans up1_s)) e3 (by decide) (by decide) (fun i hi => absurd hi (Nat.not_lt_zero i)) ?_
  refine hG.vret dJ6_clear_25 rfl ?_ (by omega) (by omega) trivial
  exact ⟨rfl, rfl, rfl⟩
