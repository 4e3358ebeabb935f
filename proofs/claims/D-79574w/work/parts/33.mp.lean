/-! the map's other doings -/
section MP2
variable {l : Launch} {s0 : State} {D : va_G} {own nm : String} {cc : ByteArray} {nL : Nat} {ret : Option FieldType} {tab : List ExceptionTableEntry} {d mc ms : Nat} {Ib : AI} {post : Option Value → AI → AL → Prop} {xp : String → Nat → AI → AL → Prop} {md : Prop} {G : Gt} {GX : GXt}
variable {pc : Nat} {ls : List (Nat × Value)} {st : List Value} {I : AI} {L : AL} {k n : Nat}
theorem IsG.ldcF (hG : IsG l s0 D own nm cc nL ret tab d mc ms Ib post xp md G GX) {idx : Nat} {v : UInt32} (hd : decode cc pc = .ok (.ldc idx, 2)) (hc : Cond.constantFloat own idx v ∈ lw_all) (kk : G (pc + 2) ls (.float v :: st) I L k n) : G pc ls st I L k n := by
  obtain ⟨p, e, s, m, args, below, meth, c, R, Q, hΓ, hx, hb, hr, hml, hown, hts, hlk, hnm, hW, htab, hF, hR, hmd, rfl, rfl⟩ := hG
  intro H locs lsA hl hS hV hI
  exact lv_ldcf hx hb hown (hts _ hc) hd (kk H locs lsA hl hS hV hI)
end MP2
/-- an entry of a closed map -/
theorem Rcv.en {s0 : State} {D : va_G} {I : AI} {L : AL} {m : Nat} {mo : Int32} {es : List Ent} (h : L m = some (mpC mo es)) {x : Ent} (hx : x ∈ es) : Rcv s0 D I L x.1 "java/util/LinkedHashMap$Entry" := by
  intro H hS
  obtain ⟨J, S, h1, ⟨_, _, _, _, _, _, h2⟩, h3, h4, h5⟩ := hS.op h
  exact Rcv.raw (ovl_in (h2.2.2.2.2.1 x hx).1) cl_J31 H h5
theorem ko_J4_228_J5 : LkU RJ4 228 RJ5 yJ4_removeNode yJ4_removeNode 5 := ⟨_, q1390, q1392, q1393, q1391, q80, by decide +kernel, by decide +kernel, by decide +kernel, Or.inl rfl⟩
set_option maxHeartbeats 4000000 in
set_option maxRecDepth 100000 in
theorem sp_J4_remove {l : Launch} {s0 : State} {D : va_G} {I : AI} {L : AL} {m key : Nat} {mo : Int32} {x : Ent} {pre post : List Ent} (hΓ : Gam l s0 D) (hNT : StN s0) (h0 : L m = some (mpC mo (pre ++ x :: post))) (hkey : I key (ob ciX9 (grp x.2.1))) : Spc l s0 D yJ4_remove 5 [.ref m, .ref key] I L 0 0 (fun r I' L' => I = I' ∧ L' = up1 L m (some (mpC (mo + 1) (pre ++ post))) ∧ ∃ q, r = some (.ref q) ∧ I q (bxE x.2.2)) noX := by
  refine Spc.of hΓ cJ4_remove 3 (some (FieldType.object "java/lang/Object")) q1389 (by decide +kernel) (by decide) (Nat.le_of_ble_eq_true rfl) (fun G GX hG => ?_)
  refine hG.opM h0 (fun tbV esV cap lf kr vr M h hf => ?_)
  have h1 := h.1
  have hxe : x ∈ pre ++ x :: post := by simp
  have hc : x.2.1 < 147 := (h.2.2.2.2.1 x hxe).2.1
  have hv4 := (h.2.2.2.2.1 x hxe).2.2.2
  · refine hG.aload_n dJ4_remove_0 rfl ?_
    refine hG.aload_n dJ4_remove_1 rfl ?_
    refine hG.callS dJ4_remove_2 ks_J4_149 (sp_J4_hash hΓ hc (Or.inr hkey)) rfl rfl (Nat.le_of_ble_eq_true rfl) (by decide) (by omega) (by omega) (fun r2 I2 L2 hI2 h2 => ?_) (fun _ _ _ _ _ h => h.elim)
    obtain ⟨rfl, rfl, rfl⟩ := h2
    refine hG.aload_n dJ4_remove_5 rfl ?_
    refine hG.null dJ4_remove_6 ?_
    refine hG.iconst (v := 0) dJ4_remove_7 rfl ?_
    refine hG.iconst (v := 1) dJ4_remove_8 rfl ?_
    refine hG.callU dJ4_remove_9 ko_J4_228_J5 (Rcv.raw h1 cl_J5) (sp_J4_removeNode hΓ hNT h hkey) rfl rfl (Nat.le_of_ble_eq_true rfl) (by decide) (by omega) (by omega) (fun r9 I9 L9 hI9 h9 => ?_) (fun _ _ _ _ _ h => h.elim)
    obtain ⟨rfl, rfl, ⟨nv, hnv⟩, hM, hF⟩ := h9
    refine hG.dup dJ4_remove_12 rfl ?_
    refine hG.astore_n dJ4_remove_13 (by decide) ?_
    refine hG.ifnonnull (tgt := 21) dJ4_remove_14 rfl ?_
    refine hG.aload_n dJ4_remove_21 rfl ?_
    refine hG.get dJ4_remove_22 fg_J4_162_J31 (Or.inl hnv) rfl ?_
    refine hG.clM L hM (hf.far hF) (fun q hq => hq) ?_
    refine hG.aret dJ4_remove_25 rfl (by first | exact Or.inl ⟨_, rfl⟩ | exact Or.inr ⟨_, rfl⟩) (by first | exact Or.inr ⟨_, rfl⟩ | exact Or.inl rfl) ?_ (by omega) (by omega) trivial
    exact ⟨rfl, rfl, _, rfl, hv4⟩
set_option maxHeartbeats 4000000 in
set_option maxRecDepth 100000 in
theorem sp_J3_init {l : Launch} {s0 : State} {D : va_G} {I : AI} {L : AL} {m : Nat} (hΓ : Gam l s0 D)  : Spc l s0 D yJ3_init 1 [.ref m] I L 0 0 (p0 I L) noX := by
  refine Spc.of hΓ cJ3_init 1 none q203 (by decide +kernel) (by decide) (Nat.le_of_ble_eq_true rfl) (fun G GX hG => ?_)
  refine hG.aload_n dJ3_init_0 rfl ?_
  refine hG.objI dJ3_init_1 q204 (Nat.le_of_ble_eq_true rfl) (by decide) ?_
  refine hG.vret dJ3_init_4 rfl ?_ (by omega) (by omega) trivial
  exact ⟨rfl, rfl, rfl⟩
theorem ki_J4_43 : LkI RJ4 43 yJ3_init 0 := ⟨q201, q202, q79, rfl, ⟨by decide +kernel, by decide +kernel, by decide +kernel⟩, by decide +kernel⟩
theorem fp_J4_81_J5 : LkP RJ4 "<init>" 81 ciJ5 5 (tyJ5 5) := ⟨RJ5, TJ5, 12, tyJ5, _, cls_J5, by decide, rfl, Or.inl rfl, Or.inr (Or.inr ⟨rfl, rfl, rfl, q221⟩)⟩
set_option maxHeartbeats 4000000 in
set_option maxRecDepth 100000 in
theorem sp_J4_init {l : Launch} {s0 : State} {D : va_G} {I : AI} {L : AL} {m : Nat} (hΓ : Gam l s0 D) {a1 a2 a3 a4 a5 a6 a7 a8 a9 a10 a11 a12 : Value} (h0 : L m = some (obC ciJ5 [a1, a2, a3, a4, a5, a6, a7, a8, a9, a10, a11, a12])) : Spc l s0 D yJ4_init 2 [.ref m] I L 0 0 (pU I L m (obC ciJ5 [a1, a2, a3, a4, a5, .float 1061158912, a7, a8, a9, a10, a11, a12])) noX := by
  refine Spc.of hΓ cJ4_init 1 none q200 (by decide +kernel) (by decide) (Nat.le_of_ble_eq_true rfl) (fun G GX hG => ?_)
  refine hG.aload_n dJ4_init_0 rfl ?_
  refine hG.callI dJ4_init_1 ki_J4_43 (sp_J3_init hΓ) rfl rfl (Nat.le_of_ble_eq_true rfl) (by decide) (by omega) (by omega) (fun r1 I1 L1 hI1 h1 => ?_) (fun _ _ _ _ _ h => h.elim)
  obtain ⟨rfl, rfl, rfl⟩ := h1
  refine hG.aload_n dJ4_init_4 rfl ?_
  refine hG.ldcF dJ4_init_5 q205 ?_
  refine hG.put dJ4_init_7 fp_J4_81_J5 h0 rfl rfl (Nat.le_of_ble_eq_true rfl) ?_
  refine hG.vret dJ4_init_10 rfl ?_ (by omega) (by omega) trivial
  exact ⟨rfl, rfl, rfl⟩
theorem ki_J5_87 : LkI RJ5 87 yJ4_init 0 := ⟨q198, q199, q80, rfl, ⟨by decide +kernel, by decide +kernel, by decide +kernel⟩, by decide +kernel⟩
theorem fp_J5_1_J5 {nm : String} : LkP RJ5 nm 1 ciJ5 11 (tyJ5 11) := ⟨RJ5, TJ5, 12, tyJ5, _, cls_J5, by decide, rfl, Or.inl rfl, Or.inl ⟨rfl, q211⟩⟩
theorem fp_J5_64_J5 : LkP RJ5 "<init>" 64 ciJ5 10 (tyJ5 10) := ⟨RJ5, TJ5, 12, tyJ5, _, cls_J5, by decide, rfl, Or.inl rfl, Or.inr (Or.inr ⟨rfl, rfl, rfl, q210⟩)⟩
set_option maxHeartbeats 4000000 in
set_option maxRecDepth 100000 in
theorem sp_J5_init {l : Launch} {s0 : State} {D : va_G} {I : AI} {L : AL} {m : Nat} (hΓ : Gam l s0 D) (h0 : L m = some (obC ciJ5 [.null, .null, .int 0, .int 0, .int 0, .float 0, .null, .null, .null, .null, .int 0, .int 0])) : Spc l s0 D yJ5_init 3 [.ref m] I L 0 0 (pU I L m (mpC 0 [])) noX := by
  refine Spc.of hΓ cJ5_init 1 none q197 (by decide +kernel) (by decide) (Nat.le_of_ble_eq_true rfl) (fun G GX hG => ?_)
  refine hG.aload_n dJ5_init_0 rfl ?_
  refine hG.callI dJ5_init_1 ki_J5_87 (sp_J4_init hΓ h0) rfl rfl (Nat.le_of_ble_eq_true rfl) (by decide) (by omega) (by omega) (fun r1 I1 L1 hI1 h1 => ?_) (fun _ _ _ _ _ h => h.elim)
  obtain ⟨rfl, rfl, rfl⟩ := h1
  refine hG.aload_n dJ5_init_4 rfl ?_
  refine hG.iconst (v := 0) dJ5_init_5 rfl ?_
  refine hG.put dJ5_init_6 fp_J5_1_J5 up1_s rfl rfl (Nat.le_of_ble_eq_true rfl) ?_
  refine hG.aload_n dJ5_init_9 rfl ?_
  refine hG.iconst (v := 0) dJ5_init_10 rfl ?_
  refine hG.put dJ5_init_11 fp_J5_64_J5 up1_s rfl rfl (Nat.le_of_ble_eq_true rfl) ?_
  simp only [up1_up1]
  refine hG.clM (es := []) (mo := 0) (tbV := .null) (esV := .null) (cap := 0) (lf := 1061158912) (kr := id) (vr := id) L (N := [m]) ⟨up1_s, by simp [ads], by simp [cods], by simp [ads], fun x hx => (nomatch hx), Or.inl rfl, Or.inl ⟨rfl, rfl, rfl⟩⟩ (fun q x hq hqm => ⟨by simpa using hqm, by rw [up1_n hqm]; exact hq⟩) (by simp [rfs, ads]) ?_
  refine hG.vret dJ5_init_14 rfl ?_ (by omega) (by omega) trivial
  exact ⟨rfl, rfl, rfl⟩
set_option maxHeartbeats 4000000 in
set_option maxRecDepth 100000 in
theorem sp_J4_clearN {l : Launch} {s0 : State} {D : va_G} {I : AI} {L : AL} {m : Nat} {mo : Int32} (hΓ : Gam l s0 D) {a2 a3 a5 a6 a7 a8 a9 a10 a11 a12 : Value} (h0 : L m = some (obC ciJ5 [.null, a2, a3, .int mo, a5, a6, a7, a8, a9, a10, a11, a12])) : Spc l s0 D yJ4_clear 1 [.ref m] I L 0 0 (pU I L m (obC ciJ5 [.null, a2, a3, .int (mo + 1), a5, a6, a7, a8, a9, a10, a11, a12])) noX := by
  refine Spc.of hΓ cJ4_clear 3 none q2196 (by decide +kernel) (by decide) (Nat.le_of_ble_eq_true rfl) (fun G GX hG => ?_)
  refine hG.aload_n dJ4_clear_0 rfl ?_
  refine hG.dup dJ4_clear_1 rfl ?_
  refine hG.get dJ4_clear_2 fg_J4_202_J5 (Or.inl h0) rfl ?_
  refine hG.iconst (v := 1) dJ4_clear_5 rfl ?_
  refine hG.iadd dJ4_clear_6 ?_
  refine hG.put dJ4_clear_7 fp_J4_202_J5 h0 rfl rfl (Nat.le_of_ble_eq_true rfl) ?_
  refine hG.aload_n dJ4_clear_10 rfl ?_
  refine hG.get dJ4_clear_11 fg_J4_105_J5 (Or.inl up1_s) rfl ?_
  refine hG.dup dJ4_clear_14 rfl ?_
  refine hG.astore_nN dJ4_clear_15 (by decide) ?_
  refine hG.ifnullN (tgt := 49) dJ4_clear_16 rfl ?_
  refine hG.vret dJ4_clear_49 rfl ?_ (by omega) (by omega) trivial
  exact ⟨rfl, rfl, rfl⟩
set_option maxHeartbeats 4000000 in
set_option maxRecDepth 100000 in
theorem sp_J4_clearT {l : Launch} {s0 : State} {D : va_G} {I : AI} {L : AL} {m : Nat} {mo : Int32} (hΓ : Gam l s0 D) {a2 a5 a6 a7 a8 a9 a10 a11 a12 : Value} {tb N : Nat} {n : Nat} {f : Nat → Option Nat} (h0 : L m = some (obC ciJ5 [.ref tb, a2, .int (nI n), .int mo, a5, a6, a7, a8, a9, a10, a11, a12])) (htm : tb ≠ m) (hT : L tb = some (.inl (arQ NODE N f))) (hN : N ≤ 256) (hnb : n ≤ 256) : Spc l s0 D yJ4_clear 1 [.ref m] I L 0 0 (fun r I' L' => r = none ∧ I = I' ∧ ((n = 0 ∧ L' = up1 L m (some (obC ciJ5 [.ref tb, a2, .int (nI n), .int (mo + 1), a5, a6, a7, a8, a9, a10, a11, a12]))) ∨ (0 < n ∧ ∃ f' : Nat → Option Nat, (∀ j, j < N → f' j = none) ∧ L' = up1 (up1 L m (some (obC ciJ5 [.ref tb, a2, .int 0, .int (mo + 1), a5, a6, a7, a8, a9, a10, a11, a12]))) tb (some (.inl (arQ NODE N f')))))) noX := by
  refine Spc.of hΓ cJ4_clear 3 none q2196 (by decide +kernel) (by decide) (Nat.le_of_ble_eq_true rfl) (fun G GX hG => ?_)
  have loop : ∀ (r i : Nat) (f1 : Nat → Option Nat) (L1 : AL), 0 < n → i + r = N → L1 = up1 (up1 L m (some (obC ciJ5 [.ref tb, a2, .int 0, .int (mo + 1), a5, a6, a7, a8, a9, a10, a11, a12]))) tb (some (.inl (arQ NODE N f1))) → (∀ j, j < i → f1 j = none) → G 33 [(0, .ref m), (1, .ref tb), (2, .int (nI i))] [] I L1 0 0 := by
    intro r
    induction r with
    | zero =>
      intro i f1 L1 hn hir hL1 hf1
      subst hL1
      refine hG.iload_n dJ4_clear_33 rfl ?_
      refine hG.aload_n dJ4_clear_34 rfl ?_
      refine hG.alen dJ4_clear_35 (Or.inl up1_s) ?_
      refine hG.icmp_ge (tgt := 49) dJ4_clear_36 rfl (fun c_36 => ?_) (fun c_36 => absurd (show nI N ≤ nI i from (nI_leI (by omega) (by omega)).mpr (by omega)) c_36)
      refine hG.vret dJ4_clear_49 rfl ?_ (by omega) (by omega) trivial
      exact ⟨rfl, rfl, Or.inr ⟨hn, f1, fun j hj => hf1 j (by omega), rfl⟩⟩
    | succ r ih =>
      intro i f1 L1 hn hir hL1 hf1
      have hi : i < N := by omega
      subst hL1
      refine hG.iload_n dJ4_clear_33 rfl ?_
      refine hG.aload_n dJ4_clear_34 rfl ?_
      refine hG.alen dJ4_clear_35 (Or.inl up1_s) ?_
      refine hG.icmp_ge (tgt := 49) dJ4_clear_36 rfl (fun c_36 => absurd (show nI N ≤ nI i from c_36) (nI_ge hi (by omega))) (fun c_36 => ?_)
      refine hG.aload_n dJ4_clear_39 rfl ?_
      refine hG.iload_n dJ4_clear_40 rfl ?_
      refine hG.null dJ4_clear_41 ?_
      refine hG.aastN dJ4_clear_42 up1_s (vp_in_nI hi (by omega)) ?_
      rw [nI_clamp (by omega), up1_up1]
      refine hG.iinc dJ4_clear_43 rfl (by decide) ?_
      refine hG.goto (tgt := 33) dJ4_clear_46 rfl ?_
      refine hG.lsb [(0, .ref m), (1, .ref tb), (2, .int (nI i + Int32.ofInt 1))] ⟨rfl, rfl, rfl, trivial⟩ ?_
      rw [show nI i + Int32.ofInt 1 = nI (i + 1) from nI_add i 1]
      refine ih (i + 1) _ _ hn (by omega) rfl (fun j hj => ?_)
      show (if j = i then none else f1 j) = none
      by_cases e : j = i
      · rw [if_pos e]
      · rw [if_neg e]; exact hf1 j (by omega)
  refine hG.aload_n dJ4_clear_0 rfl ?_
  refine hG.dup dJ4_clear_1 rfl ?_
  refine hG.get dJ4_clear_2 fg_J4_202_J5 (Or.inl h0) rfl ?_
  refine hG.iconst (v := 1) dJ4_clear_5 rfl ?_
  refine hG.iadd dJ4_clear_6 ?_
  refine hG.put dJ4_clear_7 fp_J4_202_J5 h0 rfl rfl (Nat.le_of_ble_eq_true rfl) ?_
  refine hG.aload_n dJ4_clear_10 rfl ?_
  refine hG.get dJ4_clear_11 fg_J4_105_J5 (Or.inl up1_s) rfl ?_
  refine hG.dup dJ4_clear_14 rfl ?_
  refine hG.astore_n dJ4_clear_15 (by decide) ?_
  refine hG.ifnull dJ4_clear_16 ?_
  refine hG.aload_n dJ4_clear_19 rfl ?_
  refine hG.get dJ4_clear_20 fg_J4_156_J5 (Or.inl up1_s) rfl ?_
  refine hG.if_le (tgt := 49) dJ4_clear_23 rfl (fun c_23 => ?_) (fun c_23 => ?_)
  · have hn0 : n = 0 := by
      by_cases e : n = 0
      · exact e
      · exact absurd c_23 (nI_nle (by omega) (by omega))
    refine hG.vret dJ4_clear_49 rfl ?_ (by omega) (by omega) trivial
    exact ⟨rfl, rfl, Or.inl ⟨hn0, rfl⟩⟩
  have hn : 0 < n := by
    by_cases e : n = 0
    · subst e; exact absurd (show nI 0 ≤ 0 by decide +kernel) c_23
    · omega
  refine hG.aload_n dJ4_clear_26 rfl ?_
  refine hG.iconst (v := 0) dJ4_clear_27 rfl ?_
  refine hG.put dJ4_clear_28 fp_J4_156_J5 up1_s rfl rfl (Nat.le_of_ble_eq_true rfl) ?_
  refine hG.iconst (v := 0) dJ4_clear_31 rfl ?_
  refine hG.istore_n dJ4_clear_32 (by decide) ?_
  simp only [up1_up1]
  refine hG.lsb [(0, .ref m), (1, .ref tb), (2, .int (nI 0))] ⟨rfl, rfl, rfl, trivial⟩ (loop N 0 f _ hn (by omega) ?_ (fun j hj => absurd hj (by omega)))
  funext z
  by_cases e : z = tb
  · subst e; rw [up1_s, up1_n htm]; exact hT
  · rw [up1_n e]; rfl
theorem ku_J5_110 : LkSU RJ5 110 yJ4_clear 0 := ⟨q2194, q3665, q246, q2195, q80, by decide +kernel, by decide +kernel⟩
set_option maxHeartbeats 4000000 in
set_option maxRecDepth 100000 in
theorem sp_J5_clear {l : Launch} {s0 : State} {D : va_G} {I : AI} {L : AL} {m : Nat} {mo : Int32} {es : List Ent} (hΓ : Gam l s0 D) (h0 : L m = some (mpC mo es)) : Spc l s0 D yJ5_clear 2 [.ref m] I L 0 0 (fun r I' L' => r = none ∧ I = I' ∧ L' = up1 L m (some (mpC (mo + 1) []))) noX := by
  refine Spc.of hΓ cJ5_clear 1 none q2193 (by decide +kernel) (by decide) (Nat.le_of_ble_eq_true rfl) (fun G GX hG => ?_)
  refine hG.opM h0 (fun tbV esV cap lf kr vr M h hf => ?_)
  have h1 := h.1
  rcases h.2.2.2.2.2.2 with ⟨rfl, rfl, rfl⟩ | ⟨hcap, hlen, tb, f, rfl, htm, hta, hT1, hT2⟩
  · refine hG.aload_n dJ5_clear_0 rfl ?_
    refine hG.callSU dJ5_clear_1 ku_J5_110 (Rcv.raw h1 cl_J5) cl_J5 (sp_J4_clearN hΓ h1) rfl rfl (Nat.le_of_ble_eq_true rfl) (by decide) (by omega) (by omega) (fun r1 I1 L1 hI1 h1 => ?_) (fun _ _ _ _ _ h => h.elim)
    obtain ⟨rfl, rfl, rfl⟩ := h1
    refine hG.aload_n dJ5_clear_4 rfl ?_
    refine hG.aload_n dJ5_clear_5 rfl ?_
    refine hG.null dJ5_clear_6 ?_
    refine hG.dup_x1 dJ5_clear_7 rfl rfl ?_
    refine hG.put dJ5_clear_8 fp_J5_11_J5 up1_s rfl rfl (Nat.le_of_ble_eq_true rfl) ?_
    refine hG.put dJ5_clear_11 fp_J5_7_J5 up1_s rfl rfl (Nat.le_of_ble_eq_true rfl) ?_
    simp only [up1_up1]
    refine hG.clM (es := []) (mo := mo + 1) (tbV := .null) (esV := esV) (cap := 0) (lf := lf) (kr := kr) (vr := vr) L (N := [m]) ⟨up1_s, by simp [ads], by simp [cods], by simp [ads], fun x hx => (nomatch hx), h.2.2.2.2.2.1, Or.inl ⟨rfl, rfl, rfl⟩⟩ ((hf.wk (by simp [rfs, ads])).up (by simp) _) (by simp [rfs, ads]) ?_
    refine hG.vret dJ5_clear_14 rfl ?_ (by omega) (by omega) trivial
    exact ⟨rfl, rfl, rfl⟩
  · have hcb := caps_in hcap
    have hlb : es.length ≤ 256 := by omega
    refine hG.aload_n dJ5_clear_0 rfl ?_
    refine hG.callSU dJ5_clear_1 ku_J5_110 (Rcv.raw h1 cl_J5) cl_J5 (sp_J4_clearT hΓ h1 htm hT1 hcb.2 hlb) rfl rfl (Nat.le_of_ble_eq_true rfl) (by decide) (by omega) (by omega) (fun r1 I1 L1 hI1 h1' => ?_) (fun _ _ _ _ _ h => h.elim)
    obtain ⟨rfl, rfl, hor⟩ := h1'
    obtain ⟨f', hf', hLm, hLt, hLo⟩ : ∃ f' : Nat → Option Nat, (∀ j, j < cap → f' j = none) ∧ L1 m = some (obC ciJ5 [.ref tb, esV, .int (nI 0), .int (mo + 1), .int (nI (3 * cap / 4)), .float lf, .null, .null, va_rf (ads es).head?, va_rf (ads es).getLast?, .int 0, .int 0]) ∧ L1 tb = some (.inl (arQ NODE cap f')) ∧ ∀ z, z ≠ m → z ≠ tb → L1 z = M z := by
      rcases hor with ⟨hn, rfl⟩ | ⟨hn, f', hf', rfl⟩
      · have he : es = [] := List.length_eq_zero_iff.mp hn
        subst he
        exact ⟨f, fun j hj => hT2 j hj, up1_s, (up1_n htm).trans hT1, fun z z1 _ => up1_n z1⟩
      · exact ⟨f', hf', (up1_n htm.symm).trans up1_s, up1_s, fun z z1 z2 => (up1_n z2).trans (up1_n z1)⟩
    refine hG.aload_n dJ5_clear_4 rfl ?_
    refine hG.aload_n dJ5_clear_5 rfl ?_
    refine hG.null dJ5_clear_6 ?_
    refine hG.dup_x1 dJ5_clear_7 rfl rfl ?_
    refine hG.put dJ5_clear_8 fp_J5_11_J5 hLm rfl rfl (Nat.le_of_ble_eq_true rfl) ?_
    refine hG.put dJ5_clear_11 fp_J5_7_J5 up1_s rfl rfl (Nat.le_of_ble_eq_true rfl) ?_
    simp only [up1_up1]
    refine hG.clM (es := []) (mo := mo + 1) (tbV := .ref tb) (esV := esV) (cap := cap) (lf := lf) (kr := kr) (vr := vr) L (N := [m, tb]) ⟨up1_s, by simp [ads], by simp [cods], by simp [ads], fun x hx => (nomatch hx), h.2.2.2.2.2.1, Or.inr ⟨hcap, by simp, tb, f', rfl, htm, by simp [ads], (up1_n htm).trans hLt, fun j hj => hf' j hj⟩⟩ (fun q x hq hqm => by
      obtain ⟨k1, k2⟩ := hf q x hq hqm
      simp only [rfs, List.mem_cons, List.mem_append, List.singleton_append, not_or] at k1
      refine ⟨by simp only [List.mem_cons, List.not_mem_nil, or_false, not_or]; exact ⟨k1.1, k1.2.1⟩, ?_⟩
      rw [up1_n k1.1, hLo q k1.1 k1.2.1]
      exact k2) (by simp [rfs, ads]) ?_
    refine hG.vret dJ5_clear_14 rfl ?_ (by omega) (by omega) trivial
    exact ⟨rfl, rfl, rfl⟩
theorem fg_J30_13_J31 : LkG RJ30 13 ciJ31 1 := ⟨RJ31, TJ31, 6, tyJ31, _, cls_J31, by decide, Or.inl rfl, Or.inl q1429⟩
set_option maxHeartbeats 4000000 in
set_option maxRecDepth 100000 in
theorem sp_J30_getKey {l : Launch} {s0 : State} {D : va_G} {I : AI} {L : AL} {m : Nat} {mo : Int32} {es : List Ent} (hΓ : Gam l s0 D) {x : Ent} (h0 : L m = some (mpC mo es)) (hx : x ∈ es) : Spc l s0 D yJ30_getKey 1 [.ref x.1] I L 0 0 (fun r I' L' => I = I' ∧ L = L' ∧ ∃ q, r = some (.ref q) ∧ I q (ob ciX9 (grp x.2.1))) noX := by
  refine Spc.of hΓ cJ30_getKey 1 (some (FieldType.object "java/lang/Object")) q735 (by decide +kernel) (by decide) (Nat.le_of_ble_eq_true rfl) (fun G GX hG => ?_)
  refine hG.opM h0 (fun tbV esV cap lf kr vr M h hf => ?_)
  have h1 := h.1
  obtain ⟨hx1, hx2, hx3, hx4⟩ := h.2.2.2.2.1 x hx
  · refine hG.aload_n dJ30_getKey_0 rfl ?_
    refine hG.get dJ30_getKey_1 fg_J30_13_J31 (Or.inl hx1) rfl ?_
    refine hG.clMs L h0 h hf ?_
    refine hG.aret dJ30_getKey_4 rfl (by first | exact Or.inl ⟨_, rfl⟩ | exact Or.inr ⟨_, rfl⟩) (by first | exact Or.inr ⟨_, rfl⟩ | exact Or.inl rfl) ?_ (by omega) (by omega) trivial
    exact ⟨rfl, rfl, _, rfl, hx3⟩
theorem fg_J30_17_J31 : LkG RJ30 17 ciJ31 2 := ⟨RJ31, TJ31, 6, tyJ31, _, cls_J31, by decide, Or.inl rfl, Or.inl q1436⟩
set_option maxHeartbeats 4000000 in
set_option maxRecDepth 100000 in
theorem sp_J30_getValue {l : Launch} {s0 : State} {D : va_G} {I : AI} {L : AL} {m : Nat} {mo : Int32} {es : List Ent} (hΓ : Gam l s0 D) {x : Ent} (h0 : L m = some (mpC mo es)) (hx : x ∈ es) : Spc l s0 D yJ30_getValue 1 [.ref x.1] I L 0 0 (fun r I' L' => I = I' ∧ L = L' ∧ ∃ q, r = some (.ref q) ∧ I q (bxE x.2.2)) noX := by
  refine Spc.of hΓ cJ30_getValue 1 (some (FieldType.object "java/lang/Object")) q751 (by decide +kernel) (by decide) (Nat.le_of_ble_eq_true rfl) (fun G GX hG => ?_)
  refine hG.opM h0 (fun tbV esV cap lf kr vr M h hf => ?_)
  have h1 := h.1
  obtain ⟨hx1, hx2, hx3, hx4⟩ := h.2.2.2.2.1 x hx
  · refine hG.aload_n dJ30_getValue_0 rfl ?_
    refine hG.get dJ30_getValue_1 fg_J30_17_J31 (Or.inl hx1) rfl ?_
    refine hG.clMs L h0 h hf ?_
    refine hG.aret dJ30_getValue_4 rfl (by first | exact Or.inl ⟨_, rfl⟩ | exact Or.inr ⟨_, rfl⟩) (by first | exact Or.inr ⟨_, rfl⟩ | exact Or.inl rfl) ?_ (by omega) (by omega) trivial
    exact ⟨rfl, rfl, _, rfl, hx4⟩
