/-! what a deed can come to -/
abbrev Out : Type := (Int32 × Rv) ⊕ (Bool ⊕ (Int32 × Int32))
/-- thrown: false an index, true an argument; or refused -/
abbrev xO (o : Out) (L : AL) : String → Nat → AI → AL → Prop := fun E q I' L' => L = L' ∧ ((∃ b : Bool, o = .inr (.inl b) ∧ E = (match b with | true => RJ14 | false => RJ33)) ∨ ∃ p : Int32 × Int32, o = .inr (.inr p) ∧ E = RX7 ∧ I' q (rfE p.1 p.2))
abbrev pO (dE : Nat) (o : Out) (r : Nat) (A : RA) (L : AL) : Option Value → AI → AL → Prop := fun q I' L' => ∃ (v : Int32) (R' : Rv) (A' : RA), o = .inl (v, R') ∧ q = some (.int v) ∧ RvO dE I' L' r R' A' ∧ Far L (RN r A) (RN r A') L'
abbrev tW (c : T3) (w : Int32) : T3 := (w, c.2)
def shfO (R : Rv) (n b : Int32) : Out :=
  if inR n 0 (nI R.ch.length - 1) = true ∧ inR (n + 1) 0 (nI R.ch.length - 1) = true then
    (if inR b (-99) 99 = true then (match R.ch[n.toNatClampNeg]?, R.ch[n.toNatClampNeg + 1]? with
      | some c, some d => if inR (c.1 + b) 10 99 = true then (if inR (d.1 - b) 10 99 = true then .inl (c.1 + b, R.wCh ((R.ch.set n.toNatClampNeg (tW c (c.1 + b))).set (n.toNatClampNeg + 1) (tW d (d.1 - b)))) else .inr (.inr (2, d.1 - b))) else .inr (.inr (2, c.1 + b))
      | _, _ => .inr (.inl false)) else .inr (.inl true))
  else .inr (.inl false)
theorem shf_a {R : Rv} {n b : Int32} (h : inR n 0 (nI R.ch.length - 1) = false) : shfO R n b = .inr (.inl false) := by
  unfold shfO
  rw [if_neg (fun q => bFT h q.1)]
theorem shf_b {R : Rv} {n b : Int32} (h : inR (n + 1) 0 (nI R.ch.length - 1) = false) : shfO R n b = .inr (.inl false) := by
  unfold shfO
  rw [if_neg (fun q => bFT h q.2)]
theorem shf_c {R : Rv} {n b : Int32} (h1 : inR n 0 (nI R.ch.length - 1) = true) (h2 : inR (n + 1) 0 (nI R.ch.length - 1) = true) (h : inR b (-99) 99 = false) : shfO R n b = .inr (.inl true) := by
  unfold shfO
  rw [if_pos ⟨h1, h2⟩, if_neg (bFT h)]
theorem shf_d {R : Rv} {i : Nat} {b : Int32} {c d : T3} (hi : i < 2 ^ 31) (h1 : inR (nI i) 0 (nI R.ch.length - 1) = true) (h2 : inR (nI i + 1) 0 (nI R.ch.length - 1) = true) (h : inR b (-99) 99 = true) (hc : R.ch[i]? = some c) (hd : R.ch[i + 1]? = some d) : shfO R (nI i) b = if inR (c.1 + b) 10 99 = true then (if inR (d.1 - b) 10 99 = true then .inl (c.1 + b, R.wCh ((R.ch.set i (tW c (c.1 + b))).set (i + 1) (tW d (d.1 - b)))) else .inr (.inr (2, d.1 - b))) else .inr (.inr (2, c.1 + b)) := by
  unfold shfO
  rw [if_pos ⟨h1, h2⟩, if_pos h, nI_clamp hi, hc, hd]
theorem inR_idx {n : Int32} {m i : Nat} (hm : m < 2 ^ 31) (hi : i < m) (e : n = nI i) : inR n 0 (nI m - 1) = true := by
  subst e
  obtain ⟨k, rfl⟩ : ∃ k, m = k + 1 := ⟨m - 1, by omega⟩
  rw [nI_pred]
  exact inR_iff.mpr ⟨nI_pos' (by omega), nI_le (by omega) (by omega)⟩
theorem kv_X2_228 : LkV RX2 228 yX2_channel 1 := ⟨q2102, q1629, q1630, q74, by decide +kernel, by decide +kernel, by decide +kernel⟩
theorem ks_X2_253 : LkNS RX2 253 yX1_require 1 := ⟨⟨_, q2103⟩, q1683, q73, by decide +kernel, by decide +kernel, by decide +kernel⟩
theorem ks_X2_231 : LkS RX2 231 yX2_allowWidth 1 := ⟨q2104, q2105, q74, by decide +kernel, by decide +kernel, by decide +kernel⟩
theorem kv_X2_237 : LkV RX2 237 yX6_as 1 := ⟨q2107, q2108, q2109, q93, by decide +kernel, by decide +kernel, by decide +kernel⟩
theorem kf_X2_166_J2 : LkF RX2 166 RJ2 ⟨"java/util/List", "set", "(ILjava/lang/Object;)Ljava/lang/Object;"⟩ yJ2_set 2 := ⟨q1922, q1925, q1927, q77, ⟨by decide +kernel, by decide +kernel, by decide +kernel⟩, q1924, q1923, q1928, q1926, q413⟩
set_option maxHeartbeats 4000000 in
set_option maxRecDepth 100000 in
theorem sp_X2_shift {l : Launch} {s0 : State} {D : va_G} {I : AI} {L : AL} {dE ca : Nat} {ad : Nat → Nat} {r : Nat} {R : Rv} {A : RA} (hΓ : Gam l s0 D) (hZ : Std s0 D dE ca ad) (h : RvO dE I L r R A) {n b : Int32} : Spc l s0 D yX2_shift 9 [.ref r, .int n, .int b] I L 7 40 (pO dE (shfO R n b) r A L) (xO (shfO R n b) L) := by
  refine Spc.of hΓ cX2_shift 7 (some FieldType.int) q2101 (by decide +kernel) (by decide) (Nat.le_of_ble_eq_true rfl) (fun G GX hG => ?_)
  refine hG.peek h.h0 (fun J9 S9 _ hli => ?_)
  have hl10 : A.xs.length ≤ 10 := hli.1
  have hll := h.e0.len
  · refine hG.aload_n dX2_shift_0 rfl ?_
    refine hG.iload_n dX2_shift_1 rfl ?_
    refine hG.callV dX2_shift_2 kv_X2_228 (Rcv.raw h.h cl_X2) (sp_X2_channel hΓ hZ h) rfl rfl (Nat.le_of_ble_eq_true rfl) (by decide) (by omega) (by omega) (fun r2 I2 L2 hI2 h2 => ?_) (fun E q I' L' hI ⟨e1, e2, e3⟩ => hG.out (by simp) ⟨e3, Or.inl ⟨_, shf_a e2, e1⟩⟩ (by omega) (by omega) trivial)
    obtain ⟨rfl, rfl, i, c, x, rfl, hc, rfl, hxc⟩ := h2
    have hil : i < R.ch.length := (List.getElem?_eq_some_iff.mp hc).1
    have hb1 := inR_idx (n := nI i) (by omega) hil rfl
    refine hG.astore_n dX2_shift_5 (by decide) ?_
    refine hG.aload_n dX2_shift_6 rfl ?_
    refine hG.iload_n dX2_shift_7 rfl ?_
    refine hG.iconst (v := 1) dX2_shift_8 rfl ?_
    refine hG.iadd dX2_shift_9 ?_
    refine hG.callV dX2_shift_10 kv_X2_228 (Rcv.raw h.h cl_X2) (sp_X2_channel hΓ hZ h) rfl rfl (Nat.le_of_ble_eq_true rfl) (by decide) (by omega) (by omega) (fun r10 I10 L10 hI10 h10 => ?_) (fun E q I' L' hI ⟨e1, e2, e3⟩ => hG.out (by simp) ⟨e3, Or.inl ⟨_, shf_b e2, e1⟩⟩ (by omega) (by omega) trivial)
    obtain ⟨rfl, rfl, i2, d, y, hi2, hd, rfl, hyc⟩ := h10
    have hil2 : i2 < R.ch.length := (List.getElem?_eq_some_iff.mp hd).1
    have e9 : i2 = i + 1 := by
      rw [nI_1] at hi2
      exact ((nI_eq (by omega) (by omega)).mp hi2).symm
    subst e9
    have hb2 := inR_idx (n := nI i + 1) (by omega) hil2 (nI_1 i)
    refine hG.astore dX2_shift_13 (by decide) ?_
    refine hG.iload_n dX2_shift_15 rfl ?_
    refine hG.bipush (v := -99) dX2_shift_16 rfl ?_
    refine hG.bipush (v := 99) dX2_shift_18 rfl ?_
    refine hG.callNS dX2_shift_20 ks_X2_100 (sp_X1_inRange hΓ) rfl rfl (Nat.le_of_ble_eq_true rfl) (by decide) (by omega) (by omega) (fun r20 I20 L20 hI20 h20 => ?_) (fun _ _ _ _ _ h => h.elim)
    obtain ⟨rfl, rfl, rfl⟩ := h20
    refine hG.callNS dX2_shift_23 ks_X2_253 (sp_X1_require hΓ) rfl rfl (Nat.le_of_ble_eq_true rfl) (by decide) (by omega) (by omega) (fun r23 I23 L23 hI23 h23 => ?_) (fun E q I' L' hI ⟨e1, e2, e3⟩ => hG.out (by simp) ⟨e3, Or.inl ⟨_, shf_c hb1 hb2 e2, e1⟩⟩ (by omega) (by omega) trivial)
    obtain ⟨rfl, hb3, rfl, rfl⟩ := h23
    have ho := shf_d (b := b) (by omega) hb1 hb2 hb3 hc hd
    refine hG.aload_n dX2_shift_26 rfl ?_
    refine hG.get dX2_shift_27 fg_X2_234_X6 (Or.inr hxc) rfl ?_
    refine hG.iload_n dX2_shift_30 rfl ?_
    refine hG.iadd dX2_shift_31 ?_
    refine hG.callS dX2_shift_32 ks_X2_231 (sp_X2_allowWidth hΓ) rfl rfl (Nat.le_of_ble_eq_true rfl) (by decide) (by omega) (by omega) (fun r32 I32 L32 hI32 h32 => ?_) (fun E q I' L' hI ⟨e1, e2, e3, e4⟩ => hG.out (by simp) ⟨e3, Or.inr ⟨_, ho.trans (if_neg (bFT e2)), e1, e4⟩⟩ (by omega) (by omega) trivial)
    obtain ⟨rfl, hb4, rfl, rfl⟩ := h32
    rw [if_pos hb4] at ho
    refine hG.aload dX2_shift_35 rfl ?_
    refine hG.get dX2_shift_37 fg_X2_234_X6 (Or.inr hyc) rfl ?_
    refine hG.iload_n dX2_shift_40 rfl ?_
    refine hG.isub dX2_shift_41 ?_
    refine hG.callS dX2_shift_42 ks_X2_231 (sp_X2_allowWidth hΓ) rfl rfl (Nat.le_of_ble_eq_true rfl) (by decide) (by omega) (by omega) (fun r42 I42 L42 hI42 h42 => ?_) (fun E q I' L' hI ⟨e1, e2, e3, e4⟩ => hG.out (by simp) ⟨e3, Or.inr ⟨_, ho.trans (if_neg (bFT e2)), e1, e4⟩⟩ (by omega) (by omega) trivial)
    obtain ⟨rfl, hb5, rfl, rfl⟩ := h42
    rw [if_pos hb5] at ho
    obtain ⟨x0, hx0, hx0c⟩ := h.e0.get hc
    obtain ⟨y0, hy0, hy0c⟩ := h.e0.get hd
    refine hG.aload_n dX2_shift_45 rfl ?_
    refine hG.get dX2_shift_46 fg_X2_12_X2 (Or.inl h.h) rfl ?_
    refine hG.iload_n dX2_shift_49 rfl ?_
    refine hG.aload_n dX2_shift_50 rfl ?_
    refine hG.aload_n dX2_shift_51 rfl ?_
    refine hG.get dX2_shift_52 fg_X2_234_X6 (Or.inr hxc) rfl ?_
    refine hG.iload_n dX2_shift_55 rfl ?_
    refine hG.iadd dX2_shift_56 ?_
    refine hG.callV dX2_shift_57 kv_X2_237 (Rcv.imm hxc cl_X6) (sp_X6_as hΓ hxc) rfl rfl (Nat.le_of_ble_eq_true rfl) (by decide) (by omega) (by omega) (fun r57 I57 L57 hI57 h57 => ?_) (fun _ _ _ _ _ h => h.elim)
    obtain ⟨rfl, x1, rfl, hx1⟩ := h57
    have hm := h.mono hI57 (fun _ _ _ hx => hx)
    refine hG.callF dX2_shift_60 kf_X2_166_J2 (Rcv.li hm.h0) cl_J2 (sp_J2_set hΓ (elt_of hx1 cl_X6 q3692) hm.h0 hx0) rfl rfl (Nat.le_of_ble_eq_true rfl) (by decide) (by omega) (by omega) (fun r60 I60 L60 hI60 h60 => ?_) (fun _ _ _ _ _ h => h.elim)
    obtain ⟨rfl, rfl, rfl⟩ := h60
    have h2 := hm.sCh (m := A.m0) (hm.e0.set (i := i) hx1)
    have hy1 : (A.xs.set i x1)[i + 1]? = some y0 := by rw [List.getElem?_set_ne (by omega)]; exact hy0
    refine hG.castS dX2_shift_65 q556 (Rcv.imm (hI57 _ _ hx0c) cl_X6) cl_X6 ?_
    refine hG.astore dX2_shift_68 (by decide) ?_
    refine hG.aload_n dX2_shift_70 rfl ?_
    refine hG.get dX2_shift_71 fg_X2_12_X2 (Or.inl h2.h) rfl ?_
    refine hG.iload_n dX2_shift_74 rfl ?_
    refine hG.iconst (v := 1) dX2_shift_75 rfl ?_
    refine hG.iadd dX2_shift_76 ?_
    rw [nI_1]
    refine hG.aload dX2_shift_77 rfl ?_
    refine hG.aload dX2_shift_79 rfl ?_
    refine hG.get dX2_shift_81 fg_X2_234_X6 (Or.inr (hI57 _ _ hyc)) rfl ?_
    refine hG.iload_n dX2_shift_84 rfl ?_
    refine hG.isub dX2_shift_85 ?_
    refine hG.callV dX2_shift_86 kv_X2_237 (Rcv.imm (hI57 _ _ hyc) cl_X6) (sp_X6_as hΓ (hI57 _ _ hyc)) rfl rfl (Nat.le_of_ble_eq_true rfl) (by decide) (by omega) (by omega) (fun r86 I86 L86 hI86 h86 => ?_) (fun _ _ _ _ _ h => h.elim)
    obtain ⟨rfl, y1, rfl, hy1c⟩ := h86
    have hm2 := h2.mono hI86 (fun _ _ _ hx => hx)
    refine hG.callF dX2_shift_89 kf_X2_166_J2 (Rcv.li hm2.h0) cl_J2 (sp_J2_set (i := i + 1) hΓ (elt_of hy1c cl_X6 q3692) hm2.h0 hy1) rfl rfl (Nat.le_of_ble_eq_true rfl) (by decide) (by omega) (by omega) (fun r89 I89 L89 hI89 h89 => ?_) (fun _ _ _ _ _ h => h.elim)
    obtain ⟨rfl, rfl, rfl⟩ := h89
    have h3 := hm2.sCh (m := A.m0) (hm2.e0.set (i := i + 1) hy1c)
    refine hG.castS dX2_shift_94 q556 (Rcv.imm (hI86 _ _ (hI57 _ _ hy0c)) cl_X6) cl_X6 ?_
    refine hG.astore dX2_shift_97 (by decide) ?_
    refine hG.aload_n dX2_shift_99 rfl ?_
    refine hG.get dX2_shift_100 fg_X2_234_X6 (Or.inr (hI86 _ _ (hI57 _ _ hxc))) rfl ?_
    refine hG.iload_n dX2_shift_103 rfl ?_
    refine hG.iadd dX2_shift_104 ?_
    refine hG.iret dX2_shift_105 rfl ?_ (by omega) (by omega) trivial
    exact ⟨_, _, _, ho, rfl, h3, (h.f_a0 _).tr (h2.f_a0 _)⟩
