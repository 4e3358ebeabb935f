/-! the iterator of an ArrayList -/
theorem opL_frm {L M : AL} {dE a arr : Nat} {xs : List Nat} (hor : (xs = [] ∧ arr = dE ∧ Frm L a [a] M) ∨ (arr ≠ a ∧ ∃ f : Nat → Option Nat, M arr = some (.inl (arQ OBJ 10 f)) ∧ (∀ i, i < xs.length → f i = xs[i]?) ∧ Frm L a [a, arr] M)) : Frm L a [a] M := by
  rcases hor with ⟨-, -, h⟩ | ⟨-, f, -, -, h⟩
  · exact h
  · exact h.wk (by simp)
/-- the opened list's shape, kept by a change at another cell -/
def OpL (L : AL) (dE a arr : Nat) (xs : List Nat) (M : AL) : Prop := (xs = [] ∧ arr = dE ∧ Frm L a [a] M) ∨ (arr ≠ a ∧ ∃ f : Nat → Option Nat, M arr = some (.inl (arQ OBJ 10 f)) ∧ (∀ i, i < xs.length → f i = xs[i]?) ∧ Frm L a [a, arr] M)
theorem Frm.out {L M : AL} {a : Nat} {N : List Nat} (h : Frm L a N M) {q : Nat} {x : Cel} (hq : L q = some x) (hqa : q ≠ a) (c : Option Cel) : Frm (up1 L q c) a N (up1 M q c) := fun z y hz hza => by
  by_cases e : z = q
  · subst e
    rw [up1_s] at hz ⊢
    exact ⟨(h z x hq hqa).1, hz⟩
  · rw [up1_n e] at hz ⊢
    exact h z y hz hza
/-- a closed list is an ArrayList -/
theorem Rcv.li {s0 : State} {D : va_G} {I : AI} {L : AL} {dE a : Nat} {mo : Int32} {xs : List Nat} (h : L a = some (liC dE mo xs)) : Rcv s0 D I L a "java/util/ArrayList" := by
  intro H hS
  obtain ⟨J, S, h1, h2, h3, h4, h5⟩ := hS.op h
  obtain ⟨-, arr, k1, -⟩ := h2
  exact Rcv.raw (ovl_in k1) cl_J2 H h5
theorem OpL.out {L M : AL} {dE a arr : Nat} {xs : List Nat} (h : OpL L dE a arr xs M) {q : Nat} {x : Cel} (hq : L q = some x) (hqa : q ≠ a) (c : Option Cel) : OpL (up1 L q c) dE a arr xs (up1 M q c) := by
  rcases h with ⟨h1, h2, h3⟩ | ⟨h1, f, h2, h3, h4⟩
  · exact Or.inl ⟨h1, h2, h3.out hq hqa c⟩
  · have hqr : q ≠ arr := fun e => (h4 q x hq hqa).1 (by simp [e])
    exact Or.inr ⟨h1, f, by rw [up1_n hqr.symm]; exact h2, h3, h4.out hq hqa c⟩
theorem cls_J15 : CLs ciJ15 RJ15 TJ15 4 tyJ15 := ⟨rfl, in_J15, tyJ15_ok, nmJ15⟩
theorem fp_J15_1_J15 : LkP RJ15 "<init>" 1 ciJ15 3 (tyJ15 3) := ⟨RJ15, TJ15, 4, tyJ15, _, cls_J15, by decide, rfl, Or.inl rfl, Or.inr (Or.inr ⟨rfl, rfl, rfl, q428⟩)⟩
theorem fp_J15_13_J15 {nm : String} : LkP RJ15 nm 13 ciJ15 1 (tyJ15 1) := ⟨RJ15, TJ15, 4, tyJ15, _, cls_J15, by decide, rfl, Or.inl rfl, Or.inl ⟨rfl, q426⟩⟩
theorem fg_J15_1_J15 : LkG RJ15 1 ciJ15 3 := ⟨RJ15, TJ15, 4, tyJ15, _, cls_J15, by decide, Or.inl rfl, Or.inl q428⟩
theorem fg_J15_17_J2 : LkG RJ15 17 ciJ2 0 := ⟨RJ2, TJ2, 3, tyJ2, _, cls_J2, by decide, Or.inr q178, Or.inl q177⟩
theorem fp_J15_22_J15 {nm : String} : LkP RJ15 nm 22 ciJ15 2 (tyJ15 2) := ⟨RJ15, TJ15, 4, tyJ15, _, cls_J15, by decide, rfl, Or.inl rfl, Or.inl ⟨rfl, q427⟩⟩
set_option maxHeartbeats 4000000 in
set_option maxRecDepth 100000 in
theorem sp_J15_init {l : Launch} {s0 : State} {D : va_G} {I : AI} {L : AL} {dE : Nat} {mo : Int32} {xs : List Nat} {a q : Nat} (hΓ : Gam l s0 D) {y z w : Value} (h0 : L a = some (liC dE mo xs)) (hq : L q = some (obC ciJ15 [.int 0, y, z, w])) : Spc l s0 D yJ15_init 2 [.ref q, .ref a] I L 0 0 (pU I L q (obC ciJ15 [.int 0, .int (-1), .int mo, .ref a])) noX := by
  refine Spc.of hΓ cJ15_init 2 none q423 (by decide +kernel) (by decide) (Nat.le_of_ble_eq_true rfl) (fun G GX hG => ?_)
  have hqa : q ≠ a := ne_val hq h0 ne_rk
  refine hG.opL h0 (fun arr M h1 h10 hor => ?_)
  have hMq := ((opL_frm hor) q _ hq hqa).2
  refine hG.aload_n dJ15_init_0 rfl ?_
  refine hG.aload_n dJ15_init_1 rfl ?_
  refine hG.put dJ15_init_2 fp_J15_1_J15 hMq rfl rfl (Nat.le_of_ble_eq_true rfl) ?_
  refine hG.aload_n dJ15_init_5 rfl ?_
  refine hG.objI dJ15_init_6 q424 (Nat.le_of_ble_eq_true rfl) (by decide) ?_
  refine hG.aload_n dJ15_init_9 rfl ?_
  refine hG.iconst (v := -1) dJ15_init_10 rfl ?_
  refine hG.put dJ15_init_11 fp_J15_13_J15 up1_s rfl rfl (Nat.le_of_ble_eq_true rfl) ?_
  refine hG.aload_n dJ15_init_14 rfl ?_
  refine hG.aload_n dJ15_init_15 rfl ?_
  refine hG.get dJ15_init_16 fg_J15_1_J15 (Or.inl up1_s) rfl ?_
  refine hG.get dJ15_init_19 fg_J15_17_J2 (Or.inl (by simp only [up1_n hqa.symm]; exact h1)) rfl ?_
  refine hG.put dJ15_init_22 fp_J15_22_J15 up1_s rfl rfl (Nat.le_of_ble_eq_true rfl) ?_
  simp only [up1_up1]
  refine hG.clLs (up1 L q (some (obC ciJ15 [.int 0, .int (-1), .int mo, .ref a]))) ((up1_n hqa.symm).trans h0) (arr := arr) (xs := xs) ((up1_n hqa.symm).trans h1) h10 (OpL.out hor hq hqa _) ?_
  refine hG.vret dJ15_init_25 rfl ?_ (by omega) (by omega) trivial
  exact ⟨rfl, rfl, rfl⟩
theorem fg_J15_22_J15 : LkG RJ15 22 ciJ15 2 := ⟨RJ15, TJ15, 4, tyJ15, _, cls_J15, by decide, Or.inl rfl, Or.inl q427⟩
set_option maxHeartbeats 4000000 in
set_option maxRecDepth 100000 in
theorem sp_J15_check {l : Launch} {s0 : State} {D : va_G} {I : AI} {L : AL} {dE : Nat} {mo : Int32} {xs : List Nat} {a q : Nat} (hΓ : Gam l s0 D) {i : Nat} {lr : Int32} (h0 : L a = some (liC dE mo xs)) (hq : L q = some (obC ciJ15 [.int (nI i), .int lr, .int mo, .ref a])) : Spc l s0 D yJ15_checkForComodification 1 [.ref q] I L 0 0 (p0 I L) noX := by
  refine Spc.of hΓ cJ15_checkForComodification 1 none q466 (by decide +kernel) (by decide) (Nat.le_of_ble_eq_true rfl) (fun G GX hG => ?_)
  have hqa : q ≠ a := ne_val hq h0 ne_rk
  refine hG.opL h0 (fun arr M h1 h10 hor => ?_)
  have hMq := ((opL_frm hor) q _ hq hqa).2
  refine hG.aload_n dJ15_checkForComodification_0 rfl ?_
  refine hG.get dJ15_checkForComodification_1 fg_J15_1_J15 (Or.inl hMq) rfl ?_
  refine hG.get dJ15_checkForComodification_4 fg_J15_17_J2 (Or.inl h1) rfl ?_
  refine hG.aload_n dJ15_checkForComodification_7 rfl ?_
  refine hG.get dJ15_checkForComodification_8 fg_J15_22_J15 (Or.inl hMq) rfl ?_
  refine hG.icmp_eq (tgt := 22) dJ15_checkForComodification_11 rfl (fun c_11 => ?_) (fun c_11 => ?_)
  · refine hG.clLs L h0 h1 h10 hor ?_
    refine hG.vret dJ15_checkForComodification_22 rfl ?_ (by omega) (by omega) trivial
    exact ⟨rfl, rfl, rfl⟩
  · exact absurd rfl c_11
theorem fg_J15_25_J15 : LkG RJ15 25 ciJ15 0 := ⟨RJ15, TJ15, 4, tyJ15, _, cls_J15, by decide, Or.inl rfl, Or.inl q425⟩
theorem fg_J15_28_J2 : LkG RJ15 28 ciJ2 2 := ⟨RJ2, TJ2, 3, tyJ2, _, cls_J2, by decide, Or.inl rfl, Or.inr ⟨_, q174⟩⟩
set_option maxHeartbeats 4000000 in
set_option maxRecDepth 100000 in
theorem sp_J15_hasNext {l : Launch} {s0 : State} {D : va_G} {I : AI} {L : AL} {dE : Nat} {mo : Int32} {xs : List Nat} {a q : Nat} (hΓ : Gam l s0 D) {i : Nat} {lr : Int32} (hi : i ≤ xs.length) (h0 : L a = some (liC dE mo xs)) (hq : L q = some (obC ciJ15 [.int (nI i), .int lr, .int mo, .ref a])) : Spc l s0 D yJ15_hasNext 1 [.ref q] I L 0 0 (pV (.int (b2i (decide (i < xs.length)))) I L) noX := by
  refine Spc.of hΓ cJ15_hasNext 1 (some FieldType.boolean) q447 (by decide +kernel) (by decide) (Nat.le_of_ble_eq_true rfl) (fun G GX hG => ?_)
  have hqa : q ≠ a := ne_val hq h0 ne_rk
  refine hG.opL h0 (fun arr M h1 h10 hor => ?_)
  have hMq := ((opL_frm hor) q _ hq hqa).2
  refine hG.aload_n dJ15_hasNext_0 rfl ?_
  refine hG.get dJ15_hasNext_1 fg_J15_25_J15 (Or.inl hMq) rfl ?_
  refine hG.aload_n dJ15_hasNext_4 rfl ?_
  refine hG.get dJ15_hasNext_5 fg_J15_1_J15 (Or.inl hMq) rfl ?_
  refine hG.get dJ15_hasNext_8 fg_J15_28_J2 (Or.inl h1) rfl ?_
  refine hG.icmp_eq (tgt := 18) dJ15_hasNext_11 rfl (fun c_11 => ?_) (fun c_11 => ?_)
  · refine hG.iconst (v := 0) dJ15_hasNext_18 rfl ?_
    refine hG.clLs L h0 h1 h10 hor ?_
    refine hG.zret dJ15_hasNext_19 rfl rfl ?_ (by omega) (by omega) trivial
    first
    | (have e := (nI_eq (by omega) (by omega)).mp c_11; exact ⟨by simp [b2i, e], rfl, rfl⟩)
    | (have e : i ≠ xs.length := fun e => c_11 (by rw [e]); exact ⟨by simp [b2i, show i < xs.length by omega], rfl, rfl⟩)
  · refine hG.iconst (v := 1) dJ15_hasNext_14 rfl ?_
    refine hG.goto (tgt := 19) dJ15_hasNext_15 rfl ?_
    refine hG.clLs L h0 h1 h10 hor ?_
    refine hG.zret dJ15_hasNext_19 rfl rfl ?_ (by omega) (by omega) trivial
    first
    | (have e := (nI_eq (by omega) (by omega)).mp c_11; exact ⟨by simp [b2i, e], rfl, rfl⟩)
    | (have e : i ≠ xs.length := fun e => c_11 (by rw [e]); exact ⟨by simp [b2i, show i < xs.length by omega], rfl, rfl⟩)
theorem kv_J15_31 : LkV RJ15 31 yJ15_checkForComodification 0 := ⟨q463, q464, q465, q94, by decide +kernel, by decide +kernel, by decide +kernel⟩
theorem fg_J15_37_J2 : LkG RJ15 37 ciJ2 1 := ⟨RJ2, TJ2, 3, tyJ2, _, cls_J2, by decide, Or.inl rfl, Or.inl q173⟩
theorem fp_J15_25_J15 {nm : String} : LkP RJ15 nm 25 ciJ15 0 (tyJ15 0) := ⟨RJ15, TJ15, 4, tyJ15, _, cls_J15, by decide, rfl, Or.inl rfl, Or.inl ⟨rfl, q425⟩⟩
set_option maxHeartbeats 4000000 in
set_option maxRecDepth 100000 in
theorem sp_J15_next {l : Launch} {s0 : State} {D : va_G} {I : AI} {L : AL} {dE : Nat} {mo : Int32} {xs : List Nat} {a q : Nat} (hΓ : Gam l s0 D) {i v : Nat} {lr : Int32} (hi : xs[i]? = some v) (h0 : L a = some (liC dE mo xs)) (hq : L q = some (obC ciJ15 [.int (nI i), .int lr, .int mo, .ref a])) : Spc l s0 D yJ15_next 2 [.ref q] I L 0 0 (pVU (.ref v) I L q (obC ciJ15 [.int (nI (i + 1)), .int (nI i), .int mo, .ref a])) noX := by
  refine Spc.of hΓ cJ15_next 3 (some (FieldType.object "java/lang/Object")) q462 (by decide +kernel) (by decide) (Nat.le_of_ble_eq_true rfl) (fun G GX hG => ?_)
  have hil : i < xs.length := (List.getElem?_eq_some_iff.mp hi).1
  have hqa : q ≠ a := ne_val hq h0 ne_rk
  refine hG.aload_n dJ15_next_0 rfl ?_
  refine hG.callV dJ15_next_1 kv_J15_31 (Rcv.raw hq cl_J15) (sp_J15_check hΓ h0 hq) rfl rfl (Nat.le_of_ble_eq_true rfl) (by decide) (by omega) (by omega) (fun r1 I1 L1 hI1 h1 => ?_) (fun _ _ _ _ _ h => h.elim)
  obtain ⟨rfl, rfl, rfl⟩ := h1
  refine hG.opL h0 (fun arr M h1 h10 hor => ?_)
  have hMq := ((opL_frm hor) q _ hq hqa).2
  rcases hor with ⟨he, -⟩ | ⟨hne, f, h3, h4, h5⟩
  · subst he; exact absurd hil (by simp)
  have hqr : q ≠ arr := fun e => (h5 q _ hq hqa).1 (by simp [e])
  refine hG.aload_n dJ15_next_4 rfl ?_
  refine hG.get dJ15_next_5 fg_J15_25_J15 (Or.inl hMq) rfl ?_
  refine hG.istore_n dJ15_next_8 (by decide) ?_
  refine hG.iload_n dJ15_next_9 rfl ?_
  refine hG.aload_n dJ15_next_10 rfl ?_
  refine hG.get dJ15_next_11 fg_J15_1_J15 (Or.inl hMq) rfl ?_
  refine hG.get dJ15_next_14 fg_J15_28_J2 (Or.inl h1) rfl ?_
  refine hG.icmp_lt (tgt := 28) dJ15_next_17 rfl (fun c_17 => ?_) (fun c_17 => ?_)
  · refine hG.aload_n dJ15_next_28 rfl ?_
    refine hG.get dJ15_next_29 fg_J15_1_J15 (Or.inl hMq) rfl ?_
    refine hG.get dJ15_next_32 fg_J15_37_J2 (Or.inl h1) rfl ?_
    refine hG.astore_n dJ15_next_35 (by decide) ?_
    refine hG.iload_n dJ15_next_36 rfl ?_
    refine hG.aload_n dJ15_next_37 rfl ?_
    refine hG.alen dJ15_next_38 (Or.inl h3) ?_
    refine hG.icmp_lt (tgt := 50) dJ15_next_39 rfl (fun c_39 => ?_) (fun c_39 => ?_)
    · refine hG.aload_n dJ15_next_50 rfl ?_
      refine hG.iload_n dJ15_next_51 rfl ?_
      refine hG.iconst (v := 1) dJ15_next_52 rfl ?_
      refine hG.iadd dJ15_next_53 ?_
      refine hG.put dJ15_next_54 fp_J15_25_J15 hMq rfl rfl (Nat.le_of_ble_eq_true rfl) ?_
      refine hG.aload_n dJ15_next_57 rfl ?_
      refine hG.aload_n dJ15_next_58 rfl ?_
      refine hG.iload_n dJ15_next_59 rfl ?_
      refine hG.dup_x1 dJ15_next_60 rfl rfl ?_
      refine hG.put dJ15_next_61 fp_J15_13_J15 up1_s rfl rfl (Nat.le_of_ble_eq_true rfl) ?_
      rw [show nI i + 1 = nI (i + 1) from nI_1 i]
      refine hG.aald dJ15_next_64 (Or.inl (((up1_n hqr.symm).trans (up1_n hqr.symm)).trans h3)) (vp_in_nI (by omega) (by decide)) ?_
      rw [nI_clamp (by omega), (h4 i hil).trans hi]
      rw [up1_up1]
      refine hG.clLs (up1 L q (some (obC ciJ15 [.int (nI (i + 1)), .int (nI i), .int mo, .ref a]))) ((up1_n hqa.symm).trans h0) (arr := arr) (xs := xs) ((up1_n hqa.symm).trans h1) h10 (OpL.out (Or.inr ⟨hne, f, h3, h4, h5⟩) hq hqa _) ?_
      refine hG.aret dJ15_next_65 rfl (by first | exact Or.inl ⟨_, rfl⟩ | exact Or.inr ⟨_, rfl⟩) (Or.inr ⟨_, rfl⟩) ?_ (by omega) (by omega) trivial
      exact ⟨rfl, rfl, rfl⟩
    · exact absurd (nI_lt (b := 10) (by omega) (by decide)) c_39
  · exact absurd (nI_lt hil (by omega)) c_17
theorem fg_J15_13_J15 : LkG RJ15 13 ciJ15 1 := ⟨RJ15, TJ15, 4, tyJ15, _, cls_J15, by decide, Or.inl rfl, Or.inl q426⟩
theorem kv_J15_47 : LkV RJ15 47 yJ2_remove 1 := ⟨q1954, q1955, q1956, q77, by decide +kernel, by decide +kernel, by decide +kernel⟩
set_option maxHeartbeats 4000000 in
set_option maxRecDepth 100000 in
theorem sp_J15_remove {l : Launch} {s0 : State} {D : va_G} {I : AI} {L : AL} {dE : Nat} {mo : Int32} {xs : List Nat} {a q : Nat} (hΓ : Gam l s0 D) {i v : Nat} (he : ∀ y ∈ xs, Elt s0 D I y) (hi : xs[i]? = some v) (h0 : L a = some (liC dE mo xs)) (hq : L q = some (obC ciJ15 [.int (nI (i + 1)), .int (nI i), .int mo, .ref a])) : SpcW l s0 D yJ15_remove 4 [.ref q] I L 0 0 (pU I (up1 L a (some (liC dE (mo + 1) (xs.eraseIdx i)))) q (obC ciJ15 [.int (nI i), .int (-1), .int (mo + 1), .ref a])) noX := by
  refine SpcW.of hΓ cJ15_remove 2 none [(19, 55, 58, 51)] q1938 (by decide +kernel) (by decide) (Nat.le_of_ble_eq_true rfl) (fun G GX hG => ?_)
  have hil : i < xs.length := (List.getElem?_eq_some_iff.mp hi).1
  have hqa : q ≠ a := ne_val hq h0 ne_rk
  refine hG.peek h0 (fun J S _ hli => ?_)
  have hl10 : xs.length ≤ 10 := hli.1
  refine hG.aload_n dJ15_remove_0 rfl ?_
  refine hG.get dJ15_remove_1 fg_J15_13_J15 (Or.inl hq) rfl ?_
  refine hG.if_ge (tgt := 15) dJ15_remove_4 rfl (fun c_4 => ?_) (fun c_4 => ?_)
  · refine hG.aload_n dJ15_remove_15 rfl ?_
    refine hG.callV dJ15_remove_16 kv_J15_31 (Rcv.raw hq cl_J15) (sp_J15_check hΓ h0 hq) rfl rfl (Nat.le_of_ble_eq_true rfl) (by decide) (by omega) (by omega) (fun r16 I16 L16 hI16 h16 => ?_) (fun _ _ _ _ _ h => h.elim)
    obtain ⟨rfl, rfl, rfl⟩ := h16
    refine hG.aload_n dJ15_remove_19 rfl ?_
    refine hG.get dJ15_remove_20 fg_J15_1_J15 (Or.inl hq) rfl ?_
    refine hG.aload_n dJ15_remove_23 rfl ?_
    refine hG.get dJ15_remove_24 fg_J15_13_J15 (Or.inl hq) rfl ?_
    refine hG.callV dJ15_remove_27 kv_J15_47 (Rcv.li h0) (sp_J2_remove hΓ he h0 hi) rfl rfl (Nat.le_of_ble_eq_true rfl) (by decide) (by omega) (by omega) (fun r27 I27 L27 hI27 h27 => ?_) (fun _ _ _ _ _ h => h.elim)
    obtain ⟨rfl, rfl, rfl⟩ := h27
    refine hG.pop dJ15_remove_30 rfl ?_
    have hq2 : (up1 L a (some (liC dE (mo + 1) (xs.eraseIdx i)))) q = _ := (up1_n hqa).trans hq
    refine hG.aload_n dJ15_remove_31 rfl ?_
    refine hG.aload_n dJ15_remove_32 rfl ?_
    refine hG.get dJ15_remove_33 fg_J15_13_J15 (Or.inl hq2) rfl ?_
    refine hG.put dJ15_remove_36 fp_J15_25_J15 hq2 rfl rfl (Nat.le_of_ble_eq_true rfl) ?_
    refine hG.aload_n dJ15_remove_39 rfl ?_
    refine hG.iconst (v := -1) dJ15_remove_40 rfl ?_
    refine hG.put dJ15_remove_41 fp_J15_13_J15 up1_s rfl rfl (Nat.le_of_ble_eq_true rfl) ?_
    simp only [up1_up1]
    refine hG.opL (a := a) ((up1_n hqa.symm).trans up1_s) (fun arr M h1 h10 hor => ?_)
    have hMq := ((opL_frm hor) q _ up1_s hqa).2
    refine hG.aload_n dJ15_remove_44 rfl ?_
    refine hG.aload_n dJ15_remove_45 rfl ?_
    refine hG.get dJ15_remove_46 fg_J15_1_J15 (Or.inl hMq) rfl ?_
    refine hG.get dJ15_remove_49 fg_J15_17_J2 (Or.inl h1) rfl ?_
    refine hG.put dJ15_remove_52 fp_J15_22_J15 hMq rfl rfl (Nat.le_of_ble_eq_true rfl) ?_
    refine hG.goto (tgt := 67) dJ15_remove_55 rfl ?_
    refine hG.clLs (up1 (up1 (up1 L a (some (liC dE (mo + 1) (xs.eraseIdx i)))) q _) q _) ((up1_n hqa.symm).trans ((up1_n hqa.symm).trans up1_s)) (arr := arr) ((up1_n hqa.symm).trans h1) h10 (OpL.out hor up1_s hqa _) ?_
    refine hG.vret dJ15_remove_67 rfl ?_ (by omega) (by omega) trivial
    exact ⟨rfl, rfl, by simp only [up1_up1]; rfl⟩
  · exact absurd (nI_pos' (by omega)) c_4
theorem nw_J2_267 : LkN RJ2 267 ciJ15 [.int 0, .int 0, .int 0, .null] 4 := ⟨RJ15, TJ15, tyJ15, cls_J15, q419, q420, q94, rfl, fun j hj => by
  match j, hj with
  | 0, _ => rfl
  | 1, _ => rfl
  | 2, _ => rfl
  | 3, _ => rfl
  | _ + 4, h => exact absurd h (by omega)⟩
theorem ki_J2_269 : LkI RJ2 269 yJ15_init 1 := ⟨q421, q422, q94, rfl, ⟨by decide +kernel, by decide +kernel, by decide +kernel⟩, by decide +kernel⟩
set_option maxHeartbeats 4000000 in
set_option maxRecDepth 100000 in
theorem sp_J2_iterator {l : Launch} {s0 : State} {D : va_G} {I : AI} {L : AL} {dE : Nat} {mo : Int32} {xs : List Nat} {a : Nat} (hΓ : Gam l s0 D) (h0 : L a = some (liC dE mo xs)) : Spc l s0 D yJ2_iterator 3 [.ref a] I L 1 4 (fun r I' L' => I = I' ∧ ∃ q, q ≠ a ∧ L q = none ∧ r = some (.ref q) ∧ L' = up1 L q (some (obC ciJ15 [.int 0, .int (-1), .int mo, .ref a]))) noX := by
  refine Spc.of hΓ cJ2_iterator 1 (some (FieldType.object "java/util/Iterator")) q418 (by decide +kernel) (by decide) (Nat.le_of_ble_eq_true rfl) (fun G GX hG => ?_)
  refine hG.new dJ2_iterator_0 nw_J2_267 (by omega) (by omega) (fun q hLq hIq => ?_)
  have hqa : q ≠ a := fun e => by subst e; rw [hLq] at h0; cases h0
  refine hG.dup dJ2_iterator_3 rfl ?_
  refine hG.aload_n dJ2_iterator_4 rfl ?_
  refine hG.callI dJ2_iterator_5 ki_J2_269 (sp_J15_init hΓ ((up1_n hqa.symm).trans h0) up1_s) rfl rfl (Nat.le_of_ble_eq_true rfl) (by decide) (by omega) (by omega) (fun r5 I5 L5 hI5 h5 => ?_) (fun _ _ _ _ _ h => h.elim)
  obtain ⟨rfl, rfl, rfl⟩ := h5
  refine hG.aret dJ2_iterator_8 rfl (by first | exact Or.inl ⟨_, rfl⟩ | exact Or.inr ⟨_, rfl⟩) (Or.inr ⟨_, rfl⟩) ?_ (by omega) (by omega) trivial
  exact ⟨rfl, q, hqa, hLq, rfl, by rw [up1_up1]⟩
