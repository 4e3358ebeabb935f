/-! java.util.ArrayList of at most ten: one cell -/
abbrev OBJ : String := "java/lang/Object"
def liΦ (dE : Nat) (mc : Int32) (xs : List Nat) : AI → Nat → AL → Prop := fun _ a S => xs.length ≤ 10 ∧ ∃ arr : Nat, S a = some (obC ciJ2 [.int mc, .ref arr, .int (nI xs.length)]) ∧ ((xs = [] ∧ arr = dE) ∨ (arr ≠ a ∧ ∃ f : Nat → Option Nat, S arr = some (.inl (arQ OBJ 10 f)) ∧ ∀ i, i < xs.length → f i = xs[i]?))
abbrev liC (dE : Nat) (mc : Int32) (xs : List Nat) : Cel := cel 1 (liΦ dE mc xs)
/-- the static empty array of the lists -/
def StE (s0 : State) (D : va_G) (dE : Nat) : Prop := va_Z "java/util/ArrayList" "DEFAULTCAPACITY_EMPTY_ELEMENTDATA" "[Ljava/lang/Object;" (.ref dE) (Are s0) s0 s0.heap ∧ Sta s0 D dE (arQ OBJ 0 (fun _ => none)) ∧ dE < s0.heap.size
/-- elements: of classes that go into an Object[] -/
def Elt (s0 : State) (D : va_G) (I : AI) (v : Nat) : Prop := ∃ C, (∀ M, Rcv s0 D I M v C) ∧ Cond.castable C OBJ ∈ lw_tbl
theorem Sat.ge {s0 : State} {D : va_G} {I : AI} {L : AL} {H : Heap} (h : Sat s0 D I L H) {a : Nat} {e : E1} (ha : L a = some (.inl e)) : s0.heap.size ≤ a := by
  obtain ⟨ws, tys, v, p, hp, -, -, hD, -⟩ := h.wr ha
  exact hD.2 p _ hp
section AL
variable {l : Launch} {s0 : State} {D : va_G} {own nm : String} {cc : ByteArray} {nL : Nat} {ret : Option FieldType} {tab : List ExceptionTableEntry} {d mc ms : Nat} {Ib : AI} {post : Option Value → AI → AL → Prop} {xp : String → Nat → AI → AL → Prop} {md : Prop} {G : Gt} {GX : GXt}
variable {pc : Nat} {ls : List (Nat × Value)} {st : List Value} {I : AI} {L : AL} {k n : Nat}
theorem IsG.ge (hG : IsG l s0 D own nm cc nL ret tab d mc ms Ib post xp md G GX) {a : Nat} {e1 : E1} (ha : L a = some (.inl e1)) (kk : s0.heap.size ≤ a → G pc ls st I L k n) : G pc ls st I L k n := by
  obtain ⟨p, e, s, m, args, below, meth, c, R, Q, hΓ, hx, hb, hr, hml, hown, hts, hlk, hnm, hW, htab, hF, hR, hmd, rfl, rfl⟩ := hG
  intro H locs lsA hl hS hV hI
  exact kk (hS.ge ha) H locs lsA hl hS hV hI
theorem IsG.opL (hG : IsG l s0 D own nm cc nL ret tab d mc ms Ib post xp md G GX) {dE a : Nat} {mo : Int32} {xs : List Nat} (ha : L a = some (liC dE mo xs)) (kk : ∀ (arr : Nat) (M : AL), M a = some (obC ciJ2 [.int mo, .ref arr, .int (nI xs.length)]) → xs.length ≤ 10 → ((xs = [] ∧ arr = dE ∧ Frm L a [a] M) ∨ (arr ≠ a ∧ ∃ f : Nat → Option Nat, M arr = some (.inl (arQ OBJ 10 f)) ∧ (∀ i, i < xs.length → f i = xs[i]?) ∧ Frm L a [a, arr] M)) → G pc ls st I M k n) : G pc ls st I L k n := by
  refine hG.opn ha (fun J S M hJ hΦ h1 h2 => ?_)
  obtain ⟨h10, arr, ha9, h⟩ := hΦ
  refine kk arr M (h1 _ _ ha9) h10 ?_
  rcases h with ⟨h3, h4⟩ | ⟨h3, f, h4, h5⟩
  · exact Or.inl ⟨h3, h4, frm_of [a] (fun q hq hqa => absurd (List.mem_singleton.mp hq) hqa) h2⟩
  · refine Or.inr ⟨h3, f, h1 _ _ h4, h5, frm_of [a, arr] (fun q hq hqa => ?_) h2⟩
    rcases List.mem_cons.mp hq with e | e
    · exact absurd e hqa
    · rw [List.mem_singleton.mp e, h4]; exact (fun h => nomatch h)
theorem IsG.clL (hG : IsG l s0 D own nm cc nL ret tab d mc ms Ib post xp md G GX) {dE a arr : Nat} {mo : Int32} {xs : List Nat} {M : AL} {f : Nat → Option Nat} (L : AL) (hfr : Frm L a [a, arr] M) (h1 : M a = some (obC ciJ2 [.int mo, .ref arr, .int (nI xs.length)])) (h10 : xs.length ≤ 10) (h2 : arr ≠ a) (h3 : M arr = some (.inl (arQ OBJ 10 f))) (h4 : ∀ i, i < xs.length → f i = xs[i]?) (kk : G pc ls st I (up1 L a (some (liC dE mo xs))) k n) : G pc ls st I M k n :=
  hG.clz 1 L [a, arr] hfr (by simp) (by rw [h1]; exact (fun h => nomatch h)) ⟨h10, arr, rst_at (by simp) h1, Or.inr ⟨h2, f, rst_at (by simp) h3, h4⟩⟩ kk
theorem IsG.clL0 (hG : IsG l s0 D own nm cc nL ret tab d mc ms Ib post xp md G GX) {dE a : Nat} {mo : Int32} {M : AL} (L : AL) (hfr : Frm L a [a] M) (h1 : M a = some (obC ciJ2 [.int mo, .ref dE, .int 0])) (kk : G pc ls st I (up1 L a (some (liC dE mo []))) k n) : G pc ls st I M k n :=
  hG.clz 1 L [a] hfr (by simp) (by rw [h1]; exact (fun h => nomatch h)) ⟨by simp, dE, rst_at (by simp) h1, Or.inl ⟨rfl, rfl⟩⟩ kk
/-- as it was -/
theorem IsG.clLs (hG : IsG l s0 D own nm cc nL ret tab d mc ms Ib post xp md G GX) {dE a arr : Nat} {mo : Int32} {xs : List Nat} {M : AL} (L : AL) (ha : L a = some (liC dE mo xs)) (h1 : M a = some (obC ciJ2 [.int mo, .ref arr, .int (nI xs.length)])) (h10 : xs.length ≤ 10) (h : (xs = [] ∧ arr = dE ∧ Frm L a [a] M) ∨ (arr ≠ a ∧ ∃ f : Nat → Option Nat, M arr = some (.inl (arQ OBJ 10 f)) ∧ (∀ i, i < xs.length → f i = xs[i]?) ∧ Frm L a [a, arr] M)) (kk : G pc ls st I L k n) : G pc ls st I M k n := by
  have e : up1 L a (some (liC dE mo xs)) = L := by rw [← ha]; exact up1_self
  rcases h with ⟨rfl, rfl, h4⟩ | ⟨h3, f, h4, h5, h6⟩
  · exact hG.clL0 L h4 h1 (by rw [e]; exact kk)
  · exact hG.clL L h6 h1 h10 h3 h4 h5 (by rw [e]; exact kk)
end AL

set_option maxHeartbeats 4000000 in
set_option maxRecDepth 100000 in
theorem sp_J0_init {l : Launch} {s0 : State} {D : va_G} {I : AI} {L : AL} (hΓ : Gam l s0 D) {a : Nat} : Spc l s0 D yJ0_init 2 [.ref a] I L 0 0 (p0 I L) noX := by
  refine Spc.of hΓ cJ0_init 1 none q168 (by decide +kernel) (by decide) (Nat.le_of_ble_eq_true rfl) (fun G GX hG => ?_)
  refine hG.aload_n dJ0_init_0 rfl ?_
  refine hG.objI dJ0_init_1 q169 (Nat.le_of_ble_eq_true rfl) (by decide) ?_
  refine hG.vret dJ0_init_4 rfl ?_ (by omega) (by omega) trivial
  exact ⟨rfl, rfl, rfl⟩
theorem cls_J2 : CLs ciJ2 RJ2 TJ2 3 tyJ2 := ⟨rfl, in_J2, tyJ2_ok, nmJ2⟩
theorem ki_J1_1 : LkI RJ1 1 yJ0_init 0 := ⟨q166, q167, q75, rfl, ⟨by decide +kernel, by decide +kernel, by decide +kernel⟩, by decide +kernel⟩
theorem fp_J1_7_J2 {nm : String} : LkP RJ1 nm 7 ciJ2 0 (tyJ2 0) := ⟨RJ2, TJ2, 3, tyJ2, _, cls_J2, by decide, rfl, Or.inl rfl, Or.inl ⟨rfl, q176⟩⟩
set_option maxHeartbeats 4000000 in
set_option maxRecDepth 100000 in
theorem sp_J1_init {l : Launch} {s0 : State} {D : va_G} {I : AI} {L : AL} (hΓ : Gam l s0 D) {a : Nat} {x y z : Value} (h0 : L a = some (obC ciJ2 [x, y, z])) : Spc l s0 D yJ1_init 3 [.ref a] I L 0 0 (pU I L a (obC ciJ2 [.int 0, y, z])) noX := by
  refine Spc.of hΓ cJ1_init 1 none q165 (by decide +kernel) (by decide) (Nat.le_of_ble_eq_true rfl) (fun G GX hG => ?_)
  refine hG.aload_n dJ1_init_0 rfl ?_
  refine hG.callI dJ1_init_1 ki_J1_1 (sp_J0_init hΓ) rfl rfl (Nat.le_of_ble_eq_true rfl) (by decide) (by omega) (by omega) (fun r1 I1 L1 hI1 h1 => ?_) (fun _ _ _ _ _ h => h.elim)
  obtain ⟨rfl, rfl, rfl⟩ := h1
  refine hG.aload_n dJ1_init_4 rfl ?_
  refine hG.iconst (v := 0) dJ1_init_5 rfl ?_
  refine hG.put dJ1_init_6 fp_J1_7_J2 h0 rfl rfl (Nat.le_of_ble_eq_true rfl) ?_
  refine hG.vret dJ1_init_9 rfl ?_ (by omega) (by omega) trivial
  exact ⟨rfl, rfl, rfl⟩
theorem ki_J2_1 : LkI RJ2 1 yJ1_init 0 := ⟨q163, q164, q76, rfl, ⟨by decide +kernel, by decide +kernel, by decide +kernel⟩, by decide +kernel⟩
theorem fp_J2_9_J2 {nm : String} : LkP RJ2 nm 9 ciJ2 1 (tyJ2 1) := ⟨RJ2, TJ2, 3, tyJ2, _, cls_J2, by decide, rfl, Or.inl rfl, Or.inl ⟨rfl, q172⟩⟩
set_option maxHeartbeats 4000000 in
set_option maxRecDepth 100000 in
theorem sp_J2_init {l : Launch} {s0 : State} {D : va_G} {I : AI} {L : AL} {dE : Nat} {mo : Int32} {xs : List Nat} {a : Nat} (hΓ : Gam l s0 D) (hE : StE s0 D dE) (h0 : L a = some (obC ciJ2 [.int 0, .null, .int 0])) : Spc l s0 D yJ2_init 4 [.ref a] I L 0 0 (pU I L a (liC dE 0 [])) noX := by
  refine Spc.of hΓ cJ2_init 1 none q162 (by decide +kernel) (by decide) (Nat.le_of_ble_eq_true rfl) (fun G GX hG => ?_)
  refine hG.aload_n dJ2_init_0 rfl ?_
  refine hG.callI dJ2_init_1 ki_J2_1 (sp_J1_init hΓ h0) rfl rfl (Nat.le_of_ble_eq_true rfl) (by decide) (by omega) (by omega) (fun r1 I1 L1 hI1 h1 => ?_) (fun _ _ _ _ _ h => h.elim)
  obtain ⟨rfl, rfl, rfl⟩ := h1
  refine hG.aload_n dJ2_init_4 rfl ?_
  refine hG.gets dJ2_init_5 hE.1 q170 (Or.inl rfl) ?_
  refine hG.put dJ2_init_8 fp_J2_9_J2 up1_s rfl rfl (Nat.le_of_ble_eq_true rfl) ?_
  refine hG.clL0 (dE := dE) (mo := 0) L (a := a) (M := _) ((Frm.up (N := [a]) (fun q x hq hqa => ⟨by simpa using hqa, by rw [up1_n hqa]; exact hq⟩) (by simp) _)) up1_s ?_
  refine hG.vret dJ2_init_11 rfl ?_ (by omega) (by omega) trivial
  exact ⟨rfl, rfl, rfl⟩
set_option maxHeartbeats 4000000 in
set_option maxRecDepth 100000 in
theorem sp_J27_checkIndex {l : Launch} {s0 : State} {D : va_G} {I : AI} {L : AL} (hΓ : Gam l s0 D) {i m : Nat} (hi : i < m) (hm : m < 2 ^ 31) : Spc l s0 D yJ27_checkIndex 1 [.int (nI i), .int (nI m), .null] I L 0 0 (pV (.int (nI i)) I L) noX := by
  refine Spc.of hΓ cJ27_checkIndex 3 (some FieldType.int) q1676 (by decide +kernel) (by decide) (Nat.le_of_ble_eq_true rfl) (fun G GX hG => ?_)
  refine hG.iload_n dJ27_checkIndex_0 rfl ?_
  refine hG.if_lt (tgt := 9) dJ27_checkIndex_1 rfl (fun c_1 => ?_) (fun c_1 => ?_)
  · first | exact absurd c_1 (nI_pos (by omega)) | exact absurd (nI_lt hi hm) c_6
  · refine hG.iload_n dJ27_checkIndex_4 rfl ?_
    refine hG.iload_n dJ27_checkIndex_5 rfl ?_
    refine hG.icmp_lt (tgt := 16) dJ27_checkIndex_6 rfl (fun c_6 => ?_) (fun c_6 => ?_)
    · refine hG.iload_n dJ27_checkIndex_16 rfl ?_
      refine hG.iret dJ27_checkIndex_17 rfl ?_ (by omega) (by omega) trivial
      exact ⟨rfl, rfl, rfl⟩
    · first | exact absurd c_1 (nI_pos (by omega)) | exact absurd (nI_lt hi hm) c_6
theorem ks_J34_105 : LkS RJ34 105 yJ27_checkIndex 3 := ⟨q1674, q1675, q107, by decide +kernel, by decide +kernel, by decide +kernel⟩
set_option maxHeartbeats 4000000 in
set_option maxRecDepth 100000 in
theorem sp_J34_checkIndex {l : Launch} {s0 : State} {D : va_G} {I : AI} {L : AL} (hΓ : Gam l s0 D) {i m : Nat} (hi : i < m) (hm : m < 2 ^ 31) : Spc l s0 D yJ34_checkIndex 2 [.int (nI i), .int (nI m)] I L 0 0 (pV (.int (nI i)) I L) noX := by
  refine Spc.of hΓ cJ34_checkIndex 2 (some FieldType.int) q1673 (by decide +kernel) (by decide) (Nat.le_of_ble_eq_true rfl) (fun G GX hG => ?_)
  refine hG.iload_n dJ34_checkIndex_0 rfl ?_
  refine hG.iload_n dJ34_checkIndex_1 rfl ?_
  refine hG.null dJ34_checkIndex_2 ?_
  refine hG.callS dJ34_checkIndex_3 ks_J34_105 (sp_J27_checkIndex hΓ hi hm) rfl rfl (Nat.le_of_ble_eq_true rfl) (by decide) (by omega) (by omega) (fun r3 I3 L3 hI3 h3 => ?_) (fun _ _ _ _ _ h => h.elim)
  obtain ⟨rfl, rfl, rfl⟩ := h3
  refine hG.iret dJ34_checkIndex_6 rfl ?_ (by omega) (by omega) trivial
  exact ⟨rfl, rfl, rfl⟩
theorem fg_J2_48_J2 : LkG RJ2 48 ciJ2 2 := ⟨RJ2, TJ2, 3, tyJ2, _, cls_J2, by decide, Or.inl rfl, Or.inl q175⟩
set_option maxHeartbeats 4000000 in
set_option maxRecDepth 100000 in
theorem sp_J2_size {l : Launch} {s0 : State} {D : va_G} {I : AI} {L : AL} {dE : Nat} {mo : Int32} {xs : List Nat} {a : Nat} (hΓ : Gam l s0 D) (h0 : L a = some (liC dE mo xs)) : Spc l s0 D yJ2_size 1 [.ref a] I L 0 0 (pV (.int (nI xs.length)) I L) noX := by
  refine Spc.of hΓ cJ2_size 1 (some FieldType.int) q1640 (by decide +kernel) (by decide) (Nat.le_of_ble_eq_true rfl) (fun G GX hG => ?_)
  refine hG.opL h0 (fun arr M h1 h10 hor => ?_)
  refine hG.aload_n dJ2_size_0 rfl ?_
  refine hG.get dJ2_size_1 fg_J2_48_J2 (Or.inl h1) rfl ?_
  refine hG.clLs L h0 h1 h10 hor ?_
  refine hG.iret dJ2_size_4 rfl ?_ (by omega) (by omega) trivial
  exact ⟨rfl, rfl, rfl⟩
theorem fg_J2_9_J2 : LkG RJ2 9 ciJ2 1 := ⟨RJ2, TJ2, 3, tyJ2, _, cls_J2, by decide, Or.inl rfl, Or.inl q172⟩
set_option maxHeartbeats 4000000 in
set_option maxRecDepth 100000 in
theorem sp_J2_elementData {l : Launch} {s0 : State} {D : va_G} {I : AI} {L : AL} (hΓ : Gam l s0 D) {a i : Nat} {arr : Nat} {f : Nat → Option Nat} {x z : Value} {v : Nat} (h1 : L a = some (obC ciJ2 [x, .ref arr, z])) (h3 : L arr = some (.inl (arQ OBJ 10 f))) (hi : i < 10) (hv : f i = some v) : Spc l s0 D yJ2_elementData 1 [.ref a, .int (nI i)] I L 0 0 (pV (.ref v) I L) noX := by
  refine Spc.of hΓ cJ2_elementData 2 (some (FieldType.object "java/lang/Object")) q1680 (by decide +kernel) (by decide) (Nat.le_of_ble_eq_true rfl) (fun G GX hG => ?_)
  refine hG.aload_n dJ2_elementData_0 rfl ?_
  refine hG.get dJ2_elementData_1 fg_J2_9_J2 (Or.inl h1) rfl ?_
  refine hG.iload_n dJ2_elementData_4 rfl ?_
  refine hG.aald dJ2_elementData_5 (Or.inl h3) (vp_in_nI hi (by decide)) ?_
  rw [nI_clamp (by omega), hv]
  refine hG.aret dJ2_elementData_6 rfl (by first | exact Or.inl ⟨_, rfl⟩ | exact Or.inr ⟨_, rfl⟩) (Or.inr ⟨_, rfl⟩) ?_ (by omega) (by omega) trivial
  exact ⟨rfl, rfl, rfl⟩
theorem ks_J2_118 : LkS RJ2 118 yJ34_checkIndex 2 := ⟨q1671, q1672, q116, by decide +kernel, by decide +kernel, by decide +kernel⟩
theorem kv_J2_123 : LkV RJ2 123 yJ2_elementData 1 := ⟨q1677, q1678, q1679, q77, by decide +kernel, by decide +kernel, by decide +kernel⟩
set_option maxHeartbeats 4000000 in
set_option maxRecDepth 100000 in
theorem sp_J2_get {l : Launch} {s0 : State} {D : va_G} {I : AI} {L : AL} {dE : Nat} {mo : Int32} {xs : List Nat} {a : Nat} (hΓ : Gam l s0 D) {i v : Nat} (h0 : L a = some (liC dE mo xs)) (hi : xs[i]? = some v) : Spc l s0 D yJ2_get 3 [.ref a, .int (nI i)] I L 0 0 (pV (.ref v) I L) noX := by
  refine Spc.of hΓ cJ2_get 2 (some (FieldType.object "java/lang/Object")) q1670 (by decide +kernel) (by decide) (Nat.le_of_ble_eq_true rfl) (fun G GX hG => ?_)
  have hil : i < xs.length := (List.getElem?_eq_some_iff.mp hi).1
  refine hG.opL h0 (fun arr M h1 h10 hor => ?_)
  rcases hor with ⟨he, -⟩ | ⟨hne, f, h3, h4, h5⟩
  · subst he; exact absurd hil (by simp)
  refine hG.iload_n dJ2_get_0 rfl ?_
  refine hG.aload_n dJ2_get_1 rfl ?_
  refine hG.get dJ2_get_2 fg_J2_48_J2 (Or.inl h1) rfl ?_
  refine hG.callS dJ2_get_5 ks_J2_118 (sp_J34_checkIndex hΓ hil (by omega)) rfl rfl (Nat.le_of_ble_eq_true rfl) (by decide) (by omega) (by omega) (fun r5 I5 L5 hI5 h5 => ?_) (fun _ _ _ _ _ h => h.elim)
  obtain ⟨rfl, rfl, rfl⟩ := h5
  refine hG.pop dJ2_get_8 rfl ?_
  refine hG.aload_n dJ2_get_9 rfl ?_
  refine hG.iload_n dJ2_get_10 rfl ?_
  refine hG.callV dJ2_get_11 kv_J2_123 (Rcv.raw h1 cl_J2) (sp_J2_elementData hΓ h1 h3 (Nat.lt_of_lt_of_le hil h10) ((h4 i hil).trans hi)) rfl rfl (Nat.le_of_ble_eq_true rfl) (by decide) (by omega) (by omega) (fun r11 I11 L11 hI11 h11 => ?_) (fun _ _ _ _ _ h => h.elim)
  obtain ⟨rfl, rfl, rfl⟩ := h11
  refine hG.clLs L h0 h1 h10 (Or.inr ⟨hne, f, h3, h4, h5⟩) ?_
  refine hG.aret dJ2_get_14 rfl (by first | exact Or.inl ⟨_, rfl⟩ | exact Or.inr ⟨_, rfl⟩) (Or.inr ⟨_, rfl⟩) ?_ (by omega) (by omega) trivial
  exact ⟨rfl, rfl, rfl⟩
set_option maxHeartbeats 4000000 in
set_option maxRecDepth 100000 in
theorem sp_J2_grow_2 {l : Launch} {s0 : State} {D : va_G} {I : AI} {L : AL} (hΓ : Gam l s0 D) {a dE : Nat} {mo : Int32} (hE : StE s0 D dE) (h1 : L a = some (obC ciJ2 [.int mo, .ref dE, .int 0])) : Spc l s0 D yJ2_grow_2 2 [.ref a, .int 1] I L 1 10 (fun r I' L' => I = I' ∧ ∃ q, q ≠ a ∧ L q = none ∧ r = some (.ref q) ∧ L' = up1 (up1 L q (some (.inl (arQ OBJ 10 (fun _ => none))))) a (some (obC ciJ2 [.int mo, .ref q, .int 0]))) noX := by
  refine Spc.of hΓ cJ2_grow_2 4 (some (FieldType.array (FieldType.object "java/lang/Object"))) q577 (by decide +kernel) (by decide) (Nat.le_of_ble_eq_true rfl) (fun G GX hG => ?_)
  refine hG.sta hE.2.1 (fun hE9 => ?_)
  refine hG.aload_n dJ2_grow_2_0 rfl ?_
  refine hG.get dJ2_grow_2_1 fg_J2_9_J2 (Or.inl h1) rfl ?_
  refine hG.alen dJ2_grow_2_4 (Or.inr hE9) ?_
  refine hG.istore_n dJ2_grow_2_5 (by decide) ?_
  refine hG.iload_n dJ2_grow_2_6 rfl ?_
  refine hG.if_gt (tgt := 20) dJ2_grow_2_7 rfl (fun c_7 => ?_) (fun c_7 => ?_)
  · first | exact absurd c_7 (by decide) | exact absurd rfl c_17
  · refine hG.aload_n dJ2_grow_2_10 rfl ?_
    refine hG.get dJ2_grow_2_11 fg_J2_9_J2 (Or.inl h1) rfl ?_
    refine hG.gets dJ2_grow_2_14 hE.1 q170 (Or.inl rfl) ?_
    refine hG.acmp_eq (tgt := 45) dJ2_grow_2_17 rfl (fun c_17 => ?_) (fun c_17 => ?_)
    · refine hG.aload_n dJ2_grow_2_45 rfl ?_
      refine hG.bipush (v := 10) dJ2_grow_2_46 rfl ?_
      refine hG.iload_n dJ2_grow_2_48 rfl ?_
      refine hG.mmax dJ2_grow_2_49 q653 (Nat.le_of_ble_eq_true rfl) (by decide) ?_
      refine hG.newq (C := OBJ) (N := 10) dJ2_grow_2_52 q654 q314 (by decide) (by decide) (by decide) (by omega) (by omega) (fun q hLq hIq => ?_)
      have hqa : q ≠ a := fun e => by subst e; rw [hLq] at h1; cases h1
      refine hG.dup_x1 dJ2_grow_2_55 rfl rfl ?_
      refine hG.put dJ2_grow_2_56 fp_J2_9_J2 ((up1_n hqa.symm).trans h1) rfl rfl (Nat.le_of_ble_eq_true rfl) ?_
      refine hG.aret dJ2_grow_2_59 rfl (by first | exact Or.inl ⟨_, rfl⟩ | exact Or.inr ⟨_, rfl⟩) (Or.inr ⟨_, rfl⟩) ?_ (by omega) (by omega) trivial
      exact ⟨rfl, q, hqa, hLq, rfl, rfl⟩
    · first | exact absurd c_7 (by decide) | exact absurd rfl c_17
theorem kv_J2_69 : LkV RJ2 69 yJ2_grow_2 1 := ⟨q574, q576, qs5, q77, by decide +kernel, by decide +kernel, by decide +kernel⟩
set_option maxHeartbeats 4000000 in
set_option maxRecDepth 100000 in
theorem sp_J2_grow {l : Launch} {s0 : State} {D : va_G} {I : AI} {L : AL} (hΓ : Gam l s0 D) {a dE : Nat} {mo : Int32} (hE : StE s0 D dE) (h1 : L a = some (obC ciJ2 [.int mo, .ref dE, .int 0])) : Spc l s0 D yJ2_grow 3 [.ref a] I L 1 10 (fun r I' L' => I = I' ∧ ∃ q, q ≠ a ∧ L q = none ∧ r = some (.ref q) ∧ L' = up1 (up1 L q (some (.inl (arQ OBJ 10 (fun _ => none))))) a (some (obC ciJ2 [.int mo, .ref q, .int 0]))) noX := by
  refine Spc.of hΓ cJ2_grow 1 (some (FieldType.array (FieldType.object "java/lang/Object"))) q573 (by decide +kernel) (by decide) (Nat.le_of_ble_eq_true rfl) (fun G GX hG => ?_)
  refine hG.aload_n dJ2_grow_0 rfl ?_
  refine hG.aload_n dJ2_grow_1 rfl ?_
  refine hG.get dJ2_grow_2 fg_J2_48_J2 (Or.inl h1) rfl ?_
  refine hG.iconst (v := 1) dJ2_grow_5 rfl ?_
  refine hG.iadd dJ2_grow_6 ?_
  refine hG.callV dJ2_grow_7 kv_J2_69 (Rcv.raw h1 cl_J2) (sp_J2_grow_2 hΓ hE h1) rfl rfl (Nat.le_of_ble_eq_true rfl) (by decide) (by omega) (by omega) (fun r7 I7 L7 hI7 h7 => ?_) (fun _ _ _ _ _ h => h.elim)
  obtain ⟨rfl, q, hqa, hLq, rfl, rfl⟩ := h7
  refine hG.aret dJ2_grow_10 rfl (by first | exact Or.inl ⟨_, rfl⟩ | exact Or.inr ⟨_, rfl⟩) (Or.inr ⟨_, rfl⟩) ?_ (by omega) (by omega) trivial
  exact ⟨rfl, q, hqa, hLq, rfl, rfl⟩
theorem fp_J2_48_J2 {nm : String} : LkP RJ2 nm 48 ciJ2 2 (tyJ2 2) := ⟨RJ2, TJ2, 3, tyJ2, _, cls_J2, by decide, rfl, Or.inl rfl, Or.inl ⟨rfl, q175⟩⟩
set_option maxHeartbeats 4000000 in
set_option maxRecDepth 100000 in
theorem sp_J2_add2f {l : Launch} {s0 : State} {D : va_G} {I : AI} {L : AL} (hΓ : Gam l s0 D) {a arr m v : Nat} {mo : Int32} {f : Nat → Option Nat} (hv : Elt s0 D I v) (hne : arr ≠ a) (h1 : L a = some (obC ciJ2 [.int mo, .ref arr, .int (nI m)])) (h3 : L arr = some (.inl (arQ OBJ 10 f))) (hm : m < 10) : Spc l s0 D yJ2_add_2 4 [.ref a, .ref v, .ref arr, .int (nI m)] I L 1 10 (pU I (up1 L arr (some (.inl (arQ OBJ 10 (va_up f m (some v)))))) a (obC ciJ2 [.int mo, .ref arr, .int (nI (m + 1))])) noX := by
  refine Spc.of hΓ cJ2_add_2 4 none q569 (by decide +kernel) (by decide) (Nat.le_of_ble_eq_true rfl) (fun G GX hG => ?_)
  refine hG.iload_n dJ2_add_2_0 rfl ?_
  refine hG.aload_n dJ2_add_2_1 rfl ?_
  refine hG.alen dJ2_add_2_2 (Or.inl h3) ?_
  refine hG.icmp_ne (tgt := 11) dJ2_add_2_3 rfl (fun c_3 => ?_) (fun c_3 => ?_)
  · refine hG.aload_n dJ2_add_2_11 rfl ?_
    refine hG.iload_n dJ2_add_2_12 rfl ?_
    refine hG.aload_n dJ2_add_2_13 rfl ?_
    obtain ⟨C, hv1, hv2⟩ := hv
    refine hG.aast dJ2_add_2_14 h3 (hv1 _) hv2 (vp_in_nI hm (by decide)) ?_
    rw [nI_clamp (by omega)]
    refine hG.aload_n dJ2_add_2_15 rfl ?_
    refine hG.iload_n dJ2_add_2_16 rfl ?_
    refine hG.iconst (v := 1) dJ2_add_2_17 rfl ?_
    refine hG.iadd dJ2_add_2_18 ?_
    refine hG.put dJ2_add_2_19 fp_J2_48_J2 ((up1_n hne.symm).trans h1) rfl rfl (Nat.le_of_ble_eq_true rfl) ?_
    refine hG.vret dJ2_add_2_22 rfl ?_ (by omega) (by omega) trivial
    exact ⟨rfl, rfl, by rw [show nI m + 1 = nI (m + 1) from nI_1 m]; rfl⟩
  · exact absurd ((nI_eq (a := m) (b := 10) (by omega) (by decide)).mp c_3) (by omega)
theorem kv_J2_129 : LkV RJ2 129 yJ2_grow 0 := ⟨q570, q572, qs4, q77, by decide +kernel, by decide +kernel, by decide +kernel⟩
set_option maxHeartbeats 4000000 in
set_option maxRecDepth 100000 in
theorem sp_J2_add2e {l : Launch} {s0 : State} {D : va_G} {I : AI} {L : AL} (hΓ : Gam l s0 D) {a v dE : Nat} {mo : Int32} (hE : StE s0 D dE) (hv : Elt s0 D I v) (h1 : L a = some (obC ciJ2 [.int mo, .ref dE, .int 0])) : Spc l s0 D yJ2_add_2 4 [.ref a, .ref v, .ref dE, .int 0] I L 1 10 (fun r I' L' => I = I' ∧ r = none ∧ ∃ q, q ≠ a ∧ L q = none ∧ L' = up1 (up1 L q (some (.inl (arQ OBJ 10 (va_up (fun _ => none) 0 (some v)))))) a (some (obC ciJ2 [.int mo, .ref q, .int 1]))) noX := by
  refine Spc.of hΓ cJ2_add_2 4 none q569 (by decide +kernel) (by decide) (Nat.le_of_ble_eq_true rfl) (fun G GX hG => ?_)
  refine hG.sta hE.2.1 (fun hE9 => ?_)
  refine hG.iload_n dJ2_add_2_0 rfl ?_
  refine hG.aload_n dJ2_add_2_1 rfl ?_
  refine hG.alen dJ2_add_2_2 (Or.inr hE9) ?_
  refine hG.icmp_ne (tgt := 11) dJ2_add_2_3 rfl (fun c_3 => absurd rfl c_3) (fun c_3 => ?_)
  refine hG.aload_n dJ2_add_2_6 rfl ?_
  refine hG.callV dJ2_add_2_7 kv_J2_129 (Rcv.raw h1 cl_J2) (sp_J2_grow hΓ hE h1) rfl rfl (Nat.le_of_ble_eq_true rfl) (by decide) (by omega) (by omega) (fun r7 I7 L7 hI7 h7 => ?_) (fun _ _ _ _ _ h => h.elim)
  obtain ⟨rfl, q, hqa, hLq, rfl, rfl⟩ := h7
  refine hG.astore_n dJ2_add_2_10 (by decide) ?_
  refine hG.aload_n dJ2_add_2_11 rfl ?_
  refine hG.iload_n dJ2_add_2_12 rfl ?_
  refine hG.aload_n dJ2_add_2_13 rfl ?_
  obtain ⟨C, hv1, hv2⟩ := hv
  refine hG.aast dJ2_add_2_14 ((up1_n hqa).trans up1_s) (hv1 _) hv2 (by unfold vp_in; decide) ?_
  refine hG.aload_n dJ2_add_2_15 rfl ?_
  refine hG.iload_n dJ2_add_2_16 rfl ?_
  refine hG.iconst (v := 1) dJ2_add_2_17 rfl ?_
  refine hG.iadd dJ2_add_2_18 ?_
  refine hG.put dJ2_add_2_19 fp_J2_48_J2 (by rw [up1_n hqa.symm]; exact up1_s) rfl rfl (Nat.le_of_ble_eq_true rfl) ?_
  refine hG.vret dJ2_add_2_22 rfl ?_ (by omega) (by omega) trivial
  refine ⟨rfl, rfl, q, hqa, hLq, ?_⟩
  rw [up1_comm hqa.symm, up1_up1, up1_up1]
  rfl
theorem fg_J2_63_J2 : LkG RJ2 63 ciJ2 0 := ⟨RJ2, TJ2, 3, tyJ2, _, cls_J2, by decide, Or.inr q178, Or.inl q179⟩
theorem fp_J2_63_J2 {nm : String} : LkP RJ2 nm 63 ciJ2 0 (tyJ2 0) := ⟨RJ2, TJ2, 3, tyJ2, _, cls_J2, by decide, rfl, Or.inr q178, Or.inl ⟨rfl, q179⟩⟩
theorem kv_J2_131 : LkV RJ2 131 yJ2_add_2 3 := ⟨q566, q568, qs3, q77, by decide +kernel, by decide +kernel, by decide +kernel⟩
set_option maxHeartbeats 4000000 in
set_option maxRecDepth 100000 in
theorem sp_J2_add {l : Launch} {s0 : State} {D : va_G} {I : AI} {L : AL} {dE : Nat} {mo : Int32} {xs : List Nat} {a : Nat} (hΓ : Gam l s0 D) {v : Nat} (hE : StE s0 D dE) (hv : Elt s0 D I v) (h0 : L a = some (liC dE mo xs)) (hx : xs.length < 10) : Spc l s0 D yJ2_add 5 [.ref a, .ref v] I L 1 10 (pVU (.int 1) I L a (liC dE (mo + 1) (xs ++ [v]))) noX := by
  refine Spc.of hΓ cJ2_add 2 (some FieldType.boolean) q565 (by decide +kernel) (by decide) (Nat.le_of_ble_eq_true rfl) (fun G GX hG => ?_)
  refine hG.opL h0 (fun arr M h1 h10 hor => ?_)
  rcases hor with ⟨rfl, rfl, h5⟩ | ⟨hne, f, h3, h4, h5⟩
  · refine hG.aload_n dJ2_add_0 rfl ?_
    refine hG.dup dJ2_add_1 rfl ?_
    refine hG.get dJ2_add_2 fg_J2_63_J2 (Or.inl h1) rfl ?_
    refine hG.iconst (v := 1) dJ2_add_5 rfl ?_
    refine hG.iadd dJ2_add_6 ?_
    refine hG.put dJ2_add_7 fp_J2_63_J2 h1 rfl rfl (Nat.le_of_ble_eq_true rfl) ?_
    refine hG.aload_n dJ2_add_10 rfl ?_
    refine hG.aload_n dJ2_add_11 rfl ?_
    refine hG.aload_n dJ2_add_12 rfl ?_
    refine hG.get dJ2_add_13 fg_J2_9_J2 (Or.inl up1_s) rfl ?_
    refine hG.aload_n dJ2_add_16 rfl ?_
    refine hG.get dJ2_add_17 fg_J2_48_J2 (Or.inl up1_s) rfl ?_
    refine hG.callV dJ2_add_20 kv_J2_131 (Rcv.raw up1_s cl_J2) (sp_J2_add2e hΓ hE hv up1_s) rfl rfl (Nat.le_of_ble_eq_true rfl) (by decide) (by omega) (by omega) (fun r20 I20 L20 hI20 h20 => ?_) (fun _ _ _ _ _ h => h.elim)
    obtain ⟨rfl, rfl, q, hqa, hLq, rfl⟩ := h20
    refine hG.iconst (v := 1) dJ2_add_23 rfl ?_
    have hMq : M q = none := (up1_n hqa).symm.trans hLq
    have h6 := ((h5.up (b := a) (by simp) (some (obC ciJ2 [.int (mo + 1), .ref arr, .int 0]))).new hLq (some (.inl (arQ OBJ 10 (va_up (fun _ => none) 0 (some v)))))).up (b := a) (by simp) (some (obC ciJ2 [.int (mo + 1), .ref q, .int 1]))
    refine hG.clL (dE := arr) (xs := [] ++ [v]) (arr := q) L (h6.wk (by simp)) up1_s (by simp) hqa ((up1_n hqa).trans up1_s) (fun i hi => ?_) ?_
    · have : i = 0 := by simpa using hi
      subst this; rfl
    refine hG.zret dJ2_add_24 rfl rfl ?_ (by omega) (by omega) trivial
    exact ⟨rfl, rfl, rfl⟩
  · refine hG.aload_n dJ2_add_0 rfl ?_
    refine hG.dup dJ2_add_1 rfl ?_
    refine hG.get dJ2_add_2 fg_J2_63_J2 (Or.inl h1) rfl ?_
    refine hG.iconst (v := 1) dJ2_add_5 rfl ?_
    refine hG.iadd dJ2_add_6 ?_
    refine hG.put dJ2_add_7 fp_J2_63_J2 h1 rfl rfl (Nat.le_of_ble_eq_true rfl) ?_
    refine hG.aload_n dJ2_add_10 rfl ?_
    refine hG.aload_n dJ2_add_11 rfl ?_
    refine hG.aload_n dJ2_add_12 rfl ?_
    refine hG.get dJ2_add_13 fg_J2_9_J2 (Or.inl up1_s) rfl ?_
    refine hG.aload_n dJ2_add_16 rfl ?_
    refine hG.get dJ2_add_17 fg_J2_48_J2 (Or.inl up1_s) rfl ?_
    refine hG.callV dJ2_add_20 kv_J2_131 (Rcv.raw up1_s cl_J2) (sp_J2_add2f hΓ hv hne up1_s ((up1_n hne).trans h3) hx) rfl rfl (Nat.le_of_ble_eq_true rfl) (by decide) (by omega) (by omega) (fun r20 I20 L20 hI20 h20 => ?_) (fun _ _ _ _ _ h => h.elim)
    obtain ⟨rfl, rfl, rfl⟩ := h20
    refine hG.iconst (v := 1) dJ2_add_23 rfl ?_
    have h6 := ((h5.up (b := a) (by simp) (some (obC ciJ2 [.int (mo + 1), .ref arr, .int (nI xs.length)]))).up (b := arr) (by simp) (some (.inl (arQ OBJ 10 (va_up f xs.length (some v)))))).up (b := a) (by simp) (some (obC ciJ2 [.int (mo + 1), .ref arr, .int (nI (xs.length + 1))]))
    refine hG.clL (dE := dE) (xs := xs ++ [v]) (arr := arr) L h6 (by rw [List.length_append]; exact up1_s) (by simp; omega) hne ((up1_n hne).trans up1_s) (fun i hi => ?_) ?_
    · unfold va_up
      by_cases e : i = xs.length
      · subst e; simp
      · rw [if_neg e, h4 i (by simp at hi; omega), List.getElem?_append_left (by simp at hi; omega)]
    refine hG.zret dJ2_add_24 rfl rfl ?_ (by omega) (by omega) trivial
    exact ⟨rfl, rfl, rfl⟩
set_option maxHeartbeats 4000000 in
set_option maxRecDepth 100000 in
theorem sp_J2_set {l : Launch} {s0 : State} {D : va_G} {I : AI} {L : AL} {dE : Nat} {mo : Int32} {xs : List Nat} {a : Nat} (hΓ : Gam l s0 D) {i v w : Nat} (hv : Elt s0 D I v) (h0 : L a = some (liC dE mo xs)) (hi : xs[i]? = some w) : Spc l s0 D yJ2_set 3 [.ref a, .int (nI i), .ref v] I L 0 0 (pVU (.ref w) I L a (liC dE mo (xs.set i v))) noX := by
  refine Spc.of hΓ cJ2_set 4 (some (FieldType.object "java/lang/Object")) q1929 (by decide +kernel) (by decide) (Nat.le_of_ble_eq_true rfl) (fun G GX hG => ?_)
  have hil : i < xs.length := (List.getElem?_eq_some_iff.mp hi).1
  refine hG.opL h0 (fun arr M h1 h10 hor => ?_)
  rcases hor with ⟨he, -⟩ | ⟨hne, f, h3, h4, h5⟩
  · subst he; exact absurd hil (by simp)
  refine hG.iload_n dJ2_set_0 rfl ?_
  refine hG.aload_n dJ2_set_1 rfl ?_
  refine hG.get dJ2_set_2 fg_J2_48_J2 (Or.inl h1) rfl ?_
  refine hG.callS dJ2_set_5 ks_J2_118 (sp_J34_checkIndex hΓ hil (by omega)) rfl rfl (Nat.le_of_ble_eq_true rfl) (by decide) (by omega) (by omega) (fun r5 I5 L5 hI5 h5 => ?_) (fun _ _ _ _ _ h => h.elim)
  obtain ⟨rfl, rfl, rfl⟩ := h5
  refine hG.pop dJ2_set_8 rfl ?_
  refine hG.aload_n dJ2_set_9 rfl ?_
  refine hG.iload_n dJ2_set_10 rfl ?_
  refine hG.callV dJ2_set_11 kv_J2_123 (Rcv.raw h1 cl_J2) (sp_J2_elementData hΓ h1 h3 (Nat.lt_of_lt_of_le hil h10) ((h4 i hil).trans hi)) rfl rfl (Nat.le_of_ble_eq_true rfl) (by decide) (by omega) (by omega) (fun r11 I11 L11 hI11 h11 => ?_) (fun _ _ _ _ _ h => h.elim)
  obtain ⟨rfl, rfl, rfl⟩ := h11
  refine hG.astore_n dJ2_set_14 (by decide) ?_
  refine hG.aload_n dJ2_set_15 rfl ?_
  refine hG.get dJ2_set_16 fg_J2_9_J2 (Or.inl h1) rfl ?_
  refine hG.iload_n dJ2_set_19 rfl ?_
  refine hG.aload_n dJ2_set_20 rfl ?_
  obtain ⟨C, hv1, hv2⟩ := hv
  refine hG.aast dJ2_set_21 h3 (hv1 _) hv2 (vp_in_nI (Nat.lt_of_lt_of_le hil h10) (by decide)) ?_
  rw [nI_clamp (by omega)]
  refine hG.aload_n dJ2_set_22 rfl ?_
  refine hG.clL (dE := dE) (xs := xs.set i v) (arr := arr) L (h5.up (by simp) _) (by rw [List.length_set]; exact (up1_n hne.symm).trans h1) (by simpa using h10) hne up1_s (fun j hj => ?_) ?_
  · unfold va_up
    rw [List.length_set] at hj
    by_cases e : j = i
    · subst e; rw [if_pos rfl, List.getElem?_set_self hj]
    · rw [if_neg e, h4 j hj, List.getElem?_set_ne (Ne.symm e)]
  refine hG.aret dJ2_set_23 rfl (by first | exact Or.inl ⟨_, rfl⟩ | exact Or.inr ⟨_, rfl⟩) (Or.inr ⟨_, rfl⟩) ?_ (by omega) (by omega) trivial
  exact ⟨rfl, rfl, rfl⟩
set_option maxHeartbeats 4000000 in
set_option maxRecDepth 100000 in
theorem sp_J2_fastRemove {l : Launch} {s0 : State} {D : va_G} {I : AI} {L : AL} (hΓ : Gam l s0 D) {a arr i m : Nat} {mo : Int32} {f : Nat → Option Nat} (he : ∀ j y, j < m + 1 → f j = some y → Elt s0 D I y) (hne : arr ≠ a) (h1 : L a = some (obC ciJ2 [.int mo, .ref arr, .int (nI (m + 1))])) (h3 : L arr = some (.inl (arQ OBJ 10 f))) (hi : i ≤ m) (hm : m < 10) : Spc l s0 D yJ2_fastRemove 2 [.ref a, .ref arr, .int (nI i)] I L 0 0 (fun r I' L' => r = none ∧ I = I' ∧ ∃ f', (∀ j, j < m → f' j = if j < i then f j else f (j + 1)) ∧ L' = up1 (up1 L a (some (obC ciJ2 [.int (mo + 1), .ref arr, .int (nI m)]))) arr (some (.inl (arQ OBJ 10 f')))) noX := by
  refine Spc.of hΓ cJ2_fastRemove 4 none q1961 (by decide +kernel) (by decide) (Nat.le_of_ble_eq_true rfl) (fun G GX hG => ?_)
  refine hG.aload_n dJ2_fastRemove_0 rfl ?_
  refine hG.dup dJ2_fastRemove_1 rfl ?_
  refine hG.get dJ2_fastRemove_2 fg_J2_63_J2 (Or.inl h1) rfl ?_
  refine hG.iconst (v := 1) dJ2_fastRemove_5 rfl ?_
  refine hG.iadd dJ2_fastRemove_6 ?_
  refine hG.put dJ2_fastRemove_7 fp_J2_63_J2 h1 rfl rfl (Nat.le_of_ble_eq_true rfl) ?_
  refine hG.aload_n dJ2_fastRemove_10 rfl ?_
  refine hG.get dJ2_fastRemove_11 fg_J2_48_J2 (Or.inl up1_s) rfl ?_
  refine hG.iconst (v := 1) dJ2_fastRemove_14 rfl ?_
  refine hG.isub dJ2_fastRemove_15 ?_
  refine hG.dup dJ2_fastRemove_16 rfl ?_
  refine hG.istore_n dJ2_fastRemove_17 (by decide) ?_
  refine hG.iload_n dJ2_fastRemove_18 rfl ?_
  rw [show nI (m + 1) - 1 = nI m from nI_pred m]
  refine hG.icmp_le (tgt := 34) dJ2_fastRemove_19 rfl (fun c_19 => ?_) (fun c_19 => ?_)
  · refine hG.aload_n dJ2_fastRemove_34 rfl ?_
    refine hG.aload_n dJ2_fastRemove_35 rfl ?_
    refine hG.iload_n dJ2_fastRemove_36 rfl ?_
    refine hG.dup_x1 dJ2_fastRemove_37 rfl rfl ?_
    refine hG.put dJ2_fastRemove_38 fp_J2_48_J2 (by first | exact up1_s | exact (up1_n hne.symm).trans up1_s) rfl rfl (Nat.le_of_ble_eq_true rfl) ?_
    refine hG.null dJ2_fastRemove_41 ?_
    refine hG.aastN dJ2_fastRemove_42 (by first | exact (up1_n hne).trans up1_s | exact (up1_n hne).trans ((up1_n hne).trans h3)) (vp_in_nI hm (by decide)) ?_
    rw [nI_clamp (by omega)]
    refine hG.vret dJ2_fastRemove_43 rfl ?_ (by omega) (by omega) trivial
    first
    | (refine ⟨rfl, rfl, va_up (va_cpy f f (i + 1) i (m - i)) m none, fun j hj => ?_, ?_⟩
       · unfold va_up va_cpy
         rw [if_neg (by omega)]
         by_cases e : j < i
         · rw [if_neg (by omega), if_pos e]
         · rw [if_pos (by omega), if_neg e]
           congr 1
           omega
       · rw [up1_comm (a := arr) (b := a) hne, up1_up1, up1_up1]
         rfl)
    | (have him : i = m := by have := (nI_leI (by omega) (by omega)).mp c_19; omega
       refine ⟨rfl, rfl, va_up f m none, fun j hj => ?_, ?_⟩
       · unfold va_up
         rw [if_neg (by omega), if_pos (by omega)]
       · rw [up1_up1]; rfl)
  · refine hG.aload_n dJ2_fastRemove_22 rfl ?_
    refine hG.iload_n dJ2_fastRemove_23 rfl ?_
    refine hG.iconst (v := 1) dJ2_fastRemove_24 rfl ?_
    refine hG.iadd dJ2_fastRemove_25 ?_
    refine hG.aload_n dJ2_fastRemove_26 rfl ?_
    refine hG.iload_n dJ2_fastRemove_27 rfl ?_
    refine hG.iload_n dJ2_fastRemove_28 rfl ?_
    refine hG.iload_n dJ2_fastRemove_29 rfl ?_
    refine hG.isub dJ2_fastRemove_30 ?_
    rw [show nI i + 1 = nI (i + 1) from nI_1 i, show nI m - nI i = nI (m - i) from pk_sub hi]
    have him : i < m := Nat.not_le.mp fun h => c_19 ((nI_leI (by omega) (by omega)).mpr h)
    have k1 := nI_clamp (n := i + 1) (by omega)
    have k2 := nI_clamp (n := i) (by omega)
    have k3 := nI_clamp (n := m - i) (by omega)
    refine hG.acopyQ (f := f) dJ2_fastRemove_31 q1962 ((up1_n hne).trans h3) (nI_pos (by omega)) (nI_pos (by omega)) (nI_pos (by omega)) (by omega) (by omega) (fun j hj y hy => ?_) (Nat.le_of_ble_eq_true rfl) (by decide) ?_
    · rw [k1] at hy
      rw [k3] at hj
      obtain ⟨C, e1, e2⟩ := he _ y (by omega) hy
      exact ⟨C, e1 _, e2⟩
    rw [k1, k2, k3]
    refine hG.aload_n dJ2_fastRemove_34 rfl ?_
    refine hG.aload_n dJ2_fastRemove_35 rfl ?_
    refine hG.iload_n dJ2_fastRemove_36 rfl ?_
    refine hG.dup_x1 dJ2_fastRemove_37 rfl rfl ?_
    refine hG.put dJ2_fastRemove_38 fp_J2_48_J2 (by first | exact up1_s | exact (up1_n hne.symm).trans up1_s) rfl rfl (Nat.le_of_ble_eq_true rfl) ?_
    refine hG.null dJ2_fastRemove_41 ?_
    refine hG.aastN dJ2_fastRemove_42 (by first | exact (up1_n hne).trans up1_s | exact (up1_n hne).trans ((up1_n hne).trans h3)) (vp_in_nI hm (by decide)) ?_
    rw [nI_clamp (by omega)]
    refine hG.vret dJ2_fastRemove_43 rfl ?_ (by omega) (by omega) trivial
    first
    | (refine ⟨rfl, rfl, va_up (va_cpy f f (i + 1) i (m - i)) m none, fun j hj => ?_, ?_⟩
       · unfold va_up va_cpy
         rw [if_neg (by omega)]
         by_cases e : j < i
         · rw [if_neg (by omega), if_pos e]
         · rw [if_pos (by omega), if_neg e]
           congr 1
           omega
       · rw [up1_comm (a := arr) (b := a) hne, up1_up1, up1_up1]
         rfl)
    | (have him : i = m := by have := (nI_leI (by omega) (by omega)).mp c_19; omega
       refine ⟨rfl, rfl, va_up f m none, fun j hj => ?_, ?_⟩
       · unfold va_up
         rw [if_neg (by omega), if_pos (by omega)]
       · rw [up1_up1]; rfl)
theorem kv_J2_144 : LkV RJ2 144 yJ2_fastRemove 2 := ⟨q1958, q1960, qs10, q77, by decide +kernel, by decide +kernel, by decide +kernel⟩
set_option maxHeartbeats 4000000 in
set_option maxRecDepth 100000 in
theorem sp_J2_remove {l : Launch} {s0 : State} {D : va_G} {I : AI} {L : AL} {dE : Nat} {mo : Int32} {xs : List Nat} {a : Nat} (hΓ : Gam l s0 D) {i w : Nat} (he : ∀ y ∈ xs, Elt s0 D I y) (h0 : L a = some (liC dE mo xs)) (hi : xs[i]? = some w) : Spc l s0 D yJ2_remove 3 [.ref a, .int (nI i)] I L 0 0 (pVU (.ref w) I L a (liC dE (mo + 1) (xs.eraseIdx i))) noX := by
  refine Spc.of hΓ cJ2_remove 4 (some (FieldType.object "java/lang/Object")) q1957 (by decide +kernel) (by decide) (Nat.le_of_ble_eq_true rfl) (fun G GX hG => ?_)
  have hil : i < xs.length := (List.getElem?_eq_some_iff.mp hi).1
  refine hG.opL h0 (fun arr M h1 h10 hor => ?_)
  rcases hor with ⟨he, -⟩ | ⟨hne, f, h3, h4, h5⟩
  · subst he; exact absurd hil (by simp)
  refine hG.iload_n dJ2_remove_0 rfl ?_
  refine hG.aload_n dJ2_remove_1 rfl ?_
  refine hG.get dJ2_remove_2 fg_J2_48_J2 (Or.inl h1) rfl ?_
  refine hG.callS dJ2_remove_5 ks_J2_118 (sp_J34_checkIndex hΓ hil (by omega)) rfl rfl (Nat.le_of_ble_eq_true rfl) (by decide) (by omega) (by omega) (fun r5 I5 L5 hI5 h5 => ?_) (fun _ _ _ _ _ h => h.elim)
  obtain ⟨rfl, rfl, rfl⟩ := h5
  refine hG.pop dJ2_remove_8 rfl ?_
  refine hG.aload_n dJ2_remove_9 rfl ?_
  refine hG.get dJ2_remove_10 fg_J2_9_J2 (Or.inl h1) rfl ?_
  refine hG.astore_n dJ2_remove_13 (by decide) ?_
  refine hG.aload_n dJ2_remove_14 rfl ?_
  refine hG.iload_n dJ2_remove_15 rfl ?_
  refine hG.aald dJ2_remove_16 (Or.inl h3) (vp_in_nI (Nat.lt_of_lt_of_le hil h10) (by decide)) ?_
  rw [nI_clamp (by omega), (h4 i hil).trans hi]
  refine hG.astore_n dJ2_remove_17 (by decide) ?_
  refine hG.aload_n dJ2_remove_18 rfl ?_
  refine hG.aload_n dJ2_remove_19 rfl ?_
  refine hG.iload_n dJ2_remove_20 rfl ?_
  refine hG.callV dJ2_remove_21 kv_J2_144 (Rcv.raw h1 cl_J2) (sp_J2_fastRemove (m := xs.length - 1) hΓ (fun j y hj hy => he y (List.mem_of_getElem? ((h4 j (by omega)).symm.trans hy))) hne (by rw [Nat.sub_add_cancel (by omega)]; exact h1) h3 (by omega) (by omega)) rfl rfl (Nat.le_of_ble_eq_true rfl) (by decide) (by omega) (by omega) (fun r21 I21 L21 hI21 h21 => ?_) (fun _ _ _ _ _ h => h.elim)
  obtain ⟨rfl, rfl, f', hf9, rfl⟩ := h21
  refine hG.aload_n dJ2_remove_24 rfl ?_
  refine hG.clL (dE := dE) (xs := xs.eraseIdx i) (arr := arr) L ((h5.up (by simp) _).up (by simp) _) (by rw [List.length_eraseIdx_of_lt hil]; exact (up1_n hne.symm).trans up1_s) (by rw [List.length_eraseIdx_of_lt hil]; omega) hne up1_s (fun j hj => ?_) ?_
  · rw [List.length_eraseIdx_of_lt hil] at hj
    rw [hf9 j hj, List.getElem?_eraseIdx]
    split
    · exact h4 j (by omega)
    · exact h4 (j + 1) (by omega)
  refine hG.aret dJ2_remove_25 rfl (by first | exact Or.inl ⟨_, rfl⟩ | exact Or.inr ⟨_, rfl⟩) (Or.inr ⟨_, rfl⟩) ?_ (by omega) (by omega) trivial
  exact ⟨rfl, rfl, rfl⟩
set_option maxHeartbeats 4000000 in
set_option maxRecDepth 100000 in
theorem sp_J2_rangeAdd {l : Launch} {s0 : State} {D : va_G} {I : AI} {L : AL} (hΓ : Gam l s0 D) {a i m : Nat} {x y : Value} (h1 : L a = some (obC ciJ2 [x, y, .int (nI m)])) (hi : i ≤ m) (hm : m < 2 ^ 31) : Spc l s0 D yJ2_rangeCheckForAdd 1 [.ref a, .int (nI i)] I L 0 0 (p0 I L) noX := by
  refine Spc.of hΓ cJ2_rangeCheckForAdd 2 none q2155 (by decide +kernel) (by decide) (Nat.le_of_ble_eq_true rfl) (fun G GX hG => ?_)
  refine hG.iload_n dJ2_rangeCheckForAdd_0 rfl ?_
  refine hG.aload_n dJ2_rangeCheckForAdd_1 rfl ?_
  refine hG.get dJ2_rangeCheckForAdd_2 fg_J2_48_J2 (Or.inl h1) rfl ?_
  refine hG.icmp_gt (tgt := 12) dJ2_rangeCheckForAdd_5 rfl (fun c_5 => ?_) (fun c_5 => ?_)
  · first | exact absurd c_5 (nI_nlt hi hm) | exact absurd (nI_pos' (by omega)) c_9
  · refine hG.iload_n dJ2_rangeCheckForAdd_8 rfl ?_
    refine hG.if_ge (tgt := 25) dJ2_rangeCheckForAdd_9 rfl (fun c_9 => ?_) (fun c_9 => ?_)
    · refine hG.vret dJ2_rangeCheckForAdd_25 rfl ?_ (by omega) (by omega) trivial
      exact ⟨rfl, rfl, rfl⟩
    · first | exact absurd c_5 (nI_nlt hi hm) | exact absurd (nI_pos' (by omega)) c_9
theorem kv_J2_135 : LkV RJ2 135 yJ2_rangeCheckForAdd 1 := ⟨q2152, q2154, qs12, q77, by decide +kernel, by decide +kernel, by decide +kernel⟩
set_option maxHeartbeats 4000000 in
set_option maxRecDepth 100000 in
theorem sp_J2_add3 {l : Launch} {s0 : State} {D : va_G} {I : AI} {L : AL} {dE : Nat} {mo : Int32} {xs : List Nat} {a : Nat} (hΓ : Gam l s0 D) {i v : Nat} (he : ∀ y ∈ xs, Elt s0 D I y) (hv : Elt s0 D I v) (h0 : L a = some (liC dE mo xs)) (hi : i ≤ xs.length) (hx : xs.length < 10) (hx0 : xs ≠ []) : Spc l s0 D yJ2_add_3 5 [.ref a, .int (nI i), .ref v] I L 0 0 (pU I L a (liC dE (mo + 1) (xs.insertIdx i v))) noX := by
  refine Spc.of hΓ cJ2_add_3 5 none q2151 (by decide +kernel) (by decide) (Nat.le_of_ble_eq_true rfl) (fun G GX hG => ?_)
  refine hG.opL h0 (fun arr M h1 h10 hor => ?_)
  rcases hor with ⟨he9, -⟩ | ⟨hne, f, h3, h4, h5⟩
  · exact absurd he9 hx0
  refine hG.aload_n dJ2_add_3_0 rfl ?_
  refine hG.iload_n dJ2_add_3_1 rfl ?_
  refine hG.callV dJ2_add_3_2 kv_J2_135 (Rcv.raw h1 cl_J2) (sp_J2_rangeAdd hΓ h1 hi (by omega)) rfl rfl (Nat.le_of_ble_eq_true rfl) (by decide) (by omega) (by omega) (fun r2 I2 L2 hI2 h2 => ?_) (fun _ _ _ _ _ h => h.elim)
  obtain ⟨rfl, rfl, rfl⟩ := h2
  refine hG.aload_n dJ2_add_3_5 rfl ?_
  refine hG.dup dJ2_add_3_6 rfl ?_
  refine hG.get dJ2_add_3_7 fg_J2_63_J2 (Or.inl h1) rfl ?_
  refine hG.iconst (v := 1) dJ2_add_3_10 rfl ?_
  refine hG.iadd dJ2_add_3_11 ?_
  refine hG.put dJ2_add_3_12 fp_J2_63_J2 h1 rfl rfl (Nat.le_of_ble_eq_true rfl) ?_
  refine hG.aload_n dJ2_add_3_15 rfl ?_
  refine hG.get dJ2_add_3_16 fg_J2_48_J2 (Or.inl up1_s) rfl ?_
  refine hG.dup dJ2_add_3_19 rfl ?_
  refine hG.istore_n dJ2_add_3_20 (by decide) ?_
  refine hG.aload_n dJ2_add_3_21 rfl ?_
  refine hG.get dJ2_add_3_22 fg_J2_9_J2 (Or.inl up1_s) rfl ?_
  refine hG.dup dJ2_add_3_25 rfl ?_
  refine hG.astore dJ2_add_3_26 (by decide) ?_
  refine hG.alen dJ2_add_3_28 (Or.inl ((up1_n hne).trans h3)) ?_
  refine hG.icmp_ne (tgt := 38) dJ2_add_3_29 rfl (fun c_29 => ?_) (fun c_29 => ?_)
  · refine hG.aload dJ2_add_3_38 rfl ?_
    refine hG.iload_n dJ2_add_3_40 rfl ?_
    refine hG.aload dJ2_add_3_41 rfl ?_
    refine hG.iload_n dJ2_add_3_43 rfl ?_
    refine hG.iconst (v := 1) dJ2_add_3_44 rfl ?_
    refine hG.iadd dJ2_add_3_45 ?_
    refine hG.iload_n dJ2_add_3_46 rfl ?_
    refine hG.iload_n dJ2_add_3_47 rfl ?_
    refine hG.isub dJ2_add_3_48 ?_
    rw [show nI i + 1 = nI (i + 1) from nI_1 i, show nI xs.length - nI i = nI (xs.length - i) from pk_sub hi]
    have k1 := nI_clamp (n := i + 1) (by omega)
    have k2 := nI_clamp (n := i) (by omega)
    have k3 := nI_clamp (n := xs.length - i) (by omega)
    refine hG.acopyQ (f := f) dJ2_add_3_49 q1962 ((up1_n hne).trans h3) (nI_pos (by omega)) (nI_pos (by omega)) (nI_pos (by omega)) (by omega) (by omega) (fun j hj y hy => ?_) (Nat.le_of_ble_eq_true rfl) (by decide) ?_
    · rw [k2] at hy
      rw [k3] at hj
      obtain ⟨C, e1, e2⟩ := he y (List.mem_of_getElem? ((h4 (i + j) (by omega)).symm.trans hy))
      exact ⟨C, e1 _, e2⟩
    rw [k1, k2, k3]
    refine hG.aload dJ2_add_3_52 rfl ?_
    refine hG.iload_n dJ2_add_3_54 rfl ?_
    refine hG.aload_n dJ2_add_3_55 rfl ?_
    obtain ⟨C, hv1, hv2⟩ := hv
    refine hG.aast dJ2_add_3_56 up1_s (hv1 _) hv2 (vp_in_nI (by omega) (by decide)) ?_
    rw [nI_clamp (by omega)]
    refine hG.aload_n dJ2_add_3_57 rfl ?_
    refine hG.iload_n dJ2_add_3_58 rfl ?_
    refine hG.iconst (v := 1) dJ2_add_3_59 rfl ?_
    refine hG.iadd dJ2_add_3_60 ?_
    refine hG.put dJ2_add_3_61 fp_J2_48_J2 ((up1_n hne.symm).trans ((up1_n hne.symm).trans up1_s)) rfl rfl (Nat.le_of_ble_eq_true rfl) ?_
    refine hG.clL (dE := dE) (xs := xs.insertIdx i v) (arr := arr) L ((((h5.up (by simp) _).up (by simp) _).up (by simp) _).up (by simp) _) (by rw [List.length_insertIdx_of_le_length hi, ← nI_1]; exact up1_s) (by rw [List.length_insertIdx_of_le_length hi]; omega) hne ((up1_n hne).trans up1_s) (fun j hj => ?_) ?_
    · rw [List.length_insertIdx_of_le_length hi] at hj
      unfold va_up va_cpy
      rw [List.getElem?_insertIdx]
      by_cases e : j = i
      · subst e; rw [if_pos rfl, if_neg (by omega), if_pos rfl, if_pos hi]
      · rw [if_neg e]
        by_cases e2 : j < i
        · rw [if_neg (by omega), if_pos e2]; exact h4 j (by omega)
        · rw [if_pos (by omega), if_neg e2, if_neg e, show i + (j - (i + 1)) = j - 1 by omega]; exact h4 (j - 1) (by omega)
    refine hG.vret dJ2_add_3_64 rfl ?_ (by omega) (by omega) trivial
    exact ⟨rfl, rfl, rfl⟩
  · exact absurd ((nI_eq (b := 10) (by omega) (by decide)).mp c_29) (by omega)
