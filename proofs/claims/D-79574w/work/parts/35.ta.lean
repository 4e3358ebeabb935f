/-! tallies -/
abbrev Tal : Type := List (Nat × Int32)
/-- what holds from the start: statics, classes -/
def Std (s0 : State) (D : va_G) (dE ca : Nat) (ad : Nat → Nat) : Prop := StN s0 ∧ StI s0 D ca ad ∧ StE s0 D dE ∧ StW s0
theorem Std.nt {s0 : State} {D : va_G} {dE ca : Nat} {ad : Nat → Nat} (h : Std s0 D dE ca ad) : StN s0 := h.1
theorem Std.ix {s0 : State} {D : va_G} {dE ca : Nat} {ad : Nat → Nat} (h : Std s0 D dE ca ad) : StI s0 D ca ad := h.2.1
theorem Std.li {s0 : State} {D : va_G} {dE ca : Nat} {ad : Nat → Nat} (h : Std s0 D dE ca ad) : StE s0 D dE := h.2.2.1
theorem Std.wt {s0 : State} {D : va_G} {dE ca : Nat} {ad : Nat → Nat} (h : Std s0 D dE ca ad) : StW s0 := h.2.2.2
def tof : Tal → Nat → Int32
  | [], _ => 0
  | x :: l, c => if x.1 = c then x.2 else tof l c
def tadd (t : Tal) (c : Nat) (m : Int32) : Tal := if tof t c + m = 0 then t.filter (fun x => x.1 != c) else if t.any (fun x => x.1 == c) then t.map (fun x => if x.1 = c then (x.1, tof t c + m) else x) else t ++ [(c, tof t c + m)]
abbrev tal (es : List Ent) : Tal := es.map (·.2)
theorem tof_tal {c : Nat} : ∀ {es : List Ent}, tof (tal es) c = (match lkp es c with
    | some x => x.2.2
    | none => 0)
  | [] => rfl
  | y :: l => by
    show (if y.2.1 = c then y.2.2 else tof (tal l) c) = _
    unfold lkp
    by_cases h : y.2.1 = c
    · rw [if_pos h, if_pos h]
    · rw [if_neg h, if_neg h, tof_tal]
theorem any_tal {es : List Ent} {c : Nat} : (tal es).any (fun x => x.1 == c) = (lkp es c).isSome := by
  induction es with
  | nil => rfl
  | cons y l ih =>
    unfold lkp
    by_cases h : y.2.1 = c
    · rw [if_pos h]; simp [h]
    · rw [if_neg h, ← ih]; simp [h]
theorem lkp_split {es : List Ent} {c : Nat} {x : Ent} (h : lkp es c = some x) : ∃ pre post, es = pre ++ x :: post ∧ x.2.1 = c := by
  obtain ⟨h1, h2⟩ := lkp_some h
  obtain ⟨pre, post, e⟩ := List.append_of_mem h1
  exact ⟨pre, post, e, h2⟩
theorem tadd_rm {pre post : List Ent} {x : Ent} {m : Int32} (hn : (cods (pre ++ x :: post)).Nodup) (h0 : tof (tal (pre ++ x :: post)) x.2.1 + m = 0) : tadd (tal (pre ++ x :: post)) x.2.1 m = tal (pre ++ post) := by
  unfold tadd
  rw [if_pos h0]
  unfold cods at hn
  rw [List.map_append, List.map_cons, List.nodup_append, List.nodup_cons] at hn
  obtain ⟨h1, h2, h3⟩ := hn
  unfold tal
  rw [List.map_append, List.map_cons, List.filter_append, List.filter_cons]
  have e1 : List.filter (fun y => y.1 != x.2.1) (List.map (·.2) pre) = List.map (·.2) pre := by
    rw [List.filter_eq_self]
    intro y hy
    obtain ⟨z, hz, rfl⟩ := List.mem_map.mp hy
    simpa using h3 z.2.1 (List.mem_map.mpr ⟨z, hz, rfl⟩) x.2.1 (by simp)
  have e2 : List.filter (fun y => y.1 != x.2.1) (List.map (·.2) post) = List.map (·.2) post := by
    rw [List.filter_eq_self]
    intro y hy
    obtain ⟨z, hz, rfl⟩ := List.mem_map.mp hy
    have : z.2.1 ≠ x.2.1 := fun e => h2.1 (List.mem_map.mpr ⟨z, hz, e⟩)
    simpa using this
  rw [e1, e2, if_neg (by simp), List.map_append]
theorem tadd_put {es : List Ent} {c q : Nat} {m : Int32} (h0 : ¬ tof (tal es) c + m = 0) : tadd (tal es) c m = tal (mput es q c (tof (tal es) c + m)) := by
  unfold tadd
  rw [if_neg h0, any_tal]
  unfold mput
  cases h : lkp es c with
  | some x =>
    simp only [Option.isSome_some, if_true]
    unfold tal rplL
    rw [List.map_map, List.map_map]
    refine List.map_congr_left (fun y _ => ?_)
    show (if y.2.1 = c then (y.2.1, _) else y.2) = (rpl c _ y).2
    unfold rpl
    split <;> rfl
  | none =>
    simp [tal]
def taΦ (t : Tal) : AI → Nat → AL → Prop := fun _ a S => ∃ (mp : Nat) (mo : Int32) (es : List Ent), mp ≠ a ∧ S a = some (obC ciX3 [.ref mp]) ∧ S mp = some (mpC mo es) ∧ tal es = t
abbrev taC (t : Tal) : Cel := cel 4 (taΦ t)
section TA
variable {l : Launch} {s0 : State} {D : va_G} {own nm : String} {cc : ByteArray} {nL : Nat} {ret : Option FieldType} {tab : List ExceptionTableEntry} {d mc ms : Nat} {Ib : AI} {post : Option Value → AI → AL → Prop} {xp : String → Nat → AI → AL → Prop} {md : Prop} {G : Gt} {GX : GXt}
variable {pc : Nat} {ls : List (Nat × Value)} {st : List Value} {I : AI} {L : AL} {k n : Nat}
theorem IsG.pkM (hG : IsG l s0 D own nm cc nL ret tab d mc ms Ib post xp md G GX) {m : Nat} {mo : Int32} {es : List Ent} (h0 : L m = some (mpC mo es)) (kk : (cods es).Nodup → (∀ x ∈ es, x.2.1 < 147) → G pc ls st I L k n) : G pc ls st I L k n := by
  refine hG.peek h0 (fun J S hJ hΦ => ?_)
  obtain ⟨_, _, _, _, _, _, h⟩ := hΦ
  exact kk h.2.2.1 (fun x hx => (h.2.2.2.2.1 x hx).2.1)
theorem IsG.opT (hG : IsG l s0 D own nm cc nL ret tab d mc ms Ib post xp md G GX) {a : Nat} {t : Tal} (h0 : L a = some (taC t)) (kk : ∀ (mp : Nat) (mo : Int32) (es : List Ent) (M : AL), mp ≠ a → M a = some (obC ciX3 [.ref mp]) → M mp = some (mpC mo es) → tal es = t → (cods es).Nodup → (∀ x ∈ es, x.2.1 < 147) → Frm L a [a, mp] M → G pc ls st I M k n) : G pc ls st I L k n := by
  refine hG.opn h0 (fun J S M hJ hΦ h1 h2 => ?_)
  obtain ⟨mp, mo, es, k1, k2, k3, k4⟩ := hΦ
  refine hG.pkM (h1 _ _ k3) (fun k5 k6 => ?_)
  refine kk mp mo es M k1 (h1 _ _ k2) (h1 _ _ k3) k4 k5 k6 (frm_of _ (fun q hq hqa => ?_) h2)
  rcases List.mem_cons.mp hq with e | e
  · exact absurd e hqa
  · rw [List.mem_singleton.mp e, k3]; exact (fun h => nomatch h)
theorem IsG.clT (hG : IsG l s0 D own nm cc nL ret tab d mc ms Ib post xp md G GX) {a mp : Nat} {mo : Int32} {es : List Ent} {M : AL} (L : AL) (t : Tal) (hne : mp ≠ a) (ha : M a = some (obC ciX3 [.ref mp])) (hm : M mp = some (mpC mo es)) (ht : tal es = t) (hf : Frm L a [a, mp] M) (kk : G pc ls st I (up1 L a (some (taC t))) k n) : G pc ls st I M k n :=
  hG.clz 4 L _ hf (by simp) (by rw [ha]; exact (fun h => nomatch h)) ⟨mp, mo, es, hne, rst_at (by simp) ha, rst_at (by simp) hm, ht⟩ kk
end TA
theorem Rcv.ta {s0 : State} {D : va_G} {I : AI} {L : AL} {a : Nat} {t : Tal} (h : L a = some (taC t)) : Rcv s0 D I L a "BraidedFerry$Tally" := by
  intro H hS
  obtain ⟨J, S, h1, ⟨_, _, _, h6, h2, h7, h8⟩, h3, h4, h5⟩ := hS.op h
  exact Rcv.raw (ovl_in h2) cl_X3 H h5
theorem cls_X3 : CLs ciX3 RX3 TX3 1 tyX3 := ⟨rfl, in_X3, tyX3_ok, nmX3⟩
theorem nw_X3_7 : LkN RX3 7 ciJ5 [.null, .null, .int 0, .int 0, .int 0, .float 0, .null, .null, .null, .null, .int 0, .int 0] 12 := ⟨RJ5, TJ5, tyJ5, cls_J5, q193, q194, q81, rfl, fun j hj => by
  match j, hj with
  | 0, _ => rfl
  | 1, _ => rfl
  | 2, _ => rfl
  | 3, _ => rfl
  | 4, _ => rfl
  | 5, _ => rfl
  | 6, _ => rfl
  | 7, _ => rfl
  | 8, _ => rfl
  | 9, _ => rfl
  | 10, _ => rfl
  | 11, _ => rfl
  | _ + 12, h => exact absurd h (by omega)⟩
theorem ki_X3_9 : LkI RX3 9 yJ5_init 0 := ⟨q195, q196, q81, rfl, ⟨by decide +kernel, by decide +kernel, by decide +kernel⟩, by decide +kernel⟩
theorem fp_X3_10_X3 : LkP RX3 "<init>" 10 ciX3 0 (tyX3 0) := ⟨RX3, TX3, 1, tyX3, _, cls_X3, by decide, rfl, Or.inl rfl, Or.inr (Or.inr ⟨rfl, rfl, rfl, q247⟩)⟩
set_option maxHeartbeats 4000000 in
set_option maxRecDepth 100000 in
theorem sp_X3_init {l : Launch} {s0 : State} {D : va_G} {I : AI} {L : AL} {a : Nat} (hΓ : Gam l s0 D) {x : Value} (h0 : L a = some (obC ciX3 [x])) : Spc l s0 D yX3_init 4 [.ref a] I L 1 12 (pU I L a (taC [])) noX := by
  refine Spc.of hΓ cX3_init 1 none q191 (by decide +kernel) (by decide) (Nat.le_of_ble_eq_true rfl) (fun G GX hG => ?_)
  refine hG.aload_n dX3_init_0 rfl ?_
  refine hG.objI dX3_init_1 q192 (Nat.le_of_ble_eq_true rfl) (by decide) ?_
  refine hG.aload_n dX3_init_4 rfl ?_
  refine hG.new dX3_init_5 nw_X3_7 (by omega) (by omega) (fun q hLq hIq => ?_)
  have hqa : q ≠ a := fun e => by subst e; rw [hLq] at h0; cases h0
  refine hG.dup dX3_init_8 rfl ?_
  refine hG.callI dX3_init_9 ki_X3_9 (sp_J5_init hΓ up1_s) rfl rfl (Nat.le_of_ble_eq_true rfl) (by decide) (by omega) (by omega) (fun r9 I9 L9 hI9 h9 => ?_) (fun _ _ _ _ _ h => h.elim)
  obtain ⟨rfl, rfl, rfl⟩ := h9
  refine hG.put dX3_init_12 fp_X3_10_X3 ((up1_n hqa.symm).trans ((up1_n hqa.symm).trans h0)) rfl rfl (Nat.le_of_ble_eq_true rfl) ?_
  refine hG.clT L [] hqa up1_s ((up1_n hqa).trans up1_s) rfl (fun z y hz hza => ?_) ?_
  · have hzq : z ≠ q := fun e => by subst e; rw [hLq] at hz; cases hz
    exact ⟨by simp [hza, hzq], by rw [up1_n hza, up1_n hzq, up1_n hzq]; exact hz⟩
  refine hG.vret dX3_init_15 rfl ?_ (by omega) (by omega) trivial
  exact ⟨rfl, rfl, rfl⟩
theorem fg_X3_10_X3 : LkG RX3 10 ciX3 0 := ⟨RX3, TX3, 1, tyX3, _, cls_X3, by decide, Or.inl rfl, Or.inl q247⟩
theorem kv_X3_16 : LkV RX3 16 yJ5_get 1 := ⟨q769, q770, q771, q81, by decide +kernel, by decide +kernel, by decide +kernel⟩
theorem kv_X3_22 : LkV RX3 22 yJ25_intValue 0 := ⟨q757, q758, q759, q105, by decide +kernel, by decide +kernel, by decide +kernel⟩
set_option maxHeartbeats 4000000 in
set_option maxRecDepth 100000 in
theorem sp_X3_of {l : Launch} {s0 : State} {D : va_G} {I : AI} {L : AL} {dE ca : Nat} {ad : Nat → Nat} {a : Nat} {t : Tal} (hΓ : Gam l s0 D) (hZ : Std s0 D dE ca ad) {c key : Nat} (h0 : L a = some (taC t)) (hc : c < 147) (hkey : I key (ob ciX9 (grp c))) : Spc l s0 D yX3_of 5 [.ref a, .ref key] I L 0 0 (pV (.int (tof t c)) I L) noX := by
  refine Spc.of hΓ cX3_of 3 (some FieldType.int) q768 (by decide +kernel) (by decide) (Nat.le_of_ble_eq_true rfl) (fun G GX hG => ?_)
  refine hG.opT h0 (fun mp mo es M hne hMa hMm ht hnc hlt hf => ?_)
  subst ht
  rcases hk : lkp es c with _ | x
  · refine hG.aload_n dX3_of_0 rfl ?_
    refine hG.get dX3_of_1 fg_X3_10_X3 (Or.inl hMa) rfl ?_
    refine hG.aload_n dX3_of_4 rfl ?_
    refine hG.callV dX3_of_5 kv_X3_16 (Rcv.mp hMm) (sp_J5_get hΓ hZ.nt hMm hc hkey) rfl rfl (Nat.le_of_ble_eq_true rfl) (by decide) (by omega) (by omega) (fun r5 I5 L5 hI5 h5 => ?_) (fun _ _ _ _ _ h => h.elim)
    obtain ⟨rfl, rfl, ⟨-, rfl⟩ | ⟨x, vr, hx, -⟩⟩ := h5
    rotate_left
    · rw [hk] at hx; cases hx
    refine hG.castN dX3_of_8 ?_
    refine hG.astore_nN dX3_of_11 (by decide) ?_
    refine hG.aload_nN dX3_of_12 rfl ?_
    refine hG.ifnonnullN dX3_of_13 ?_
    refine hG.iconst (v := 0) dX3_of_16 rfl ?_
    refine hG.goto (tgt := 24) dX3_of_17 rfl ?_
    refine hG.clT L _ hne hMa hMm rfl hf ?_
    rw [← h0, up1_self]
    refine hG.iret dX3_of_24 rfl ?_ (by omega) (by omega) trivial
    exact ⟨by rw [tof_tal, hk], rfl, rfl⟩
  · refine hG.aload_n dX3_of_0 rfl ?_
    refine hG.get dX3_of_1 fg_X3_10_X3 (Or.inl hMa) rfl ?_
    refine hG.aload_n dX3_of_4 rfl ?_
    refine hG.callV dX3_of_5 kv_X3_16 (Rcv.mp hMm) (sp_J5_get hΓ hZ.nt hMm hc hkey) rfl rfl (Nat.le_of_ble_eq_true rfl) (by decide) (by omega) (by omega) (fun r5 I5 L5 hI5 h5 => ?_) (fun _ _ _ _ _ h => h.elim)
    obtain ⟨rfl, rfl, ⟨hx, -⟩ | ⟨y, vr, hx, rfl, hvr⟩⟩ := h5
    · rw [hk] at hx; cases hx
    rw [hk] at hx
    cases hx
    refine hG.castS dX3_of_8 q756 (Rcv.imm hvr cl_J25) cl_J25 ?_
    refine hG.astore_n dX3_of_11 (by decide) ?_
    refine hG.aload_n dX3_of_12 rfl ?_
    refine hG.ifnonnull (tgt := 20) dX3_of_13 rfl ?_
    refine hG.aload_n dX3_of_20 rfl ?_
    refine hG.callV dX3_of_21 kv_X3_22 (Rcv.imm hvr cl_J25) (sp_J25_intValue hΓ (Or.inr hvr)) rfl rfl (Nat.le_of_ble_eq_true rfl) (by decide) (by omega) (by omega) (fun r21 I21 L21 hI21 h21 => ?_) (fun _ _ _ _ _ h => h.elim)
    obtain ⟨rfl, rfl, rfl⟩ := h21
    refine hG.clT L _ hne hMa hMm rfl hf ?_
    rw [← h0, up1_self]
    refine hG.iret dX3_of_24 rfl ?_ (by omega) (by omega) trivial
    exact ⟨by rw [tof_tal, hk], rfl, rfl⟩
theorem kv_X3_26 : LkV RX3 26 yX3_of 1 := ⟨q765, q766, q767, q78, by decide +kernel, by decide +kernel, by decide +kernel⟩
theorem ks_X3_33 : LkS RX3 33 yJ25_valueOf 1 := ⟨q1486, q1487, q105, by decide +kernel, by decide +kernel, by decide +kernel⟩
theorem ko_X3_37_J5 : LkU RX3 37 RJ5 ⟨"java/util/LinkedHashMap", "put", "(Ljava/lang/Object;Ljava/lang/Object;)Ljava/lang/Object;"⟩ yJ4_put 2 := ⟨_, q1505, q1506, q1508, q1509, q80, by decide +kernel, by decide +kernel, by decide +kernel, Or.inl rfl⟩
theorem ko_X3_30_J5 : LkU RX3 30 RJ5 ⟨"java/util/LinkedHashMap", "remove", "(Ljava/lang/Object;)Ljava/lang/Object;"⟩ yJ4_remove 1 := ⟨_, q1384, q1385, q1387, q1388, q80, by decide +kernel, by decide +kernel, by decide +kernel, Or.inl rfl⟩
set_option maxHeartbeats 4000000 in
set_option maxRecDepth 100000 in
theorem sp_X3_add {l : Launch} {s0 : State} {D : va_G} {I : AI} {L : AL} {dE ca : Nat} {ad : Nat → Nat} {a : Nat} {t : Tal} (hΓ : Gam l s0 D) (hZ : Std s0 D dE ca ad) {c key : Nat} {m : Int32} (h0 : L a = some (taC t)) (hc : c < 147) (hkey : I key (ob ciX9 (grp c))) (hl : t.length ≤ 23) (hm : tof t c + m = 0 → ∃ v, (c, v) ∈ t) : Spc l s0 D yX3_add 8 [.ref a, .ref key, .int m] I L 3 39 (fun r I' L' => r = none ∧ L' = up1 L a (some (taC (tadd t c m)))) noX := by
  refine Spc.of hΓ cX3_add 5 none q764 (by decide +kernel) (by decide) (Nat.le_of_ble_eq_true rfl) (fun G GX hG => ?_)
  refine hG.aload_n dX3_add_0 rfl ?_
  refine hG.aload_n dX3_add_1 rfl ?_
  refine hG.callV dX3_add_2 kv_X3_26 (Rcv.ta h0) (sp_X3_of hΓ hZ h0 hc hkey) rfl rfl (Nat.le_of_ble_eq_true rfl) (by decide) (by omega) (by omega) (fun r2 I2 L2 hI2 h2 => ?_) (fun _ _ _ _ _ h => h.elim)
  obtain ⟨rfl, rfl, rfl⟩ := h2
  refine hG.iload_n dX3_add_5 rfl ?_
  refine hG.iadd dX3_add_6 ?_
  refine hG.istore_n dX3_add_7 (by decide) ?_
  refine hG.iload_n dX3_add_8 rfl ?_
  refine hG.if_ne (tgt := 28) dX3_add_9 rfl (fun c_9 => ?_) (fun c_9 => ?_)
  · refine hG.opT h0 (fun mp mo es M hne hMa hMm ht hnc hlt hf => ?_)
    subst ht
    have c9 : ¬ tof (tal es) c + m = 0 := c_9
    refine hG.aload_n dX3_add_28 rfl ?_
    refine hG.get dX3_add_29 fg_X3_10_X3 (Or.inl hMa) rfl ?_
    refine hG.aload_n dX3_add_32 rfl ?_
    refine hG.iload_n dX3_add_33 rfl ?_
    refine hG.callS dX3_add_34 ks_X3_33 (sp_J25_valueOf hΓ hZ.ix) rfl rfl (Nat.le_of_ble_eq_true rfl) (by decide) (by omega) (by omega) (fun r34 I34 L34 hI34 h34 => ?_) (fun _ _ _ _ _ h => h.elim)
    obtain ⟨rfl, b, rfl, hb⟩ := h34
    refine hG.callU dX3_add_37 ko_X3_37_J5 (Rcv.mp hMm) (sp_J4_put hΓ hZ.nt hMm (by simpa [tal] using hl) hc (hI34 _ _ hkey) hb) rfl rfl (Nat.le_of_ble_eq_true rfl) (by decide) (by omega) (by omega) (fun r37 I37 L37 hI37 h37 => ?_) (fun _ _ _ _ _ h => h.elim)
    obtain ⟨rfl, ⟨o, rfl, ho⟩, q, mo', rfl⟩ := h37
    rcases o with _ | o
    · refine hG.castN dX3_add_40 ?_
      refine hG.astoreN dX3_add_43 (by decide) ?_
      refine hG.clT L _ hne ((up1_n hne.symm).trans hMa) up1_s (tadd_put c9).symm (hf.up (by simp) _) ?_
      refine hG.vret dX3_add_45 rfl ?_ (by omega) (by omega) trivial
      exact ⟨rfl, rfl⟩
    obtain ⟨w, hw⟩ := ho o rfl
    refine hG.castS dX3_add_40 q756 (Rcv.imm hw cl_J25) cl_J25 ?_
    refine hG.clT L _ hne ((up1_n hne.symm).trans hMa) up1_s (tadd_put c9).symm (hf.up (by simp) _) ?_
    refine hG.astore dX3_add_43 (by decide) ?_
    refine hG.vret dX3_add_45 rfl ?_ (by omega) (by omega) trivial
    exact ⟨rfl, rfl⟩
  · refine hG.opT h0 (fun mp mo es M hne hMa hMm ht hnc hlt hf => ?_)
    subst ht
    have c9 : tof (tal es) c + m = 0 := by simpa using c_9
    obtain ⟨v, hv⟩ := hm c9
    obtain ⟨y, hy, hye⟩ := List.mem_map.mp hv
    obtain ⟨x, hx⟩ : ∃ x, lkp es c = some x := by
      have hyc : y.2.1 = c := by rw [hye]
      exact ⟨y, by rw [← hyc]; exact lkp_of hnc hy⟩
    obtain ⟨pre, post, rfl, rfl⟩ := lkp_split hx
    refine hG.aload_n dX3_add_12 rfl ?_
    refine hG.get dX3_add_13 fg_X3_10_X3 (Or.inl hMa) rfl ?_
    refine hG.aload_n dX3_add_16 rfl ?_
    refine hG.callU dX3_add_17 ko_X3_30_J5 (Rcv.mp hMm) (sp_J4_remove hΓ hZ.nt hMm hkey) rfl rfl (Nat.le_of_ble_eq_true rfl) (by decide) (by omega) (by omega) (fun r17 I17 L17 hI17 h17 => ?_) (fun _ _ _ _ _ h => h.elim)
    obtain ⟨rfl, rfl, g, rfl, hg⟩ := h17
    refine hG.castS dX3_add_20 q756 (Rcv.imm hg cl_J25) cl_J25 ?_
    refine hG.astore dX3_add_23 (by decide) ?_
    refine hG.clT L _ hne ((up1_n hne.symm).trans hMa) up1_s (tadd_rm hnc c9).symm (hf.up (by simp) _) ?_
    refine hG.goto (tgt := 45) dX3_add_25 rfl ?_
    refine hG.vret dX3_add_45 rfl ?_ (by omega) (by omega) trivial
    exact ⟨rfl, rfl⟩
