/-! a hidden method of a class above -/
theorem k_selP {C : String} {y z : MethodName} {s : State} {args : Array Value} (hy : y.cls ≠ "java/lang/invoke/MethodHandle" ∧ y.cls ≠ "java/lang/invoke/VarHandle") (hsel : (Cond.selects C z z).before args s = true) (hz : z.cls = y.cls) (hpriv : (Cond.privateMethod y).before args s = true) (hinst : (Cond.instanceMethod y).before args s = true) : (Cond.selects C y y).before args s = true := by
  obtain ⟨mk, methM, hnamed, hmethM, -, -⟩ := Cond.instanceMethod_spec hinst
  have hfound : s.methodFound? y.cls y.name y.desc = some mk := State.methodFound?_of_named hnamed hy
  have hsl : ∀ c, selectMethod {} s.vm c mk = .method mk := fun c => selectMethod_private hmethM (Cond.privateMethod_at hpriv mk methM hnamed hmethM)
  simp only [Cond.before, Cond.holds, Cond.value] at hsel ⊢
  rw [hfound, hnamed]
  cases hc : s.vm.findClass C with
  | none => rw [hc] at hsel; simp at hsel
  | some c =>
    rw [hc] at hsel
    cases hr : s.methodFound? z.cls z.name z.desc with
    | none => rw [hr] at hsel; simp at hsel
    | some r =>
      rw [hr] at hsel
      cases hm : s.methodNamed? z with
      | none => rw [hm] at hsel; simp at hsel
      | some m =>
        rw [hm] at hsel
        have hcl : m.cls = mk.cls := Option.some.inj ((findClass_of_methodNamed hm).symm.trans ((congrArg s.vm.findClass hz).trans (findClass_of_methodNamed hnamed)))
        simp only [hsl]
        simp only [Option.getD_some, decide_true, Bool.true_and] at hsel ⊢
        split at hsel
        · have h9 := Option.some.inj (eq_of_beq hsel)
          rw [Bool.and_eq_true] at h9
          rw [← hcl, h9.2]
          rfl
        · cases hsel
theorem good_sel {own C : String} {idx : Nat} {y : MethodName} {ws : List Cond} (k1 : Cond.methodLink own idx y ∈ lw_all) (k2 : Cond.sameMethod y.cls y.cls y.name y.desc ∈ lw_all) (k4 : Cond.instanceMethod y ∈ lw_all) (k5 : Cond.initialized y.cls ∈ lw_all) (h : GoodIn lw_all ws) : GoodIn (Cond.selects C y y :: lw_all) (va_wsU own idx C y.cls y y ws) := fun w hw => by
  unfold va_wsU at hw
  rcases List.mem_append.mp hw with hw | hw
  · simp only [List.mem_cons, List.not_mem_nil, or_false] at hw
    rcases hw with e | e | e | e | e
    · rw [e]; exact ⟨List.mem_cons_of_mem _ (lw_self _ k1).1, (lw_self _ k1).2⟩
    · rw [e]; exact ⟨List.mem_cons_of_mem _ (lw_self _ k2).1, (lw_self _ k2).2⟩
    · rw [e]; exact ⟨List.mem_cons_self, good_of_word rfl⟩
    · rw [e]; exact ⟨List.mem_cons_of_mem _ (lw_self _ k4).1, (lw_self _ k4).2⟩
    · rw [e]; exact ⟨List.mem_cons_of_mem _ (lw_self _ k5).1, (lw_self _ k5).2⟩
  · exact ⟨List.mem_cons_of_mem _ (h w hw).1, (h w hw).2⟩
def LkP2 (own : String) (idx : Nat) (C : String) (y : MethodName) (na : Nat) : Prop := ∃ z : MethodName, Cond.methodLink own idx y ∈ lw_all ∧ Cond.sameMethod y.cls y.cls y.name y.desc ∈ lw_all ∧ Cond.selects C z z ∈ lw_all ∧ z.cls = y.cls ∧ Cond.privateMethod y ∈ lw_tbl ∧ Cond.instanceMethod y ∈ lw_all ∧ Cond.initialized y.cls ∈ lw_all ∧ y.cls ≠ "java/lang/invoke/MethodHandle" ∧ y.cls ≠ "java/lang/invoke/VarHandle" ∧ (parseMethodDescriptor y.desc).map (fun d => d.parameters.length) = some na
section CALLP
variable {l : Launch} {s0 : State} {D : va_G} {own nm : String} {cc : ByteArray} {nL : Nat} {ret : Option FieldType} {tab : List ExceptionTableEntry} {d mc ms : Nat} {Ib : AI} {post : Option Value → AI → AL → Prop} {xp : String → Nat → AI → AL → Prop} {md : Prop} {G : Gt} {GX : GXt}
variable {pc : Nat} {ls : List (Nat × Value)} {st : List Value} {I : AI} {L : AL} {k n : Nat}
theorem IsG.callP (hG : IsG l s0 D own nm cc nL ret tab d mc ms Ib post xp md G GX) {y : MethodName} {idx na : Nat} {d' mc' ms' : Nat} {As rest : List Value} {post' : Option Value → AI → AL → Prop} {xp' : String → Nat → AI → AL → Prop} {b : Nat} {C : String} (hd : decode cc pc = .ok (.invokevirtual idx, 3)) (hk9 : LkP2 own idx C y na) (hv : Rcv s0 D I L b C) (hS9 : Spc l s0 D y d' (.ref b :: As) I L mc' ms' post' xp') (hn9 : As.length = na) (hst : st = As.reverse ++ .ref b :: rest) (hw9 : (rest.map fun v => v.category).sum ≤ 8) (hdd : d' + 1 ≤ d) (hc9 : k + mc' ≤ mc) (hs9 : n + ms' ≤ ms) (kk : ∀ r I' L', ile I I' → post' r I' L' → G (pc + 3) ls (r.toList ++ rest) I' L' (k + mc') (n + ms')) (kx : ∀ E q I' L', ile I I' → xp' E q I' L' → GX pc ls rest E q I' L' (k + mc') (n + ms')) : G pc ls st I L k n := by
  obtain ⟨p, e, s, m, args, below, meth, c, R, Q, hΓ, hx, hb, hr, hml, hown, hts, hlk, hnm, hW, htab, hF, hR, hmd, rfl, rfl⟩ := hG
  obtain ⟨z, k1, k2, k3, kz, kp, k4, k5, k6, k7, k8⟩ := hk9
  obtain ⟨⟨b0, hw0⟩, -⟩ := hΓ
  have hsel : (Cond.selects C y y).before args s = true := k_selP ⟨k6, k7⟩ (hts _ k3) kz (cast_warm hW rfl (hw0 _ kp)) (hts _ k4)
  obtain ⟨cc9, nL9, ret9, hnL9, hw, hM⟩ := hS9
  intro H locs lsA hl hS hV hI
  have hrc : ∃ cellB : Cell, H[b]? = some cellB ∧ cellB.vm.isStatics = false ∧ s.vm.findClass C = some cellB.cls := by
    obtain ⟨cell, g1, g2, g3⟩ := hv H hS
    exact ⟨cell, g1, by rw [g2]; rfl, by rw [hW.alike.findClass]; exact g3⟩
  exact run_go hF hV hI hl (vx_runU ⟨hx, hb, hml, hown, hts⟩ hM (va_cwU na (Ts := Cond.selects C y y :: lw_all) (fun w hw9 => by rcases List.mem_cons.mp hw9 with e | e; rw [e]; exact hsel; exact hts w e) (good_sel k1 k2 k4 k5 (lw_meth hw)) rfl rfl rfl rfl ⟨k6, k7, k8⟩ ⟨Nat.le_trans hdd hR.1, by show 8 + (nL9 + 11) + 64 * d' ≤ _; omega⟩) ⟨PcS.blind, hrc, fun U hU hWU => ⟨rfl, State.WarmedH.trans hW hWU, by rw [hU]; exact hS⟩⟩ rfl hn9 (hl.1) hst (lv_room hw9) hd ⟨Nat.le_trans hc9 hR.2.2.1, Nat.le_trans hs9 hR.2.2.2⟩) kk kx
end CALLP
/-! java.lang.StringBuilder: one cell; raw and closed -/
def SbF (b k : Nat) (cs : List Nat) (m : Nat) (f : Nat → Int32) : Prop := Bs f (enc k cs) ∧ Fb (m * (k + 1)) f ∧ Cok k cs ∧ cs.length ≤ m ∧ 16 ≤ m ∧ m ≤ 2 * b + 34 ∧ cs.length ≤ b ∧ b ≤ 400
def sbΦ (b k : Nat) (ml : Int32) (cs : List Nat) : AI → Nat → AL → Prop := fun _ a S => ∃ (arr m : Nat) (f : Nat → Int32), S a = some (obC ciJ8 [.ref arr, .int (nI k), .int ml, .int (nI cs.length)]) ∧ S arr = some (.inl (arB (m * (k + 1)) f)) ∧ SbF b k cs m f ∧ arr ≠ a
abbrev sbC (b k : Nat) (ml : Int32) (cs : List Nat) : Cel := cel 4 (sbΦ b k ml cs)
/-- opened: cn the count -/
def SbR (L0 M : AL) (a b k : Nat) (ml : Int32) (cn : Nat) (cs : List Nat) (arr m : Nat) (f : Nat → Int32) : Prop := M a = some (obC ciJ8 [.ref arr, .int (nI k), .int ml, .int (nI cn)]) ∧ M arr = some (.inl (arB (m * (k + 1)) f)) ∧ SbF b k cs m f ∧ arr ≠ a ∧ Frm L0 a [a, arr] M
theorem SbF.k {b k m : Nat} {cs : List Nat} {f : Nat → Int32} (h : SbF b k cs m f) : k ≤ 1 := h.2.2.1.le
theorem SbF.mk2 {b k m : Nat} {cs : List Nat} {f : Nat → Int32} (h : SbF b k cs m f) : m * (k + 1) ≤ m * 2 := Nat.mul_le_mul_left _ (by have := h.k; omega)
theorem Frm.both {L M : AL} {a q : Nat} {N : List Nat} (h : Frm L a N M) (hq : q ∉ N) (c : Option Cel) : Frm (up1 L q c) a N (up1 M q c) := fun z x hz hza => by
  by_cases e : z = q
  · subst e
    rw [up1_s] at hz ⊢
    exact ⟨hq, hz⟩
  · rw [up1_n e] at hz ⊢
    exact h z x hz hza
theorem Frm.non {L M : AL} {a q : Nat} {N : List Nat} (h : Frm L a N M) (hq : M q = none) (ha : M a ≠ none) : L q = none := by
  cases hx : L q with
  | none => rfl
  | some x =>
    have hqa : q ≠ a := fun e => ha (e ▸ hq)
    rw [(h q x hx hqa).2] at hq
    cases hq
theorem Frm.gar {L M : AL} {a q : Nat} {N : List Nat} (h : Frm L a N M) (hq : L q = none) (c : Option Cel) : Frm L a N (up1 M q c) := fun z x hz hza => by
  have e : z ≠ q := fun e => by rw [e, hq] at hz; cases hz
  rw [up1_n e]
  exact h z x hz hza
theorem Frm.sw {L M : AL} {a q p : Nat} (h : Frm L a [a, p] M) (hq : L q = none) : Frm L a [a, q] M := fun z x hz hza => by
  refine ⟨fun hm => ?_, (h z x hz hza).2⟩
  rcases List.mem_cons.mp hm with e | e
  · exact hza e
  · rw [List.mem_singleton.mp e, hq] at hz
    cases hz
section SBX
variable {l : Launch} {s0 : State} {D : va_G} {own nm : String} {cc : ByteArray} {nL : Nat} {ret : Option FieldType} {tab : List ExceptionTableEntry} {d mc ms : Nat} {Ib : AI} {post : Option Value → AI → AL → Prop} {xp : String → Nat → AI → AL → Prop} {md : Prop} {G : Gt} {GX : GXt}
variable {pc : Nat} {ls : List (Nat × Value)} {st : List Value} {I : AI} {L : AL} {k n : Nat}
theorem IsG.opSb (hG : IsG l s0 D own nm cc nL ret tab d mc ms Ib post xp md G GX) {a b kd : Nat} {ml : Int32} {cs : List Nat} (ha : L a = some (sbC b kd ml cs)) (kk : ∀ (arr m : Nat) (f : Nat → Int32) (M : AL), SbR L M a b kd ml cs.length cs arr m f → G pc ls st I M k n) : G pc ls st I L k n := by
  refine hG.opn ha (fun J S M hJ hΦ h1 h2 => ?_)
  obtain ⟨arr, m, f, e1, e2, e3, e4⟩ := hΦ
  refine kk arr m f M ⟨h1 _ _ e1, h1 _ _ e2, e3, e4, frm_of [a, arr] (fun q hq hqa => ?_) h2⟩
  rcases List.mem_cons.mp hq with e | e
  · exact absurd e hqa
  · rw [List.mem_singleton.mp e, e2]; exact (fun h => nomatch h)
theorem IsG.clSb (hG : IsG l s0 D own nm cc nL ret tab d mc ms Ib post xp md G GX) {a b kd arr m cn : Nat} {ml : Int32} {cs : List Nat} {M : AL} {f : Nat → Int32} (L : AL) (h : SbR L M a b kd ml cn cs arr m f) (hc : cn = cs.length) (kk : G pc ls st I (up1 L a (some (sbC b kd ml cs))) k n) : G pc ls st I M k n := by
  obtain ⟨h1, h2, h3, h4, h5⟩ := h
  subst hc
  exact hG.clz 4 L [a, arr] h5 (by simp) (by rw [h1]; exact (fun h => nomatch h)) ⟨arr, m, f, rst_at (by simp) h1, rst_at (by simp) h2, h3, h4⟩ kk
theorem IsG.clSs (hG : IsG l s0 D own nm cc nL ret tab d mc ms Ib post xp md G GX) {a b kd arr m : Nat} {ml : Int32} {cs : List Nat} {M : AL} {f : Nat → Int32} (L : AL) (ha : L a = some (sbC b kd ml cs)) (h : SbR L M a b kd ml cs.length cs arr m f) (kk : G pc ls st I L k n) : G pc ls st I M k n :=
  hG.clSb L h rfl (by rw [← ha, up1_self]; exact kk)
end SBX
theorem Rcv.sb {s0 : State} {D : va_G} {I : AI} {L : AL} {a b k : Nat} {ml : Int32} {cs : List Nat} (h : L a = some (sbC b k ml cs)) : Rcv s0 D I L a "java/lang/StringBuilder" := by
  intro H hS
  obtain ⟨J, S, h1, h2, h3, h4, h5⟩ := hS.op h
  obtain ⟨arr, m, f, k1, -⟩ := h2
  exact Rcv.raw (ovl_in k1) cl_J8 H h5
theorem SbR.cnt {L0 M : AL} {a b k : Nat} {ml : Int32} {cn : Nat} {cs : List Nat} {arr m : Nat} {f : Nat → Int32} (h : SbR L0 M a b k ml cn cs arr m f) (cn2 : Nat) : SbR L0 (up1 M a (some (obC ciJ8 [.ref arr, .int (nI k), .int ml, .int (nI cn2)]))) a b k ml cn2 cs arr m f := ⟨up1_s, (up1_n h.2.2.2.1).trans h.2.1, h.2.2.1, h.2.2.2.1, h.2.2.2.2.up (by simp) _⟩
theorem SbR.arr {L0 M : AL} {a b k : Nat} {ml : Int32} {cn : Nat} {cs ds : List Nat} {arr m : Nat} {f g : Nat → Int32} (h : SbR L0 M a b k ml cn cs arr m f) (hg : SbF b k ds m g) : SbR L0 (up1 M arr (some (.inl (arB (m * (k + 1)) g)))) a b k ml cn ds arr m g := ⟨(up1_n h.2.2.2.1.symm).trans h.1, up1_s, hg, h.2.2.2.1, h.2.2.2.2.up (by simp) _⟩
theorem SbF.app {b k m : Nat} {cs ds : List Nat} {f g : Nat → Int32} (h : SbF b k cs m f) (hd : Cok k ds) (hl : (cs ++ ds).length ≤ m) (hb : (cs ++ ds).length ≤ b) (h1 : ∀ j, j < cs.length * (k + 1) → g j = f j) (h2 : ∀ i x, (enc k ds)[i]? = some x → g (cs.length * (k + 1) + i) = x) (h3 : Fb (m * (k + 1)) g) : SbF b k (cs ++ ds) m g := by
  obtain ⟨e1, e2, e3, e4, e5, e6, e7, e8⟩ := h
  refine ⟨?_, h3, e3.app hd, hl, e5, e6, hb, e8⟩
  rw [enc_app]
  refine Bs.app (fun i x hx => ?_) (fun i x hx => ?_)
  · have hi := (List.getElem?_eq_some_iff.mp hx).1
    rw [enc_len e3.le] at hi
    rw [h1 i hi]
    exact e1 i x hx
  · rw [enc_len e3.le]
    exact h2 i x hx
theorem kcase {k : Nat} (hk : k ≤ 1) : k = 0 ∨ k = 1 := Nat.le_one_iff_eq_zero_or_eq_one.mp hk
theorem ncap_eq {k m j : Nat} (hk : k ≤ 1) (h : m < j) : (m * (k + 1) + (if (j - m) * (k + 1) < m * (k + 1) + 2 * (k + 1) then m * (k + 1) + 2 * (k + 1) else (j - m) * (k + 1))) = (m + (if j - m < m + 2 then m + 2 else j - m)) * (k + 1) := by
  rcases kcase hk with rfl | rfl
  · split <;> split <;> omega
  · split <;> split <;> omega
theorem cls_J8 : CLs ciJ8 RJ8 TJ8 4 tyJ8 := ⟨rfl, in_J8, tyJ8_ok, nmJ8⟩
theorem fg_J7_15_J8 : LkG RJ7 15 ciJ8 0 := ⟨RJ8, TJ8, 4, tyJ8, _, cls_J8, by decide, Or.inl rfl, Or.inl q343⟩
set_option maxHeartbeats 4000000 in
set_option maxRecDepth 100000 in
theorem sp_J7_getValue {l : Launch} {s0 : State} {D : va_G} {I : AI} {L : AL} (hΓ : Gam l s0 D) {a : Nat} {arr k cn : Nat} {ml : Int32} (h1 : L a = some (obC ciJ8 [.ref arr, .int (nI k), .int ml, .int (nI cn)])) : Spc l s0 D yJ7_getValue 1 [.ref a] I L 0 0 (pV (.ref arr) I L) noX := by
  refine Spc.of hΓ cJ7_getValue 1 (some (FieldType.array FieldType.byte)) q1032 (by decide +kernel) (by decide) (Nat.le_of_ble_eq_true rfl) (fun G GX hG => ?_)
  refine hG.aload_n dJ7_getValue_0 rfl ?_
  refine hG.get dJ7_getValue_1 fg_J7_15_J8 (Or.inl h1) rfl ?_
  refine hG.aret dJ7_getValue_4 rfl (by first | exact Or.inl ⟨_, rfl⟩ | exact Or.inr ⟨_, rfl⟩) (by first | exact Or.inr ⟨_, rfl⟩ | exact Or.inl rfl) ?_ (by omega) (by omega) trivial
  exact ⟨rfl, rfl, rfl⟩
theorem fg_J7_79_J8 : LkG RJ7 79 ciJ8 3 := ⟨RJ8, TJ8, 4, tyJ8, _, cls_J8, by decide, Or.inl rfl, Or.inl q347⟩
set_option maxHeartbeats 4000000 in
set_option maxRecDepth 100000 in
theorem sp_J7_length {l : Launch} {s0 : State} {D : va_G} {I : AI} {L : AL} (hΓ : Gam l s0 D) {a : Nat} {arr k cn : Nat} {ml : Int32} (h1 : L a = some (obC ciJ8 [.ref arr, .int (nI k), .int ml, .int (nI cn)])) : Spc l s0 D yJ7_length 1 [.ref a] I L 0 0 (pV (.int (nI cn)) I L) noX := by
  refine Spc.of hΓ cJ7_length 1 (some FieldType.int) q1040 (by decide +kernel) (by decide) (Nat.le_of_ble_eq_true rfl) (fun G GX hG => ?_)
  refine hG.aload_n dJ7_length_0 rfl ?_
  refine hG.get dJ7_length_1 fg_J7_79_J8 (Or.inl h1) rfl ?_
  refine hG.iret dJ7_length_4 rfl ?_ (by omega) (by omega) trivial
  exact ⟨rfl, rfl, rfl⟩
theorem fg_J7_22_J8 : LkG RJ7 22 ciJ8 1 := ⟨RJ8, TJ8, 4, tyJ8, _, cls_J8, by decide, Or.inl rfl, Or.inl q344⟩
set_option maxHeartbeats 4000000 in
set_option maxRecDepth 100000 in
theorem sp_J7_isLatin1 {l : Launch} {s0 : State} {D : va_G} {I : AI} {L : AL} {o : Option Nat} (hΓ : Gam l s0 D) (hX : StV s0 o) {a : Nat} {arr k cn : Nat} {ml : Int32} (h1 : L a = some (obC ciJ8 [.ref arr, .int (nI k), .int ml, .int (nI cn)])) (hk : k ≤ 1) : Spc l s0 D yJ7_isLatin1 1 [.ref a] I L 0 0 (pV (.int (b2i (decide (k = 0)))) I L) noX := by
  refine Spc.of hΓ cJ7_isLatin1 1 (some FieldType.boolean) q930 (by decide +kernel) (by decide) (Nat.le_of_ble_eq_true rfl) (fun G GX hG => ?_)
  refine hG.gets dJ7_isLatin1_0 hX.cs q334 (Or.inl rfl) ?_
  refine hG.if_eq (tgt := 17) dJ7_isLatin1_3 rfl (fun c_3 => absurd c_3 (by decide)) (fun c_3 => ?_)
  refine hG.aload_n dJ7_isLatin1_6 rfl ?_
  refine hG.get dJ7_isLatin1_7 fg_J7_22_J8 (Or.inl h1) rfl ?_
  refine hG.if_ne (tgt := 17) dJ7_isLatin1_10 rfl (fun c_10 => ?_) (fun c_10 => ?_)
  · refine hG.iconst (v := 0) dJ7_isLatin1_17 rfl ?_
    refine hG.zret dJ7_isLatin1_18 rfl (by first | rfl | decide) ?_ (by omega) (by omega) trivial
    first
    | exact ⟨by rw [show decide (k = 0) = true from decide_eq_true ((k_eq hk).mp c_10)]; rfl, rfl, rfl⟩
    | exact ⟨by rw [show decide (k = 0) = false from decide_eq_false (fun q => c_10 ((k_eq hk).mpr q))]; rfl, rfl, rfl⟩
  · refine hG.iconst (v := 1) dJ7_isLatin1_13 rfl ?_
    refine hG.goto (tgt := 18) dJ7_isLatin1_14 rfl ?_
    refine hG.zret dJ7_isLatin1_18 rfl (by first | rfl | decide) ?_ (by omega) (by omega) trivial
    first
    | exact ⟨by rw [show decide (k = 0) = true from decide_eq_true ((k_eq hk).mp c_10)]; rfl, rfl, rfl⟩
    | exact ⟨by rw [show decide (k = 0) = false from decide_eq_false (fun q => c_10 ((k_eq hk).mpr q))]; rfl, rfl, rfl⟩
theorem fp_J7_15_J8 {nm : String} : LkP RJ7 nm 15 ciJ8 0 (tyJ8 0) := ⟨RJ8, TJ8, 4, tyJ8, _, cls_J8, by decide, rfl, Or.inl rfl, Or.inl ⟨rfl, q343⟩⟩
theorem fp_J7_22_J8 {nm : String} : LkP RJ7 nm 22 ciJ8 1 (tyJ8 1) := ⟨RJ8, TJ8, 4, tyJ8, _, cls_J8, by decide, rfl, Or.inl rfl, Or.inl ⟨rfl, q344⟩⟩
set_option maxHeartbeats 4000000 in
set_option maxRecDepth 100000 in
theorem sp_J7_init {l : Launch} {s0 : State} {D : va_G} {I : AI} {L : AL} {o : Option Nat} (hΓ : Gam l s0 D) (hX : StV s0 o) {a b : Nat} (hb : b ≤ 400) (h1 : L a = some (obC ciJ8 [.null, .int 0, .int 0, .int 0])) : Spc l s0 D yJ7_init 2 [.ref a, .int 16] I L 1 16 (pU I L a (sbC b 0 0 [])) noX := by
  refine Spc.of hΓ cJ7_init 2 none q332 (by decide +kernel) (by decide) (Nat.le_of_ble_eq_true rfl) (fun G GX hG => ?_)
  refine hG.aload_n dJ7_init_0 rfl ?_
  refine hG.objI dJ7_init_1 q333 (Nat.le_of_ble_eq_true rfl) (by decide) ?_
  refine hG.gets dJ7_init_4 hX.cs q334 (Or.inl rfl) ?_
  refine hG.if_eq (tgt := 25) dJ7_init_7 rfl (fun c_7 => absurd c_7 (by decide)) (fun c_7 => ?_)
  refine hG.aload_n dJ7_init_10 rfl ?_
  refine hG.iload_n dJ7_init_11 rfl ?_
  refine hG.newa .byte (16, .inl (fun _ => 0)) dJ7_init_12 q357 rfl (arB_new _) (by decide) rfl (by decide) (by omega) (by omega) (fun q hLq hIq => ?_)
  have hqa : q ≠ a := fun e => by subst e; rw [hLq] at h1; cases h1
  refine hG.put dJ7_init_14 fp_J7_15_J8 ((up1_n hqa.symm).trans h1) rfl rfl (Nat.le_of_ble_eq_true rfl) ?_
  refine hG.aload_n dJ7_init_17 rfl ?_
  refine hG.iconst (v := 0) dJ7_init_18 rfl ?_
  refine hG.put dJ7_init_19 fp_J7_22_J8 up1_s rfl rfl (Nat.le_of_ble_eq_true rfl) ?_
  rw [up1_up1]
  have hR : SbR L (up1 (up1 L q (some (.inl (arB 16 (fun _ => 0))))) a (some (obC ciJ8 [.ref q, .int 0, .int 0, .int 0]))) a b 0 0 0 [] q 16 (fun _ => 0) := ⟨up1_s, (up1_n hqa).trans up1_s, ⟨fun i x hx => (nomatch hx), fun j _ => rfl, Or.inl ⟨rfl, fun c hc => (nomatch hc)⟩, by decide, by decide, by omega, by simp, hb⟩, hqa, fun z x hz hza => by
    have hzq : z ≠ q := fun e => by rw [e, hLq] at hz; cases hz
    exact ⟨by simp [hza, hzq], (up1_n hza).trans ((up1_n hzq).trans hz)⟩⟩
  refine hG.clSb L hR rfl ?_
  refine hG.goto (tgt := 38) dJ7_init_22 rfl ?_
  refine hG.vret dJ7_init_38 rfl ?_ (by omega) (by omega) trivial
  exact ⟨rfl, rfl, rfl⟩
theorem ki_J8_1 : LkI RJ8 1 yJ7_init 1 := ⟨q330, q331, q83, rfl, ⟨by decide +kernel, by decide +kernel, by decide +kernel⟩, by decide +kernel⟩
set_option maxHeartbeats 4000000 in
set_option maxRecDepth 100000 in
theorem sp_J8_init {l : Launch} {s0 : State} {D : va_G} {I : AI} {L : AL} {o : Option Nat} (hΓ : Gam l s0 D) (hX : StV s0 o) {a b : Nat} (hb : b ≤ 400) (h1 : L a = some (obC ciJ8 [.null, .int 0, .int 0, .int 0])) : Spc l s0 D yJ8_init 3 [.ref a] I L 1 16 (pU I L a (sbC b 0 0 [])) noX := by
  refine Spc.of hΓ cJ8_init 1 none q329 (by decide +kernel) (by decide) (Nat.le_of_ble_eq_true rfl) (fun G GX hG => ?_)
  refine hG.aload_n dJ8_init_0 rfl ?_
  refine hG.bipush (v := 16) dJ8_init_1 rfl ?_
  refine hG.callI dJ8_init_3 ki_J8_1 (sp_J7_init hΓ hX hb h1) rfl rfl (Nat.le_of_ble_eq_true rfl) (by decide) (by omega) (by omega) (fun r3 I3 L3 hI3 h3 => ?_) (fun _ _ _ _ _ h => h.elim)
  obtain ⟨rfl, rfl, rfl⟩ := h3
  refine hG.vret dJ8_init_6 rfl ?_ (by omega) (by omega) trivial
  exact ⟨rfl, rfl, rfl⟩
theorem ks_J7_114 : LkS RJ7 114 yJ17_newLength 3 := ⟨q914, q579, q96, by decide +kernel, by decide +kernel, by decide +kernel⟩
set_option maxHeartbeats 4000000 in
set_option maxRecDepth 100000 in
theorem sp_J7_newCapacity {l : Launch} {s0 : State} {D : va_G} {I : AI} {L : AL} (hΓ : Gam l s0 D) {L0 : AL} {a b k cn arr m : Nat} {ml : Int32} {cs : List Nat} {f : Nat → Int32} (h : SbR L0 L a b k ml cn cs arr m f) {j : Nat} (hmj : m < j) (hj : j ≤ b) : Spc l s0 D yJ7_newCapacity 2 [.ref a, .int (nI j)] I L 0 0 (pV (.int (nI (m + (if j - m < m + 2 then m + 2 else j - m)))) I L) noX := by
  refine Spc.of hΓ cJ7_newCapacity 6 (some FieldType.int) q913 (by decide +kernel) (by decide) (Nat.le_of_ble_eq_true rfl) (fun G GX hG => ?_)
  obtain ⟨h1, h2, hF, hne, hfr⟩ := id h
  obtain ⟨hbs, hfb, hco, hlm, hm16, hmb, hlb, hb4⟩ := id hF
  have hk := hF.k
  have hmk := hF.mk2
  have hjk : (j - m) * (k + 1) ≤ (j - m) * 2 := Nat.mul_le_mul_left _ (by omega)
  have h2k : 2 * (k + 1) ≤ 4 := by omega
  have hjk2 : j * (k + 1) ≤ j * 2 := Nat.mul_le_mul_left _ (by omega)
  have hcap : (m + (if j - m < m + 2 then m + 2 else j - m)) * (k + 1) ≤ (m + (if j - m < m + 2 then m + 2 else j - m)) * 2 := Nat.mul_le_mul_left _ (by omega)
  have hcp2 : (m + (if j - m < m + 2 then m + 2 else j - m)) ≤ 2 * b + 34 := by split <;> omega
  refine hG.aload_n dJ7_newCapacity_0 rfl ?_
  refine hG.get dJ7_newCapacity_1 fg_J7_15_J8 (Or.inl h1) rfl ?_
  refine hG.alen dJ7_newCapacity_4 (Or.inl h2) ?_
  refine hG.istore_n dJ7_newCapacity_5 (by decide) ?_
  refine hG.iload_n dJ7_newCapacity_6 rfl ?_
  refine hG.aload_n dJ7_newCapacity_7 rfl ?_
  refine hG.get dJ7_newCapacity_8 fg_J7_22_J8 (Or.inl h1) rfl ?_
  refine hG.ishl dJ7_newCapacity_11 ?_
  rw [shlk hk (by omega)]
  refine hG.istore_n dJ7_newCapacity_12 (by decide) ?_
  refine hG.iload_n dJ7_newCapacity_13 rfl ?_
  refine hG.iload_n dJ7_newCapacity_14 rfl ?_
  refine hG.isub dJ7_newCapacity_15 ?_
  rw [show (nI (j * (k + 1)) - Int32.ofNat (m * (k + 1))) = nI ((j - m) * (k + 1)) from by rw [show Int32.ofNat (m * (k + 1)) = nI (m * (k + 1)) from rfl, pk_sub (Nat.mul_le_mul_right _ (Nat.le_of_lt hmj)), ← Nat.sub_mul]]
  refine hG.istore dJ7_newCapacity_16 (by decide) ?_
  refine hG.iload_n dJ7_newCapacity_18 rfl ?_
  refine hG.iload dJ7_newCapacity_19 rfl ?_
  refine hG.iload_n dJ7_newCapacity_21 rfl ?_
  refine hG.iconst (v := 2) dJ7_newCapacity_22 rfl ?_
  refine hG.aload_n dJ7_newCapacity_23 rfl ?_
  refine hG.get dJ7_newCapacity_24 fg_J7_22_J8 (Or.inl h1) rfl ?_
  refine hG.ishl dJ7_newCapacity_27 ?_
  rw [show (2 : Int32) <<< (nI k &&& 31) = nI (2 * (k + 1)) from shlk (n := 2) hk (by decide)]
  refine hG.iadd dJ7_newCapacity_28 ?_
  rw [show Int32.ofNat (m * (k + 1)) + nI (2 * (k + 1)) = nI (m * (k + 1) + 2 * (k + 1)) from nI_add _ _]
  refine hG.callS dJ7_newCapacity_29 ks_J7_114 (sp_J17_newLength hΓ (a := m * (k + 1)) (b := (j - m) * (k + 1)) (c := m * (k + 1) + 2 * (k + 1)) (by omega) (Nat.mul_pos (by omega) (Nat.succ_pos k)) (by omega) (by omega)) rfl rfl (Nat.le_of_ble_eq_true rfl) (by decide) (by omega) (by omega) (fun r29 I29 L29 hI29 h29 => ?_) (fun _ _ _ _ _ h => h.elim)
  obtain ⟨rfl, rfl, rfl⟩ := h29
  rw [ncap_eq hk hmj]
  refine hG.istore dJ7_newCapacity_32 (by decide) ?_
  refine hG.iload dJ7_newCapacity_34 rfl ?_
  refine hG.ldc dJ7_newCapacity_36 q915 ?_
  refine hG.icmp_ne (tgt := 51) dJ7_newCapacity_38 rfl (fun c_38 => ?_) (fun c_38 => absurd c_38 (fun e => absurd ((nI_eq (b := 2147483647) (by omega) (by decide)).mp e) (by omega)))
  refine hG.iload dJ7_newCapacity_51 rfl ?_
  refine hG.aload_n dJ7_newCapacity_53 rfl ?_
  refine hG.get dJ7_newCapacity_54 fg_J7_22_J8 (Or.inl h1) rfl ?_
  refine hG.ishr dJ7_newCapacity_57 ?_
  rw [shrk hk (by omega), Nat.mul_div_cancel _ (Nat.succ_pos k)]
  refine hG.iret dJ7_newCapacity_58 rfl ?_ (by omega) (by omega) trivial
  exact ⟨rfl, rfl, rfl⟩
theorem kp_J7_104_J8 : LkP2 RJ7 104 RJ8 yJ7_newCapacity 1 := ⟨yJ7_isLatin1, q910, q3659, q929, rfl, q911, q912, q83, by decide +kernel, by decide +kernel, by decide +kernel⟩
theorem ks_J7_108 : LkS RJ7 108 yJ19_copyOf_3 2 := ⟨q916, q917, q98, by decide +kernel, by decide +kernel, by decide +kernel⟩
set_option maxHeartbeats 4000000 in
set_option maxRecDepth 100000 in
theorem sp_J7_ensureCapacityInternal {l : Launch} {s0 : State} {D : va_G} {I : AI} {L : AL} (hΓ : Gam l s0 D) {L0 : AL} {a b k cn arr m : Nat} {ml : Int32} {cs : List Nat} {f : Nat → Int32} (h : SbR L0 L a b k ml cn cs arr m f) {j : Nat} (hj : j ≤ b) : Spc l s0 D yJ7_ensureCapacityInternal 3 [.ref a, .int (nI j)] I L 1 ((2 * b + 34) * 2) (fun r I' L' => r = none ∧ I = I' ∧ ∃ (arr' m' : Nat) (f' : Nat → Int32), SbR L0 L' a b k ml cn cs arr' m' f' ∧ j ≤ m') noX := by
  refine Spc.of hΓ cJ7_ensureCapacityInternal 3 none q909 (by decide +kernel) (by decide) (Nat.le_of_ble_eq_true rfl) (fun G GX hG => ?_)
  obtain ⟨h1, h2, hF, hne, hfr⟩ := id h
  obtain ⟨hbs, hfb, hco, hlm, hm16, hmb, hlb, hb4⟩ := id hF
  have hk := hF.k
  have hmk := hF.mk2
  refine hG.aload_n dJ7_ensureCapacityInternal_0 rfl ?_
  refine hG.get dJ7_ensureCapacityInternal_1 fg_J7_15_J8 (Or.inl h1) rfl ?_
  refine hG.alen dJ7_ensureCapacityInternal_4 (Or.inl h2) ?_
  refine hG.aload_n dJ7_ensureCapacityInternal_5 rfl ?_
  refine hG.get dJ7_ensureCapacityInternal_6 fg_J7_22_J8 (Or.inl h1) rfl ?_
  refine hG.ishr dJ7_ensureCapacityInternal_9 ?_
  rw [show (Int32.ofNat (m * (k + 1)) >>> (nI k &&& 31)) = nI m from by rw [show Int32.ofNat (m * (k + 1)) = nI (m * (k + 1)) from rfl, shrk hk (by omega), Nat.mul_div_cancel _ (Nat.succ_pos k)]]
  refine hG.istore_n dJ7_ensureCapacityInternal_10 (by decide) ?_
  refine hG.iload_n dJ7_ensureCapacityInternal_11 rfl ?_
  refine hG.iload_n dJ7_ensureCapacityInternal_12 rfl ?_
  refine hG.isub dJ7_ensureCapacityInternal_13 ?_
  refine hG.if_le (tgt := 38) dJ7_ensureCapacityInternal_14 rfl (fun c_14 => ?_) (fun c_14 => ?_)
  · refine hG.vret dJ7_ensureCapacityInternal_38 rfl ?_ (by omega) (by omega) trivial
    first
    | exact ⟨rfl, rfl, arr, m, f, h, (nI_sub_le0 (by omega) (by omega)).mp c_14⟩
    | refine ⟨rfl, rfl, q, m2, g, ⟨up1_s, (up1_n hqa).trans up1_s, ⟨fun i x hx => ?_, hg2, hco, by omega, by omega, hcp2, hlb, hb4⟩, hqa, ?_⟩, hcp3⟩
      · have hi := (List.getElem?_eq_some_iff.mp hx).1
        rw [enc_len hk] at hi
        have hi2 : cs.length * (k + 1) ≤ m * (k + 1) := Nat.mul_le_mul_right _ hlm
        rw [hg1 i (by omega)]
        exact hbs i x hx
      · have hL0 := hfr.non hLq (by rw [h1]; exact (fun h => nomatch h))
        exact ((hfr.sw hL0).gar hL0 _).up (by simp) _
  · have hmj : m < j := by
      have := mt (nI_sub_le0 (by omega) (by omega)).mpr c_14
      omega
    have hcp2 : (m + (if j - m < m + 2 then m + 2 else j - m)) ≤ 2 * b + 34 := by split <;> omega
    have hcp3 : j ≤ m + (if j - m < m + 2 then m + 2 else j - m) := by split <;> omega
    have hcp4 : m + 1 ≤ m + (if j - m < m + 2 then m + 2 else j - m) := by split <;> omega
    generalize hM : m + (if j - m < m + 2 then m + 2 else j - m) = m2 at hcp2 hcp3 hcp4
    have hm2 : m2 * (k + 1) ≤ m2 * 2 := Nat.mul_le_mul_left _ (by omega)
    refine hG.aload_n dJ7_ensureCapacityInternal_17 rfl ?_
    refine hG.aload_n dJ7_ensureCapacityInternal_18 rfl ?_
    refine hG.get dJ7_ensureCapacityInternal_19 fg_J7_15_J8 (Or.inl h1) rfl ?_
    refine hG.aload_n dJ7_ensureCapacityInternal_22 rfl ?_
    refine hG.iload_n dJ7_ensureCapacityInternal_23 rfl ?_
    refine hG.callP dJ7_ensureCapacityInternal_24 kp_J7_104_J8 (Rcv.raw h1 cl_J8) (sp_J7_newCapacity hΓ h hmj hj) rfl rfl (Nat.le_of_ble_eq_true rfl) (by decide) (by omega) (by omega) (fun r24 I24 L24 hI24 h24 => ?_) (fun _ _ _ _ _ h => h.elim)
    obtain ⟨rfl, rfl, rfl⟩ := h24
    rw [hM]
    refine hG.aload_n dJ7_ensureCapacityInternal_27 rfl ?_
    refine hG.get dJ7_ensureCapacityInternal_28 fg_J7_22_J8 (Or.inl h1) rfl ?_
    refine hG.ishl dJ7_ensureCapacityInternal_31 ?_
    rw [shlk hk (by omega)]
    refine hG.callS dJ7_ensureCapacityInternal_32 ks_J7_108 (sp_J19_copyOf_3 hΓ (Or.inl h2) (j := m2 * (k + 1)) (by omega) (Nat.mul_lt_mul_of_pos_right (by omega) (Nat.succ_pos k)) (by omega) hfb) rfl rfl (Nat.le_of_ble_eq_true rfl) (by decide) (by omega) (by omega) (fun r32 I32 L32 hI32 h32 => ?_) (fun _ _ _ _ _ h => h.elim)
    obtain ⟨rfl, q, g, rfl, hLq, rfl, hg1, hg2⟩ := h32
    have hqa : q ≠ a := fun e => by subst e; rw [hLq] at h1; cases h1
    refine hG.put dJ7_ensureCapacityInternal_35 fp_J7_15_J8 ((up1_n hqa.symm).trans h1) rfl rfl (Nat.le_of_ble_eq_true rfl) ?_
    refine hG.vret dJ7_ensureCapacityInternal_38 rfl ?_ (by omega) (by omega) trivial
    first
    | exact ⟨rfl, rfl, arr, m, f, h, (nI_sub_le0 (by omega) (by omega)).mp c_14⟩
    | refine ⟨rfl, rfl, q, m2, g, ⟨up1_s, (up1_n hqa).trans up1_s, ⟨fun i x hx => ?_, hg2, hco, by omega, by omega, hcp2, hlb, hb4⟩, hqa, ?_⟩, hcp3⟩
      · have hi := (List.getElem?_eq_some_iff.mp hx).1
        rw [enc_len hk] at hi
        have hi2 : cs.length * (k + 1) ≤ m * (k + 1) := Nat.mul_le_mul_right _ hlm
        rw [hg1 i (by omega)]
        exact hbs i x hx
      · have hL0 := hfr.non hLq (by rw [h1]; exact (fun h => nomatch h))
        exact ((hfr.sw hL0).gar hL0 _).up (by simp) _
theorem ko_J7_83_J8 : LkU RJ7 83 RJ8 yJ7_isLatin1 yJ7_isLatin1 0 := ⟨_, q926, q928, q929, q927, q83, by decide +kernel, by decide +kernel, by decide +kernel, Or.inl rfl⟩
theorem ks_J7_26 : LkS RJ7 26 yJ10_newBytesFor 1 := ⟨q336, q337, q86, by decide +kernel, by decide +kernel, by decide +kernel⟩
theorem ks_J7_125 : LkS RJ7 125 yJ26_inflate 5 := ⟨q969, q970, q106, by decide +kernel, by decide +kernel, by decide +kernel⟩
set_option maxHeartbeats 4000000 in
set_option maxRecDepth 100000 in
theorem sp_J7_inflate {l : Launch} {s0 : State} {D : va_G} {I : AI} {L : AL} {o : Option Nat} (hΓ : Gam l s0 D) (hX : StV s0 o) {L0 : AL} {a b arr m : Nat} {ml : Int32} {cs : List Nat} {f : Nat → Int32} (h : SbR L0 L a b 0 ml cs.length cs arr m f) : Spc l s0 D yJ7_inflate 6 [.ref a] I L 1 ((2 * b + 34) * 2) (fun r I' L' => r = none ∧ I = I' ∧ ∃ (arr' : Nat) (f' : Nat → Int32), SbR L0 L' a b 1 ml cs.length cs arr' m f') noX := by
  refine Spc.of hΓ cJ7_inflate 2 none q968 (by decide +kernel) (by decide) (Nat.le_of_ble_eq_true rfl) (fun G GX hG => ?_)
  obtain ⟨h1, h2, hF, hne, hfr⟩ := id h
  obtain ⟨hbs, hfb, hco, hlm, hm16, hmb, hlb, hb4⟩ := id hF
  have hcs : ∀ c ∈ cs, c < 256 := by
    rcases hco with ⟨_, q⟩ | ⟨q, _⟩
    · exact q
    · cases q
  have hch : ∀ t, t < cs.length → f (0 + t) = byt (cs[t]?.getD 0) ∧ cs[t]?.getD 0 < 256 := fun t ht => by
    have e9 : cs[t]? = some cs[t] := List.getElem?_eq_getElem ht
    rw [Nat.zero_add, e9]
    exact ⟨hbs t _ (by rw [enc0, e9]; rfl), hcs _ (List.getElem_mem ht)⟩
  refine hG.aload_n dJ7_inflate_0 rfl ?_
  refine hG.callU dJ7_inflate_1 ko_J7_83_J8 (Rcv.raw h1 cl_J8) (sp_J7_isLatin1 hΓ hX h1 (by decide)) rfl rfl (Nat.le_of_ble_eq_true rfl) (by decide) (by omega) (by omega) (fun r1 I1 L1 hI1 h1 => ?_) (fun _ _ _ _ _ h => h.elim)
  obtain ⟨rfl, rfl, rfl⟩ := h1
  refine hG.if_ne (tgt := 8) dJ7_inflate_4 rfl (fun c_4 => ?_) (fun c_4 => absurd c_4 (by decide))
  refine hG.aload_n dJ7_inflate_8 rfl ?_
  refine hG.get dJ7_inflate_9 fg_J7_15_J8 (Or.inl h1) rfl ?_
  refine hG.alen dJ7_inflate_12 (Or.inl h2) ?_
  refine hG.callS dJ7_inflate_13 ks_J7_26 (sp_J10_newBytesFor hΓ (n := m * (0 + 1)) (by omega)) rfl rfl (Nat.le_of_ble_eq_true rfl) (by decide) (by omega) (by omega) (fun r13 I13 L13 hI13 h13 => ?_) (fun _ _ _ _ _ h => h.elim)
  obtain ⟨rfl, q, g0, rfl, hLq, rfl, hg0⟩ := h13
  have hqa : q ≠ a := fun e => by subst e; rw [hLq] at h1; cases h1
  have hqr : arr ≠ q := fun e => by subst e; rw [hLq] at h2; cases h2
  have h1q : up1 L q (some (.inl (arB (2 * (m * (0 + 1))) g0))) a = _ := (up1_n hqa.symm).trans h1
  refine hG.astore_n dJ7_inflate_16 (by decide) ?_
  refine hG.aload_n dJ7_inflate_17 rfl ?_
  refine hG.get dJ7_inflate_18 fg_J7_15_J8 (Or.inl h1q) rfl ?_
  refine hG.iconst (v := 0) dJ7_inflate_21 rfl ?_
  refine hG.aload_n dJ7_inflate_22 rfl ?_
  refine hG.iconst (v := 0) dJ7_inflate_23 rfl ?_
  refine hG.aload_n dJ7_inflate_24 rfl ?_
  refine hG.get dJ7_inflate_25 fg_J7_79_J8 (Or.inl h1q) rfl ?_
  refine hG.callS dJ7_inflate_28 ks_J7_125 (sp_J26_inflate hΓ hX (so := 0) (du := 0) (ch := fun t => cs[t]?.getD 0) (Or.inl ((up1_n hqr).trans h2)) up1_s hqr (by omega) (by omega) (by omega) (by omega) hch) rfl rfl (Nat.le_of_ble_eq_true rfl) (by decide) (by omega) (by omega) (fun r28 I28 L28 hI28 h28 => ?_) (fun _ _ _ _ _ h => h.elim)
  obtain ⟨rfl, rfl, g, rfl, hg1, hg2⟩ := h28
  rw [up1_up1]
  refine hG.aload_n dJ7_inflate_31 rfl ?_
  refine hG.aload_n dJ7_inflate_32 rfl ?_
  refine hG.put dJ7_inflate_33 fp_J7_15_J8 ((up1_n hqa.symm).trans h1) rfl rfl (Nat.le_of_ble_eq_true rfl) ?_
  refine hG.aload_n dJ7_inflate_36 rfl ?_
  refine hG.iconst (v := 1) dJ7_inflate_37 rfl ?_
  refine hG.put dJ7_inflate_38 fp_J7_22_J8 up1_s rfl rfl (Nat.le_of_ble_eq_true rfl) ?_
  refine hG.vret dJ7_inflate_41 rfl ?_ (by omega) (by omega) trivial
  rw [up1_up1]
  rw [show 2 * (m * (0 + 1)) = m * (1 + 1) by omega]
  refine ⟨rfl, rfl, q, g, ⟨up1_s, (up1_n hqa).trans up1_s, ⟨?_, ?_, Or.inr ⟨rfl, fun c hc => Nat.lt_trans (hcs c hc) (by decide)⟩, hlm, hm16, hmb, hlb, hb4⟩, hqa, ?_⟩⟩
  · intro i x hx
    have hi := (List.getElem?_eq_some_iff.mp hx).1
    rw [enc_len (by decide)] at hi
    have e1 := enc1 cs (i / 2)
    have e9 : cs[i / 2]? = some (cs[i / 2]'(by omega)) := List.getElem?_eq_getElem (by omega)
    have g9 := hg1 (i / 2) (by omega)
    rw [e9] at e1 g9
    rw [Nat.zero_add] at g9
    rcases Nat.mod_two_eq_zero_or_one i with e | e
    · have ei : 2 * (i / 2) = i := by omega
      rw [ei] at e1 g9
      rw [e1.1] at hx
      rw [g9.1]
      exact Option.some.inj hx
    · have ei : 2 * (i / 2) + 1 = i := by omega
      rw [ei] at e1 g9
      rw [e1.2] at hx
      rw [g9.2]
      exact Option.some.inj hx
  · intro j hj
    by_cases h9 : j < 2 * cs.length
    · have g9 := hg1 (j / 2) (by omega)
      rw [Nat.zero_add] at g9
      rcases Nat.mod_two_eq_zero_or_one j with e | e
      · rw [show 2 * (j / 2) = j by omega] at g9
        rw [g9.1]
        exact pk_fb _
      · rw [show 2 * (j / 2) + 1 = j by omega] at g9
        rw [g9.2]
        exact pk_fb _
    · rw [hg2 j (Or.inr (by omega)), hg0]
      rfl
  · have hL0 := hfr.non hLq (by rw [h1]; exact (fun h => nomatch h))
    exact ((hfr.sw hL0).gar hL0 _).up (by simp) _
