/-! FIELDS, ARRAYS, OBJECTS, CALLS -/
def CLs (ci : Nat) (C : String) (T : u_T) (N : Nat) (ty0 : Nat → FieldType) : Prop := CL[ci]? = some (C, T, N) ∧ (∀ w ∈ u_ws C T N, w ∈ lw_all) ∧ (∀ j, j < N → parseFieldDescriptor (T j).2.2.1 = some (ty0 j)) ∧ ∀ a, a < N → ∀ b, b < N → a ≠ b → (T a).2.1 ≠ (T b).2.1
/-- own's constant idx is the field j of the class ci -/
def LkG (own : String) (idx ci j : Nat) : Prop := ∃ (C : String) (T : u_T) (N : Nat) (ty0 : Nat → FieldType) (ref : String), CLs ci C T N ty0 ∧ j < N ∧ (ref = (T j).1 ∨ Cond.sameField ref (T j).1 (T j).2.1 (T j).2.2.1 ∈ lw_all) ∧
  (Cond.fieldLink own idx ref (T j).2.1 (T j).2.2.1 ∈ lw_all ∨ ∃ host, Cond.fieldLinkNest own idx ref (T j).2.1 (T j).2.2.1 host ∈ lw_tbl)
def LkP (own nm : String) (idx ci j : Nat) (ty : FieldType) : Prop := ∃ (C : String) (T : u_T) (N : Nat) (ty0 : Nat → FieldType) (ref : String), CLs ci C T N ty0 ∧ j < N ∧ ty0 j = ty ∧ (ref = (T j).1 ∨ Cond.sameField ref (T j).1 (T j).2.1 (T j).2.2.1 ∈ lw_all) ∧
  (((T j).2.2.2 = false ∧ Cond.fieldLink own idx ref (T j).2.1 (T j).2.2.1 ∈ lw_all) ∨ ((T j).2.2.2 = false ∧ ∃ host, Cond.fieldLinkNest own idx ref (T j).2.1 (T j).2.2.1 host ∈ lw_tbl) ∨ ((T j).2.2.2 = true ∧ nm = "<init>" ∧ (T j).1 = own ∧ Cond.fieldLink own idx ref (T j).2.1 (T j).2.2.1 ∈ lw_all))
def LkN (own : String) (idx ci : Nat) (fs : List Value) (N : Nat) : Prop := ∃ (C : String) (T : u_T) (ty0 : Nat → FieldType), CLs ci C T N ty0 ∧ Cond.classLink own idx C ∈ lw_all ∧ Cond.instantiable C N ∈ lw_all ∧ Cond.initialized C ∈ lw_all ∧ fs.length = N ∧ ∀ j, j < N → defaultValue (ty0 j) = vp_V fs j
theorem same_of {ref own0 n0 d0 : String} {s : State} {args : Array Value} (hts : ∀ w ∈ lw_all, w.before args s = true) (h : ref = own0 ∨ Cond.sameField ref own0 n0 d0 ∈ lw_all) : ∀ x, s.fieldFound? own0 n0 d0 = some x → s.fieldFound? ref n0 d0 = some x := by
  rcases h with rfl | h
  · exact fun _ h => h
  · exact fun x h9 => u_same (hts _ h) x h9
section HEAP
variable {l : Launch} {s0 : State} {D : va_G} {own nm : String} {cc : ByteArray} {nL : Nat} {ret : Option FieldType} {tab : List ExceptionTableEntry} {d mc ms : Nat} {Ib : AI} {post : Option Value → AI → AL → Prop} {xp : String → Nat → AI → AL → Prop} {md : Prop} {G : Gt} {GX : GXt}
variable {pc : Nat} {ls : List (Nat × Value)} {st : List Value} {I : AI} {L : AL} {k n : Nat}

theorem IsG.get (hG : IsG l s0 D own nm cc nL ret tab d mc ms Ib post xp md G GX) {idx ci j a : Nat} {fs : List Value} {v : Value} (hd : decode cc pc = .ok (.getfield idx, 3)) (hf : LkG own idx ci j) (hR9 : Rd I L a (.inr (ci, fs))) (hv : fs[j]? = some v) (kk : G (pc + 3) ls (v :: st) I L k n) : G pc ls (.ref a :: st) I L k n := by
  obtain ⟨p, e, s, m, args, below, meth, c, R, Q, hΓ, hx, hb, hr, hml, hown, hts, hlk, hnm, hW, htab, hF, hR, hmd, rfl, rfl⟩ := hG
  obtain ⟨⟨b0, hw⟩, -⟩ := hΓ
  obtain ⟨C, T, N, ty0, ref, ⟨hc, hin, hty, hnm2⟩, hj, hsame, hlink⟩ := hf
  intro H locs lsA hl hS hV hI
  obtain ⟨ws, tys, v', q, hp, hv', hP, hK⟩ := hS.rd hR9
  have hv' : v' = .inr (ci, fs) := hv'
  subst hv'
  have hK' := va_K.moved hW.alike hK
  rcases hlink with h | ⟨host, h⟩
  · exact va_get hx hb hts hin hown hK' hP q hp hc j hj (hts _ h) (same_of hts hsame) hv hd (kk H locs lsA hl hS hV hI)
  · exact va_getN hx hb hts hin hown hK' hP q hp hc j hj (va_Nw.use rfl (nw_linkF hw hW h)) (same_of hts hsame) hv hd (kk H locs lsA hl hS hV hI)
theorem IsG.put (hG : IsG l s0 D own nm cc nL ret tab d mc ms Ib post xp md G GX) {idx ci j a : Nat} {fs : List Value} {v : Value} {ty : FieldType} (hd : decode cc pc = .ok (.putfield idx, 3)) (hf : LkP own nm idx ci j ty) (hL : L a = some (.inl (.inr (ci, fs)))) (hn9 : narrow ty v = v) (hfit : fits ty v = true) (hlt : j < fs.length) (kk : G (pc + 3) ls st I (up1 L a (some (.inl (.inr (ci, fs.set j v))))) k n) : G pc ls (v :: .ref a :: st) I L k n := by
  obtain ⟨p, e, s, m, args, below, meth, c, R, Q, hΓ, hx, hb, hr, hml, hown, hts, hlk, hnm, hW, htab, hF, hR, hmd, rfl, rfl⟩ := hG
  obtain ⟨⟨b0, hw⟩, -⟩ := hΓ
  obtain ⟨C, T, N, ty0, ref, ⟨hc, hin, hty, hnm2⟩, hj, hty9, hsame, hlink⟩ := hf
  intro H locs lsA hl hS hV hI
  obtain ⟨ws, tys, v', q, hp, hv', hP, hD, hK, hnew⟩ := hS.wr hL
  have hv' : v' = .inr (ci, fs) := hv'
  subst hv'
  have hK' := va_K.moved hW.alike hK
  have hpd : parseFieldDescriptor (T j).2.2.1 = some ty := by rw [hty j hj, hty9]
  have kk' := fun (H1 : Heap) (locs1 : List Loc) (hP1 : va_P D CL (ws.set q (a, .inr (ci, fs.set j v))) H1) (hD1 : va_D (Are s0) (ws.set q (a, .inr (ci, fs.set j v)))) (hV1 : va_S (Are s0) s.heap H1 locs1) => kk H1 locs1 lsA hl (hnew (.inr (ci, fs.set j v)) _ H1 rfl hP1 hD1 (frz_S hF hV1)) hV1 hI
  rcases hlink with ⟨h0, h⟩ | ⟨h0, host, h⟩ | ⟨h0, h1, h2, h⟩
  · exact va_put hx hb hts hin ty0 hty hnm2 hown hK' hP hD hV q hp hc j hj (hts _ h) (same_of hts hsame) h0 hpd hn9 hfit hlt hd kk'
  · exact va_putN hx hb hts hin ty0 hty hnm2 hown hK' hP hD hV q hp hc j hj (va_Nw.use rfl (nw_linkF hw hW h)) (same_of hts hsame) h0 hpd hn9 hfit hlt hd kk'
  · exact va_putF hx hb hts hin ty0 hty hnm2 hown hK' hP hD hV q hp hc j hj (hts _ h) (same_of hts hsame) h0 (hnm.trans h1) h2 hpd hn9 hfit hlt hd kk'
theorem IsG.new (hG : IsG l s0 D own nm cc nL ret tab d mc ms Ib post xp md G GX) {idx ci N : Nat} {fs : List Value} (hd : decode cc pc = .ok (.new idx, 3)) (hf : LkN own idx ci fs N) (hk : k + 1 ≤ mc) (hn : n + N ≤ ms) (kk : ∀ q, L q = none → (∀ x, ¬ I q x) → G (pc + 3) ls (.ref q :: st) I (up1 L q (some (.inl (.inr (ci, fs))))) (k + 1) (n + N)) : G pc ls st I L k n := by
  obtain ⟨p, e, s, m, args, below, meth, c, R, Q, hΓ, hx, hb, hr, hml, hown, hts, hlk, hnm, hW, htab, hF, hR, hmd, rfl, rfl⟩ := hG
  obtain ⟨C, T, ty0, ⟨hc, hin, hty, hnm2⟩, h1, h2, h3, h4, h5⟩ := hf
  intro H locs lsA hl hS hV hI
  subst h4
  obtain ⟨ws, tys, hP, hD, hK, hnew⟩ := hS.nw
  have hK' := va_K.moved hW.alike hK
  refine va_new hx hb hts hin ty0 hty hown (hts _ h1) (hts _ h2) (hts _ h3) hK' hP hD hV (are_of hF) hc h5 (Nat.le_trans hk hR.2.2.1) (Nat.le_trans hn hR.2.2.2) hd (fun q H1 hP1 hD1 hV1 => ?_)
  obtain ⟨g1, g2, g3⟩ := hnew q (.inr (ci, fs)) _ tys H1 (fun _ h => h) hK rfl hP1 hD1 (frz_S hF hV1)
  exact kk q g1 g2 H1 locs lsA hl g3 hV1 hI
theorem IsG.newa (hG : IsG l s0 D own nm cc nL ret tab d mc ms Ib post xp md G GX) {aty : ArrayType} (ty : FieldType) {z : Int32} (a0 : vp_A) (hd : decode cc pc = .ok (.newarray aty, 2)) (hw9 : Cond.arrayClass (newarray.typeOf aty) ∈ lw_all) (hty : newarray.typeOf aty = ty) (ha : ∀ cA : ClassId, vp_cell cA a0 = arrV cA a0.1 (fun _ => defaultValue ty)) (hz : ¬ z < 0) (hN : z.toNatClampNeg = a0.1) (hby : a0.1 * componentBytes ty ≤ 536870912) (hk : k + 1 ≤ mc) (hn : n + a0.1 ≤ ms) (kk : ∀ q, L q = none → (∀ x, ¬ I q x) → G (pc + 2) ls (.ref q :: st) I (up1 L q (some (.inl (.inl (ty, a0))))) (k + 1) (n + a0.1)) : G pc ls (.int z :: st) I L k n := by
  obtain ⟨p, e, s, m, args, below, meth, c, R, Q, hΓ, hx, hb, hr, hml, hown, hts, hlk, hnm, hW, htab, hF, hR, hmd, rfl, rfl⟩ := hG
  intro H locs lsA hl hS hV hI
  obtain ⟨ws, tys, hP, hD, hK, hnew⟩ := hS.nw
  have hK' := va_K.moved hW.alike hK
  refine va_newa hx hb (hts _ hw9) hty hK' hP hD hV (are_of hF) ha hz hN hby (Nat.le_trans hk hR.2.2.1) (Nat.le_trans hn hR.2.2.2) hd (fun q cA H1 hK1 hP1 hD1 hV1 => ?_)
  obtain ⟨g1, g2, g3⟩ := hnew q (.inl (ty, a0)) _ (tys ++ [(cA, ty)]) H1 (fun _ h => List.mem_append_left _ h) (va_K.moved hW.alike.symm hK1) ⟨cA, List.mem_append_right _ (List.mem_singleton.mpr rfl), rfl⟩ hP1 hD1 (frz_S hF hV1)
  exact kk q g1 g2 H1 locs lsA hl g3 hV1 hI
theorem IsG.newq (hG : IsG l s0 D own nm cc nL ret tab d mc ms Ib post xp md G GX) {idx N : Nat} {C : String} {z : Int32} (hd : decode cc pc = .ok (.anewarray idx, 3)) (h1 : Cond.classLink own idx C ∈ lw_all) (h2 : Cond.arrayOver (.object C) ∈ lw_tbl) (hz : ¬ z < 0) (hN : z.toNatClampNeg = N) (hby : N * 4 ≤ 536870912) (hk : k + 1 ≤ mc) (hn : n + N ≤ ms) (kk : ∀ q, L q = none → (∀ x, ¬ I q x) → G (pc + 3) ls (.ref q :: st) I (up1 L q (some (.inl (.inl (.object C, (N, .inr (.inr (.inr (.inr (fun _ => none)))))))))) (k + 1) (n + N)) : G pc ls (.int z :: st) I L k n := by
  obtain ⟨p, e, s, m, args, below, meth, c, R, Q, hΓ, hx, hb, hr, hml, hown, hts, hlk, hnm, hW, htab, hF, hR, hmd, rfl, rfl⟩ := hG
  obtain ⟨⟨b0, hw⟩, -⟩ := hΓ
  intro H locs lsA hl hS hV hI
  obtain ⟨ws, tys, hP, hD, hK, hnew⟩ := hS.nw
  have hK' := va_K.moved hW.alike hK
  have hAO : va_AO C s := va_AO.moved hW.alike (va_AO.of (hw _ h2))
  refine va_newq hx hb hown (hts _ h1) hAO hK' hP hD hV (are_of hF) hz hN hby (Nat.le_trans hk hR.2.2.1) (Nat.le_trans hn hR.2.2.2) hd (fun q cA H1 hK1 hP1 hD1 hV1 => ?_)
  obtain ⟨g1, g2, g3⟩ := hnew q (.inl (.object C, (N, .inr (.inr (.inr (.inr (fun _ => none))))))) _ (tys ++ [(cA, .object C)]) H1 (fun _ h => List.mem_append_left _ h) (va_K.moved hW.alike.symm hK1) ⟨cA, List.mem_append_right _ (List.mem_singleton.mpr rfl), rfl⟩ hP1 hD1 (frz_S hF hV1)
  exact kk q g1 g2 H1 locs lsA hl g3 hV1 hI
theorem IsG.alen (hG : IsG l s0 D own nm cc nL ret tab d mc ms Ib post xp md G GX) {a : Nat} {ty : FieldType} {x : vp_A} (hd : decode cc pc = .ok (.arraylength, 1)) (hR9 : Rd I L a (.inl (ty, x))) (kk : G (pc + 1) ls (.int (Int32.ofNat x.1) :: st) I L k n) : G pc ls (.ref a :: st) I L k n := by
  obtain ⟨p, e, s, m, args, below, meth, c, R, Q, hΓ, hx, hb, hr, hml, hown, hts, hlk, hnm, hW, htab, hF, hR, hmd, rfl, rfl⟩ := hG
  intro H locs lsA hl hS hV hI
  obtain ⟨ws, tys, v', q, hp, ⟨cA, hcA, rfl⟩, hP, hK⟩ := hS.rd hR9
  obtain ⟨t0, ht0⟩ := List.getElem?_of_mem hcA
  exact va_alen hx hb (va_K.moved hW.alike hK) hP q t0 hp ht0 rfl hd (kk H locs lsA hl hS hV hI)
theorem IsG.iald (hG : IsG l s0 D own nm cc nL ret tab d mc ms Ib post xp md G GX) {a N : Nat} {f : Nat → Int32} {i : Int32} (hd : decode cc pc = .ok (.iaload, 1)) (hR9 : Rd I L a (.inl (.int, (N, .inl f)))) (hin : vp_in i N) (kk : G (pc + 1) ls (.int (f i.toNatClampNeg) :: st) I L k n) : G pc ls (.int i :: .ref a :: st) I L k n := by
  obtain ⟨p, e, s, m, args, below, meth, c, R, Q, hΓ, hx, hb, hr, hml, hown, hts, hlk, hnm, hW, htab, hF, hR, hmd, rfl, rfl⟩ := hG
  intro H locs lsA hl hS hV hI
  obtain ⟨ws, tys, v', q, hp, ⟨cA, hcA, rfl⟩, hP, hK⟩ := hS.rd hR9
  obtain ⟨t0, ht0⟩ := List.getElem?_of_mem hcA
  exact va_iald hx hb (va_K.moved hW.alike hK) hP q t0 hp ht0 hin hd (kk H locs lsA hl hS hV hI)
theorem IsG.bald (hG : IsG l s0 D own nm cc nL ret tab d mc ms Ib post xp md G GX) {a N : Nat} {f : Nat → Int32} {i : Int32} (hd : decode cc pc = .ok (.baload, 1)) (hR9 : Rd I L a (.inl (.byte, (N, .inl f)))) (hin : vp_in i N) (kk : G (pc + 1) ls (.int (f i.toNatClampNeg) :: st) I L k n) : G pc ls (.int i :: .ref a :: st) I L k n := by
  obtain ⟨p, e, s, m, args, below, meth, c, R, Q, hΓ, hx, hb, hr, hml, hown, hts, hlk, hnm, hW, htab, hF, hR, hmd, rfl, rfl⟩ := hG
  intro H locs lsA hl hS hV hI
  obtain ⟨ws, tys, v', q, hp, ⟨cA, hcA, rfl⟩, hP, hK⟩ := hS.rd hR9
  obtain ⟨t0, ht0⟩ := List.getElem?_of_mem hcA
  exact va_bald hx hb (va_K.moved hW.alike hK) hP q t0 hp ht0 hin hd (kk H locs lsA hl hS hV hI)
theorem IsG.zald (hG : IsG l s0 D own nm cc nL ret tab d mc ms Ib post xp md G GX) {a N : Nat} {f : Nat → Int32} {i : Int32} (hd : decode cc pc = .ok (.baload, 1)) (hR9 : Rd I L a (.inl (.boolean, (N, .inl f)))) (hin : vp_in i N) (kk : G (pc + 1) ls (.int (f i.toNatClampNeg) :: st) I L k n) : G pc ls (.int i :: .ref a :: st) I L k n := by
  obtain ⟨p, e, s, m, args, below, meth, c, R, Q, hΓ, hx, hb, hr, hml, hown, hts, hlk, hnm, hW, htab, hF, hR, hmd, rfl, rfl⟩ := hG
  intro H locs lsA hl hS hV hI
  obtain ⟨ws, tys, v', q, hp, ⟨cA, hcA, rfl⟩, hP, hK⟩ := hS.rd hR9
  obtain ⟨t0, ht0⟩ := List.getElem?_of_mem hcA
  exact va_zald hx hb (va_K.moved hW.alike hK) hP q t0 hp ht0 hin hd (kk H locs lsA hl hS hV hI)
theorem IsG.cald (hG : IsG l s0 D own nm cc nL ret tab d mc ms Ib post xp md G GX) {a N : Nat} {f : Nat → Int32} {i : Int32} (hd : decode cc pc = .ok (.caload, 1)) (hR9 : Rd I L a (.inl (.char, (N, .inl f)))) (hin : vp_in i N) (kk : G (pc + 1) ls (.int (f i.toNatClampNeg) :: st) I L k n) : G pc ls (.int i :: .ref a :: st) I L k n := by
  obtain ⟨p, e, s, m, args, below, meth, c, R, Q, hΓ, hx, hb, hr, hml, hown, hts, hlk, hnm, hW, htab, hF, hR, hmd, rfl, rfl⟩ := hG
  intro H locs lsA hl hS hV hI
  obtain ⟨ws, tys, v', q, hp, ⟨cA, hcA, rfl⟩, hP, hK⟩ := hS.rd hR9
  obtain ⟨t0, ht0⟩ := List.getElem?_of_mem hcA
  exact va_cald hx hb (va_K.moved hW.alike hK) hP q t0 hp ht0 hin hd (kk H locs lsA hl hS hV hI)
theorem IsG.lald (hG : IsG l s0 D own nm cc nL ret tab d mc ms Ib post xp md G GX) {a N : Nat} {f : Nat → Int64} {i : Int32} (hd : decode cc pc = .ok (.laload, 1)) (hR9 : Rd I L a (.inl (.long, (N, .inr (.inl f))))) (hin : vp_in i N) (kk : G (pc + 1) ls (.long (f i.toNatClampNeg) :: st) I L k n) : G pc ls (.int i :: .ref a :: st) I L k n := by
  obtain ⟨p, e, s, m, args, below, meth, c, R, Q, hΓ, hx, hb, hr, hml, hown, hts, hlk, hnm, hW, htab, hF, hR, hmd, rfl, rfl⟩ := hG
  intro H locs lsA hl hS hV hI
  obtain ⟨ws, tys, v', q, hp, ⟨cA, hcA, rfl⟩, hP, hK⟩ := hS.rd hR9
  obtain ⟨t0, ht0⟩ := List.getElem?_of_mem hcA
  exact va_lald hx hb (va_K.moved hW.alike hK) hP q t0 hp ht0 hin hd (kk H locs lsA hl hS hV hI)
theorem IsG.dald (hG : IsG l s0 D own nm cc nL ret tab d mc ms Ib post xp md G GX) {a N : Nat} {f : Nat → UInt64} {i : Int32} (hd : decode cc pc = .ok (.daload, 1)) (hR9 : Rd I L a (.inl (.double, (N, .inr (.inr (.inr (.inl f))))))) (hin : vp_in i N) (kk : G (pc + 1) ls (.double (f i.toNatClampNeg) :: st) I L k n) : G pc ls (.int i :: .ref a :: st) I L k n := by
  obtain ⟨p, e, s, m, args, below, meth, c, R, Q, hΓ, hx, hb, hr, hml, hown, hts, hlk, hnm, hW, htab, hF, hR, hmd, rfl, rfl⟩ := hG
  intro H locs lsA hl hS hV hI
  obtain ⟨ws, tys, v', q, hp, ⟨cA, hcA, rfl⟩, hP, hK⟩ := hS.rd hR9
  obtain ⟨t0, ht0⟩ := List.getElem?_of_mem hcA
  exact va_dald hx hb (va_K.moved hW.alike hK) hP q t0 hp ht0 hin hd (kk H locs lsA hl hS hV hI)
theorem IsG.aald (hG : IsG l s0 D own nm cc nL ret tab d mc ms Ib post xp md G GX) {a N : Nat} {E : String} {f : Nat → Option Nat} {i : Int32} (hd : decode cc pc = .ok (.aaload, 1)) (hR9 : Rd I L a (.inl (.object E, (N, .inr (.inr (.inr (.inr f))))))) (hin : vp_in i N) (kk : G (pc + 1) ls (va_rf (f i.toNatClampNeg) :: st) I L k n) : G pc ls (.int i :: .ref a :: st) I L k n := by
  obtain ⟨p, e, s, m, args, below, meth, c, R, Q, hΓ, hx, hb, hr, hml, hown, hts, hlk, hnm, hW, htab, hF, hR, hmd, rfl, rfl⟩ := hG
  intro H locs lsA hl hS hV hI
  obtain ⟨ws, tys, v', q, hp, ⟨cA, hcA, rfl⟩, hP, hK⟩ := hS.rd hR9
  obtain ⟨t0, ht0⟩ := List.getElem?_of_mem hcA
  exact va_aldq hx hb (va_K.moved hW.alike hK) hP q t0 hp ht0 hin hd (kk H locs lsA hl hS hV hI)
theorem IsG.iast (hG : IsG l s0 D own nm cc nL ret tab d mc ms Ib post xp md G GX) {a N : Nat} {f : Nat → Int32} {i : Int32} {x : Int32} (hd : decode cc pc = .ok (.iastore, 1)) (hL : L a = some (.inl (.inl (.int, (N, .inl f))))) (hin : vp_in i N) (kk : G (pc + 1) ls st I (up1 L a (some (.inl (.inl (.int, (N, .inl (upd f i.toNatClampNeg x))))))) k n) : G pc ls (.int x :: .int i :: .ref a :: st) I L k n := by
  obtain ⟨p, e, s, m, args, below, meth, c, R, Q, hΓ, hx, hb, hr, hml, hown, hts, hlk, hnm, hW, htab, hF, hR, hmd, rfl, rfl⟩ := hG
  intro H locs lsA hl hS hV hI
  obtain ⟨ws, tys, v', q, hp, ⟨cA, hcA, rfl⟩, hP, hD, hK, hnew⟩ := hS.wr hL
  obtain ⟨t0, ht0⟩ := List.getElem?_of_mem hcA
  exact va_iast hx hb (va_K.moved hW.alike hK) hP hD hV q t0 hp ht0 hin hd (fun H1 locs1 hP1 hD1 hV1 => kk H1 locs1 lsA hl (hnew (.inl (.int, (N, .inl (upd f i.toNatClampNeg x)))) _ H1 ⟨cA, hcA, rfl⟩ hP1 hD1 (frz_S hF hV1)) hV1 hI)
theorem IsG.bast (hG : IsG l s0 D own nm cc nL ret tab d mc ms Ib post xp md G GX) {a N : Nat} {f : Nat → Int32} {i : Int32} {x : Int32} (hd : decode cc pc = .ok (.bastore, 1)) (hL : L a = some (.inl (.inl (.byte, (N, .inl f))))) (hin : vp_in i N) (kk : G (pc + 1) ls st I (up1 L a (some (.inl (.inl (.byte, (N, .inl (upd f i.toNatClampNeg (vp_nar .byte x)))))))) k n) : G pc ls (.int x :: .int i :: .ref a :: st) I L k n := by
  obtain ⟨p, e, s, m, args, below, meth, c, R, Q, hΓ, hx, hb, hr, hml, hown, hts, hlk, hnm, hW, htab, hF, hR, hmd, rfl, rfl⟩ := hG
  intro H locs lsA hl hS hV hI
  obtain ⟨ws, tys, v', q, hp, ⟨cA, hcA, rfl⟩, hP, hD, hK, hnew⟩ := hS.wr hL
  obtain ⟨t0, ht0⟩ := List.getElem?_of_mem hcA
  exact va_bast hx hb (va_K.moved hW.alike hK) hP hD hV q t0 hp ht0 hin hd (fun H1 locs1 hP1 hD1 hV1 => kk H1 locs1 lsA hl (hnew (.inl (.byte, (N, .inl (upd f i.toNatClampNeg (vp_nar .byte x))))) _ H1 ⟨cA, hcA, rfl⟩ hP1 hD1 (frz_S hF hV1)) hV1 hI)
theorem IsG.cast (hG : IsG l s0 D own nm cc nL ret tab d mc ms Ib post xp md G GX) {a N : Nat} {f : Nat → Int32} {i : Int32} {x : Int32} (hd : decode cc pc = .ok (.castore, 1)) (hL : L a = some (.inl (.inl (.char, (N, .inl f))))) (hin : vp_in i N) (kk : G (pc + 1) ls st I (up1 L a (some (.inl (.inl (.char, (N, .inl (upd f i.toNatClampNeg (vp_nar .char x)))))))) k n) : G pc ls (.int x :: .int i :: .ref a :: st) I L k n := by
  obtain ⟨p, e, s, m, args, below, meth, c, R, Q, hΓ, hx, hb, hr, hml, hown, hts, hlk, hnm, hW, htab, hF, hR, hmd, rfl, rfl⟩ := hG
  intro H locs lsA hl hS hV hI
  obtain ⟨ws, tys, v', q, hp, ⟨cA, hcA, rfl⟩, hP, hD, hK, hnew⟩ := hS.wr hL
  obtain ⟨t0, ht0⟩ := List.getElem?_of_mem hcA
  exact va_cast hx hb (va_K.moved hW.alike hK) hP hD hV q t0 hp ht0 hin hd (fun H1 locs1 hP1 hD1 hV1 => kk H1 locs1 lsA hl (hnew (.inl (.char, (N, .inl (upd f i.toNatClampNeg (vp_nar .char x))))) _ H1 ⟨cA, hcA, rfl⟩ hP1 hD1 (frz_S hF hV1)) hV1 hI)
theorem IsG.last (hG : IsG l s0 D own nm cc nL ret tab d mc ms Ib post xp md G GX) {a N : Nat} {f : Nat → Int64} {i : Int32} {x : Int64} (hd : decode cc pc = .ok (.lastore, 1)) (hL : L a = some (.inl (.inl (.long, (N, .inr (.inl f)))))) (hin : vp_in i N) (kk : G (pc + 1) ls st I (up1 L a (some (.inl (.inl (.long, (N, .inr (.inl (vp_updL f i.toNatClampNeg x)))))))) k n) : G pc ls (.long x :: .int i :: .ref a :: st) I L k n := by
  obtain ⟨p, e, s, m, args, below, meth, c, R, Q, hΓ, hx, hb, hr, hml, hown, hts, hlk, hnm, hW, htab, hF, hR, hmd, rfl, rfl⟩ := hG
  intro H locs lsA hl hS hV hI
  obtain ⟨ws, tys, v', q, hp, ⟨cA, hcA, rfl⟩, hP, hD, hK, hnew⟩ := hS.wr hL
  obtain ⟨t0, ht0⟩ := List.getElem?_of_mem hcA
  exact va_last hx hb (va_K.moved hW.alike hK) hP hD hV q t0 hp ht0 hin hd (fun H1 locs1 hP1 hD1 hV1 => kk H1 locs1 lsA hl (hnew (.inl (.long, (N, .inr (.inl (vp_updL f i.toNatClampNeg x))))) _ H1 ⟨cA, hcA, rfl⟩ hP1 hD1 (frz_S hF hV1)) hV1 hI)
theorem IsG.dast (hG : IsG l s0 D own nm cc nL ret tab d mc ms Ib post xp md G GX) {a N : Nat} {f : Nat → UInt64} {i : Int32} {x : UInt64} (hd : decode cc pc = .ok (.dastore, 1)) (hL : L a = some (.inl (.inl (.double, (N, .inr (.inr (.inr (.inl f)))))))) (hin : vp_in i N) (kk : G (pc + 1) ls st I (up1 L a (some (.inl (.inl (.double, (N, .inr (.inr (.inr (.inl (vf_upd f i.toNatClampNeg x)))))))))) k n) : G pc ls (.double x :: .int i :: .ref a :: st) I L k n := by
  obtain ⟨p, e, s, m, args, below, meth, c, R, Q, hΓ, hx, hb, hr, hml, hown, hts, hlk, hnm, hW, htab, hF, hR, hmd, rfl, rfl⟩ := hG
  intro H locs lsA hl hS hV hI
  obtain ⟨ws, tys, v', q, hp, ⟨cA, hcA, rfl⟩, hP, hD, hK, hnew⟩ := hS.wr hL
  obtain ⟨t0, ht0⟩ := List.getElem?_of_mem hcA
  exact va_dast hx hb (va_K.moved hW.alike hK) hP hD hV q t0 hp ht0 hin hd (fun H1 locs1 hP1 hD1 hV1 => kk H1 locs1 lsA hl (hnew (.inl (.double, (N, .inr (.inr (.inr (.inl (vf_upd f i.toNatClampNeg x))))))) _ H1 ⟨cA, hcA, rfl⟩ hP1 hD1 (frz_S hF hV1)) hV1 hI)
theorem Rcv.any {s s0 : State} {D : va_G} {I : AI} {L : AL} {H : Heap} {a : Nat} {C E : String} {b0 : Addr} (hw : ∀ w ∈ lw_tbl, w.before #[Value.ref b0] s0 = true) (hW : s0.WarmedH s.vm) (h : Rcv s0 D I L a C) (hS : Sat s0 D I L H) (hc : Cond.castable C E ∈ lw_tbl) : va_Any E s H a := by
  obtain ⟨cell, h1, h2, h3⟩ := h H hS
  obtain ⟨c0, t0, k1, k2, k3⟩ := Cond.castable_spec (show (Cond.castable C E).before #[] s = true from nw_castable hw hW hc)
  have h4 : s.vm.findClass C = some cell.cls := by rw [hW.alike.findClass]; exact h3
  cases Option.some.inj (h4.symm.trans k1)
  obtain ⟨k9, h9, -⟩ := Vm.findClass_spec h4
  exact ⟨cell, h1, by rw [h2]; rfl, ⟨k9, h9⟩, fun comp hcomp => by cases Option.some.inj (hcomp.symm.trans k2); exact k3⟩
theorem IsG.aast (hG : IsG l s0 D own nm cc nL ret tab d mc ms Ib post xp md G GX) {a N v : Nat} {C E : String} {f : Nat → Option Nat} {i : Int32} (hd : decode cc pc = .ok (.aastore, 1)) (hL : L a = some (.inl (.inl (.object E, (N, .inr (.inr (.inr (.inr f)))))))) (hv : Rcv s0 D I L v C) (hca : Cond.castable C E ∈ lw_tbl) (hin : vp_in i N) (kk : G (pc + 1) ls st I (up1 L a (some (.inl (.inl (.object E, (N, .inr (.inr (.inr (.inr (va_up f i.toNatClampNeg (some v)))))))))) ) k n) : G pc ls (.ref v :: .int i :: .ref a :: st) I L k n := by
  obtain ⟨p, e, s, m, args, below, meth, c, R, Q, hΓ, hx, hb, hr, hml, hown, hts, hlk, hnm, hW, htab, hF, hR, hmd, rfl, rfl⟩ := hG
  obtain ⟨⟨b0, hw⟩, -⟩ := hΓ
  intro H locs lsA hl hS hV hI
  have hany := hv.any hw hW hS hca
  obtain ⟨ws, tys, v', q, hp, ⟨cA, hcA, rfl⟩, hP, hD, hK, hnew⟩ := hS.wr hL
  obtain ⟨t0, ht0⟩ := List.getElem?_of_mem hcA
  exact va_astqM hx hb (va_K.moved hW.alike hK) hP hD hV q t0 hp ht0 hany hin hd (fun H1 locs1 hP1 hD1 hV1 => kk H1 locs1 lsA hl (hnew (.inl (.object E, (N, .inr (.inr (.inr (.inr (va_up f i.toNatClampNeg (some v)))))))) _ H1 ⟨cA, hcA, rfl⟩ hP1 hD1 (frz_S hF hV1)) hV1 hI)
theorem IsG.aastN (hG : IsG l s0 D own nm cc nL ret tab d mc ms Ib post xp md G GX) {a N : Nat} {E : String} {f : Nat → Option Nat} {i : Int32} (hd : decode cc pc = .ok (.aastore, 1)) (hL : L a = some (.inl (.inl (.object E, (N, .inr (.inr (.inr (.inr f)))))))) (hin : vp_in i N) (kk : G (pc + 1) ls st I (up1 L a (some (.inl (.inl (.object E, (N, .inr (.inr (.inr (.inr (va_up f i.toNatClampNeg none))))))))) ) k n) : G pc ls (.null :: .int i :: .ref a :: st) I L k n := by
  obtain ⟨p, e, s, m, args, below, meth, c, R, Q, hΓ, hx, hb, hr, hml, hown, hts, hlk, hnm, hW, htab, hF, hR, hmd, rfl, rfl⟩ := hG
  intro H locs lsA hl hS hV hI
  obtain ⟨ws, tys, v', q, hp, ⟨cA, hcA, rfl⟩, hP, hD, hK, hnew⟩ := hS.wr hL
  obtain ⟨t0, ht0⟩ := List.getElem?_of_mem hcA
  exact va_astqN hx hb (va_K.moved hW.alike hK) hP hD hV q t0 hp ht0 hin hd (fun H1 locs1 hP1 hD1 hV1 => kk H1 locs1 lsA hl (hnew (.inl (.object E, (N, .inr (.inr (.inr (.inr (va_up f i.toNatClampNeg none))))))) _ H1 ⟨cA, hcA, rfl⟩ hP1 hD1 (frz_S hF hV1)) hV1 hI)
/-- Object.<init> -/
theorem IsG.objI (hG : IsG l s0 D own nm cc nL ret tab d mc ms Ib post xp md G GX) {idx a : Nat} (hd : decode cc pc = .ok (.invokespecial idx, 3)) (h1 : Cond.methodLink own idx objectInit ∈ lw_all) (hw9 : (st.map fun v => v.category).sum ≤ 40) (hd1 : 1 ≤ d) (kk : G (pc + 3) ls st I L k n) : G pc ls (.ref a :: st) I L k n := by
  obtain ⟨p, e, s, m, args, below, meth, c, R, Q, hΓ, hx, hb, hr, hml, hown, hts, hlk, hnm, hW, htab, hF, hR, hmd, rfl, rfl⟩ := hG
  intro H locs lsA hl hS hV hI
  refine W.objInit hx hb hown (hts _ h1) (hts _ q150) (hts _ q151) rfl (by rw [hml]; exact hl.1) rfl hd (by omega) ?_ (kk H locs lsA hl hS hV hI)
  show 2 * 0 + _ + 12 ≤ _
  omega
theorem IsG.castY (hG : IsG l s0 D own nm cc nL ret tab d mc ms Ib post xp md G GX) {idx a : Nat} {C T : String} (hd : decode cc pc = .ok (.checkcast idx, 3)) (h1 : Cond.classLink own idx T ∈ lw_all) (hv : Rcv s0 D I L a C) (hca : Cond.castable C T ∈ lw_tbl) (kk : G (pc + 3) ls (.ref a :: st) I L k n) : G pc ls (.ref a :: st) I L k n := by
  obtain ⟨p, e, s, m, args, below, meth, c, R, Q, hΓ, hx, hb, hr, hml, hown, hts, hlk, hnm, hW, htab, hF, hR, hmd, rfl, rfl⟩ := hG
  obtain ⟨⟨b0, hw⟩, -⟩ := hΓ
  intro H locs lsA hl hS hV hI
  obtain ⟨cell, g1, g2, g3⟩ := hv H hS
  exact va_castY hx hb hown (hts _ h1) (nw_castable hw hW hca) ⟨cell, g1, by rw [g2]; rfl, by rw [hW.alike.findClass]; exact g3⟩ hd (kk H locs lsA hl hS hV hI)
theorem IsG.castS (hG : IsG l s0 D own nm cc nL ret tab d mc ms Ib post xp md G GX) {idx a ci N : Nat} {C : String} {T : u_T} (hd : decode cc pc = .ok (.checkcast idx, 3)) (h1 : Cond.classLink own idx C ∈ lw_all) (hv : Rcv s0 D I L a C) (hc : CL[ci]? = some (C, T, N)) (kk : G (pc + 3) ls (.ref a :: st) I L k n) : G pc ls (.ref a :: st) I L k n := by
  obtain ⟨p, e, s, m, args, below, meth, c, R, Q, hΓ, hx, hb, hr, hml, hown, hts, hlk, hnm, hW, htab, hF, hR, hmd, rfl, rfl⟩ := hG
  obtain ⟨-, -, hK0, -⟩ := hΓ
  intro H locs lsA hl hS hV hI
  obtain ⟨cell, g1, g2, g3⟩ := hv H hS
  exact va_castS hx hb hown (hts _ h1) ((va_K.moved hW.alike hK0).1 ci _ hc).2 ⟨cell, g1, by rw [g2]; rfl, by rw [hW.alike.findClass]; exact g3⟩ hd (kk H locs lsA hl hS hV hI)
theorem IsG.instY (hG : IsG l s0 D own nm cc nL ret tab d mc ms Ib post xp md G GX) {idx a : Nat} {C T : String} (hd : decode cc pc = .ok (.instanceof idx, 3)) (h1 : Cond.classLink own idx T ∈ lw_all) (hv : Rcv s0 D I L a C) (hca : Cond.castable C T ∈ lw_tbl) (kk : G (pc + 3) ls (.int 1 :: st) I L k n) : G pc ls (.ref a :: st) I L k n := by
  obtain ⟨p, e, s, m, args, below, meth, c, R, Q, hΓ, hx, hb, hr, hml, hown, hts, hlk, hnm, hW, htab, hF, hR, hmd, rfl, rfl⟩ := hG
  obtain ⟨⟨b0, hw⟩, -⟩ := hΓ
  intro H locs lsA hl hS hV hI
  obtain ⟨cell, g1, g2, g3⟩ := hv H hS
  exact va_instY hx hb hown (hts _ h1) (nw_castable hw hW hca) ⟨cell, g1, by rw [g2]; rfl, by rw [hW.alike.findClass]; exact g3⟩ hd (kk H locs lsA hl hS hV hI)
theorem IsG.instS (hG : IsG l s0 D own nm cc nL ret tab d mc ms Ib post xp md G GX) {idx a ci N : Nat} {C : String} {T : u_T} (hd : decode cc pc = .ok (.instanceof idx, 3)) (h1 : Cond.classLink own idx C ∈ lw_all) (hv : Rcv s0 D I L a C) (hc : CL[ci]? = some (C, T, N)) (kk : G (pc + 3) ls (.int 1 :: st) I L k n) : G pc ls (.ref a :: st) I L k n := by
  obtain ⟨p, e, s, m, args, below, meth, c, R, Q, hΓ, hx, hb, hr, hml, hown, hts, hlk, hnm, hW, htab, hF, hR, hmd, rfl, rfl⟩ := hG
  obtain ⟨-, -, hK0, -⟩ := hΓ
  intro H locs lsA hl hS hV hI
  obtain ⟨cell, g1, g2, g3⟩ := hv H hS
  exact va_instS hx hb hown (hts _ h1) ((va_K.moved hW.alike hK0).1 ci _ hc).2 ⟨cell, g1, by rw [g2]; rfl, by rw [hW.alike.findClass]; exact g3⟩ hd (kk H locs lsA hl hS hV hI)
theorem IsG.instNo (hG : IsG l s0 D own nm cc nL ret tab d mc ms Ib post xp md G GX) {idx a : Nat} {C T : String} (hd : decode cc pc = .ok (.instanceof idx, 3)) (h1 : Cond.classLink own idx T ∈ lw_all) (hv : Rcv s0 D I L a C) (hno : va_Nc C T s0) (kk : G (pc + 3) ls (.int 0 :: st) I L k n) : G pc ls (.ref a :: st) I L k n := by
  obtain ⟨p, e, s, m, args, below, meth, c, R, Q, hΓ, hx, hb, hr, hml, hown, hts, hlk, hnm, hW, htab, hF, hR, hmd, rfl, rfl⟩ := hG
  intro H locs lsA hl hS hV hI
  obtain ⟨cell, g1, g2, g3⟩ := hv H hS
  obtain ⟨a1, a2, a3, a4, a5⟩ := hno
  exact va_instNo hx hb hown (hts _ h1) ⟨a1, a2, by rw [hW.alike.findClass]; exact a3, by rw [hW.alike.findClass]; exact a4, by rw [hW.alike.assignable]; exact a5⟩ ⟨cell, g1, by rw [g2]; rfl, by rw [hW.alike.findClass]; exact g3⟩ hd (kk H locs lsA hl hS hV hI)
/-- a static field, never written -/
theorem IsG.gets (hG : IsG l s0 D own nm cc nL ret tab d mc ms Ib post xp md G GX) {idx : Nat} {C f0 d0 ref : String} {v : Value} (hd : decode cc pc = .ok (.getstatic idx, 3)) (hZ : va_Z C f0 d0 v (Are s0) s0 s0.heap) (h1 : Cond.fieldLink own idx ref f0 d0 ∈ lw_all) (hsame : ref = C ∨ Cond.sameField ref C f0 d0 ∈ lw_all) (kk : G (pc + 3) ls (v :: st) I L k n) : G pc ls st I L k n := by
  obtain ⟨p, e, s, m, args, below, meth, c, R, Q, hΓ, hx, hb, hr, hml, hown, hts, hlk, hnm, hW, htab, hF, hR, hmd, rfl, rfl⟩ := hG
  intro H locs lsA hl hS hV hI
  exact va_gets hx hb ((va_Z.moved hW.alike hZ).kept (fun a h1 h2 => hF.2 a h1)) hV hown (hts _ h1) (same_of hts hsame) hd (kk H locs lsA hl hS hV hI)
end HEAP
