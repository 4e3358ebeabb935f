section ENG2
variable {l : Launch} {s0 : State} {D : va_G} {own nm : String} {cc : ByteArray} {nL : Nat} {ret : Option FieldType} {tab : List ExceptionTableEntry} {d mc ms : Nat} {Ib : AI} {post : Option Value → AI → AL → Prop} {xp : String → Nat → AI → AL → Prop} {md : Prop} {G : Gt} {GX : GXt}
variable {pc : Nat} {ls : List (Nat × Value)} {st : List Value} {I : AI} {L : AL} {k n : Nat}
/-- a rule over the opaque G again, from another at the same pc -/

theorem IsG.acmp_eq (hG : IsG l s0 D own nm cc nL ret tab d mc ms Ib post xp md G GX) {x y : Nat} {off : Int} {tgt : Nat} (hd : decode cc pc = .ok (.if_acmp .eq off, 3)) (ht : (pc : Int) + off = (tgt : Int)) (kt : x = y → G tgt ls st I L k n) (kf : ¬ x = y → G (pc + 3) ls st I L k n) : G pc ls (.ref y :: .ref x :: st) I L k n := by
  obtain ⟨p, e, s, m, args, below, meth, c, R, Q, hΓ, hx, hb, hr, hml, hown, hts, hlk, hnm, hW, htab, hF, hR, hmd, rfl, rfl⟩ := hG
  intro H locs lsA hl hS hV hI
  exact lv_acmp_eq (rx := some x) (ry := some y) hx hb hd ht (fun h => kt (Option.some.inj h) H locs lsA hl hS hV hI) (fun h => kf (fun e => h (congrArg some e)) H locs lsA hl hS hV hI)
theorem IsG.acmp_ne (hG : IsG l s0 D own nm cc nL ret tab d mc ms Ib post xp md G GX) {x y : Nat} {off : Int} {tgt : Nat} (hd : decode cc pc = .ok (.if_acmp .ne off, 3)) (ht : (pc : Int) + off = (tgt : Int)) (kt : ¬ x = y → G tgt ls st I L k n) (kf : x = y → G (pc + 3) ls st I L k n) : G pc ls (.ref y :: .ref x :: st) I L k n := by
  obtain ⟨p, e, s, m, args, below, meth, c, R, Q, hΓ, hx, hb, hr, hml, hown, hts, hlk, hnm, hW, htab, hF, hR, hmd, rfl, rfl⟩ := hG
  intro H locs lsA hl hS hV hI
  exact lv_acmp_ne (rx := some x) (ry := some y) hx hb hd ht (fun h => kt (fun e => h (congrArg some e)) H locs lsA hl hS hV hI) (fun h => kf (Option.some.inj h) H locs lsA hl hS hV hI)
theorem clampI {z : Int32} (hz : ¬ z < 0) : z.toInt = (z.toNatClampNeg : Int) := by
  have hz0 : (0 : Int) ≤ z.toInt := by
    have := Int32.not_lt.mp hz
    simpa using Int32.le_iff_toInt_le.mp this
  show z.toInt = ((z.toInt.toNat : Nat) : Int)
  omega
/-- System.arraycopy, of ints, bytes, chars .. -/
theorem IsG.acopyI (hG : IsG l s0 D own nm cc nL ret tab d mc ms Ib post xp md G GX) {idx a0 a n0 n1 : Nat} {ty : FieldType} {f g : Nat → Int32} {sp dp z : Int32} (hd : decode cc pc = .ok (.invokestatic idx, 3)) (hk9 : Cond.methodLink own idx arraycopyName ∈ lw_all) (hprim : refKind ty = false) (hR0 : Rd I L a0 (.inl (ty, (n0, .inl f)))) (hL : L a = some (.inl (.inl (ty, (n1, .inl g))))) (h1 : ¬ sp < 0) (h2 : ¬ dp < 0) (h3 : ¬ z < 0) (h4 : sp.toNatClampNeg + z.toNatClampNeg ≤ n0) (h5 : dp.toNatClampNeg + z.toNatClampNeg ≤ n1) (hfit : ∀ i, i < z.toNatClampNeg → fits ty (.int (f (sp.toNatClampNeg + i))) = true) (hw9 : (st.map fun v => v.category).sum ≤ 8) (hd1 : 1 ≤ d)
    (kk : G (pc + 3) ls st I (up1 L a (some (.inl (.inl (ty, (n1, .inl (va_cpy f g sp.toNatClampNeg dp.toNatClampNeg z.toNatClampNeg)))))) ) k n) : G pc ls (.int z :: .int dp :: .ref a :: .int sp :: .ref a0 :: st) I L k n := by
  obtain ⟨p, e, s, m, args, below, meth, c, R, Q, hΓ, hx, hb, hr, hml, hown, hts, hlk, hnm, hW, htab, hF, hR, hmd, rfl, rfl⟩ := hG
  intro H locs lsA hl hS hV hI
  obtain ⟨ws0, tys0, v0, q0, hp0, ⟨c0, hc0A, rfl⟩, hP0, hK0⟩ := hS.rd hR0
  obtain ⟨ws, tys, v1, q1, hp1, ⟨c1, hc1A, rfl⟩, hP, hD, hK, hnew⟩ := hS.wr hL
  obtain ⟨t0, ht0⟩ := List.getElem?_of_mem hc0A
  obtain ⟨t1, ht1⟩ := List.getElem?_of_mem hc1A
  intro T hT X
  have hc0 : H[a0]? = some (vp_cell c0 (n0, .inl f)) := hP0 q0 _ hp0
  have hc1 : H[a]? = some (vp_cell c1 (n1, .inl g)) := hP q1 _ hp1
  obtain ⟨-, k0, hk0, cm0, hkk0⟩ := ((va_K.moved hW.alike hK0).2 t0 _ ht0).1 n0 (fun j => .int (f j))
  obtain ⟨-, k1, hk1, cm1, hkk1⟩ := ((va_K.moved hW.alike hK).2 t1 _ ht1).1 n1 (fun j => .int (g j))
  obtain ⟨vm', X', step⟩ := X.arraycopy hx hown (hts _ hk9) (hts _ q652) (hts _ q651) (hts _ q99) (src := a0) (dst := a) (cs := vp_cell c0 (n0, .inl f)) (cd := vp_cell c1 (n1, .inl g)) (srcPos := sp) (destPos := dp) (n := z) (by rw [hT]; exact hc0) (by rw [hT]; exact hc1)
    (fun _ h => by cases h) (fun _ h => by cases h) (fun h => by cases h) (fun h => by cases h) hk0 hk1 hkk0 hkk1 (by simp [hprim]) h1 h2 h3
    (by rw [clampI h1, clampI h3]; show ¬ _ > ((arrV c0 n0 (fun j => .int (f j))).slots.size : Int); rw [arrV_size]; omega)
    (by rw [clampI h2, clampI h3]; show ¬ _ > ((arrV c1 n1 (fun j => .int (g j))).slots.size : Int); rw [arrV_size]; omega)
    (fun vm₁ _ i hi => by
      have e : (vp_cell c0 (n0, .inl f)).slots.getD (sp.toNatClampNeg + i) .null = .int (f (sp.toNatClampNeg + i)) := by
        show (arrV c0 n0 (fun j => .int (f j))).slots.getD _ _ = _
        rw [Array.getD_eq_getD_getElem?, arrV_read _ _ (by omega)]
        rfl
      refine ⟨?_, ?_⟩
      · rw [e]
        exact hfit i hi
      · rw [e]
        exact trivial)
    (g := F0 m pc lsA (.int z :: .int dp :: .ref a :: .int sp :: .ref a0 :: st)) rfl (by rw [hml]; exact hl.1) (rest := st) rfl (by rw [hb]; exact hd) (by omega) (by
      have e7 : nativeFrameWords "java/lang/System" "arraycopy" 5 = 7 := by decide +kernel
      rw [e7]
      show 2 * 0 + _ + _ ≤ _
      omega)
  have e1 : copied (vp_cell c0 (n0, .inl f)) (vp_cell c1 (n1, .inl g)) sp dp z = vp_cell c1 (n1, .inl (va_cpy f g sp.toNatClampNeg dp.toNatClampNeg z.toNatClampNeg)) := va_copied (fun z => .int z) c0 c1 f g h4
  rw [e1] at X' step
  have hl9 : a < H.size := (Array.getElem?_eq_some_iff.mp hc1).1
  have hheap : ((T.setVm vm').setCell a (vp_cell c1 (n1, .inl (va_cpy f g sp.toNatClampNeg dp.toNatClampNeg z.toNatClampNeg)))).heap = H.setIfInBounds a (vp_cell c1 (n1, .inl (va_cpy f g sp.toNatClampNeg dp.toNatClampNeg z.toNatClampNeg))) := by rw [← hT]; rfl
  have oq : ∀ q : Nat, q ≠ a → (H.setIfInBounds a (vp_cell c1 (n1, .inl (va_cpy f g sp.toNatClampNeg dp.toNatClampNeg z.toNatClampNeg))))[q]? = H[q]? := fun q hq => by simp [Array.getElem?_setIfInBounds, Ne.symm hq]
  have key : ∀ locs1 : List Loc, (∀ q ∈ locs1, q ∈ locs ∨ q.base = a) → va_S (Are s0) s.heap (H.setIfInBounds a (vp_cell c1 (n1, .inl (va_cpy f g sp.toNatClampNeg dp.toNatClampNeg z.toNatClampNeg)))) locs1 := fun locs1 hlo => ⟨by simp; exact hV.1, fun q g1 g2 => by
      rw [oq q (fun e => g2 (by rw [e]; exact hD.2 q1 _ hp1))]
      exact hV.2.1 q g1 g2, fun q hq => by
      rcases hlo q hq with h | h
      · exact hV.2.2 q h
      · rw [h]
        exact hD.2 q1 _ hp1⟩
  obtain ⟨t, a1, b1⟩ := kk _ _ lsA hl (hnew (.inl (ty, (n1, .inl (va_cpy f g sp.toNatClampNeg dp.toNatClampNeg z.toNatClampNeg)))) _ _ ⟨c1, hc1A, rfl⟩ (hP.set hD hp1 (show (H.setIfInBounds a _)[a]? = some _ by simp [Array.getElem?_setIfInBounds, hl9]) oq) (hD.set hp1) (frz_S hF (key locs (fun q hq => Or.inl hq)))) (key _ (by
      intro q hq
      rcases List.mem_append.mp hq with h | h
      · exact Or.inl h
      · obtain ⟨z, -, hz⟩ := List.mem_map.mp h
        rw [← hz]
        exact Or.inr rfl)) hI _ hheap X'
  exact ⟨t, step t a1, b1⟩
/-- System.arraycopy within one array of references -/
theorem IsG.acopyQ (hG : IsG l s0 D own nm cc nL ret tab d mc ms Ib post xp md G GX) {idx a n0 : Nat} {E : String} {f : Nat → Option Nat} {sp dp z : Int32} (hd : decode cc pc = .ok (.invokestatic idx, 3)) (hk9 : Cond.methodLink own idx arraycopyName ∈ lw_all) (hL : L a = some (.inl (arQ E n0 f))) (h1 : ¬ sp < 0) (h2 : ¬ dp < 0) (h3 : ¬ z < 0) (h4 : sp.toNatClampNeg + z.toNatClampNeg ≤ n0) (h5 : dp.toNatClampNeg + z.toNatClampNeg ≤ n0) (hel : ∀ i : Nat, i < z.toNatClampNeg → ∀ y : Nat, f (sp.toNatClampNeg + i) = some y → ∃ C, Rcv s0 D I L y C ∧ Cond.castable C E ∈ lw_tbl) (hw9 : (st.map fun v => v.category).sum ≤ 8) (hd1 : 1 ≤ d)
    (kk : G (pc + 3) ls st I (up1 L a (some (.inl (arQ E n0 (va_cpy f f sp.toNatClampNeg dp.toNatClampNeg z.toNatClampNeg))))) k n) : G pc ls (.int z :: .int dp :: .ref a :: .int sp :: .ref a :: st) I L k n := by
  obtain ⟨p, e, s, m, args, below, meth, c, R, Q, hΓ, hx, hb, hr, hml, hown, hts, hlk, hnm, hW, htab, hF, hR, hmd, rfl, rfl⟩ := hG
  obtain ⟨⟨b0, hw⟩, -⟩ := hΓ
  intro H locs lsA hl hS hV hI
  have hany : ∀ i : Nat, i < z.toNatClampNeg → ∀ y : Nat, f (sp.toNatClampNeg + i) = some y → va_Any E s H y := fun i hi y hy => by
    obtain ⟨C, g1, g2⟩ := hel i hi y hy
    exact g1.any hw hW hS g2
  obtain ⟨ws, tys, v1, q1, hp1, ⟨c1, hc1A, rfl⟩, hP, hD, hK, hnew⟩ := hS.wr hL
  obtain ⟨t1, ht1⟩ := List.getElem?_of_mem hc1A
  have e7 : nativeFrameWords "java/lang/System" "arraycopy" 5 = 7 := by decide +kernel
  exact va_copyM hx hb (by rw [hml]; exact hl.1.symm) hown (hts _ hk9) (hts _ q652) (hts _ q651) (hts _ q99) (va_K.moved hW.alike hK) hP hD hV q1 q1 t1 t1 hp1 hp1 ht1 ht1 h1 h2 h3 h4 h5 hany (by omega) (by rw [e7]; omega) hd (fun H1 locs1 hP1 hD1 hV1 => kk H1 locs1 lsA hl (hnew (arQ E n0 (va_cpy f f sp.toNatClampNeg dp.toNatClampNeg z.toNatClampNeg)) _ H1 ⟨c1, hc1A, rfl⟩ hP1 hD1 (frz_S hF hV1)) hV1 hI)
/-- a text by ldc -/
theorem IsG.ldcS (hG : IsG l s0 D own nm cc nL ret tab d mc ms Ib post xp md G GX) {idx q : Nat} {tx : String} (hd : decode cc pc = .ok (.ldc idx, 2)) (hZ : vk_R own idx tx q s0) (kk : G (pc + 2) ls (.ref q :: st) I L k n) : G pc ls st I L k n := by
  obtain ⟨p, e, s, m, args, below, meth, c, R, Q, hΓ, hx, hb, hr, hml, hown, hts, hlk, hnm, hW, htab, hF, hR, hmd, rfl, rfl⟩ := hG
  intro H locs lsA hl hS hV hI
  exact va_ldcS hx hb hown (vk_R.warm hW hZ) hd (kk H locs lsA hl hS hV hI)
/-- an interface's method, with handlers -/
theorem IsG.callFW (hG : IsG l s0 D own nm cc nL ret tab d mc ms Ib post xp md G GX) {y : MethodName} {idx na : Nat} {d' mc' ms' : Nat} {As rest : List Value} {post' : Option Value → AI → AL → Prop} {xp' : String → Nat → AI → AL → Prop} {b ci N cnt : Nat} {C : String} {x : MethodName} {T : u_T} (hd : decode cc pc = .ok (.invokeinterface idx cnt, 5)) (hk9 : LkF own idx C x y na) (hv : Rcv s0 D I L b C) (hCL : CL[ci]? = some (C, T, N)) (hS9 : SpcW l s0 D y d' (.ref b :: As) I L mc' ms' post' xp') (hn9 : As.length = na) (hst : st = As.reverse ++ .ref b :: rest) (hw9 : (rest.map fun v => v.category).sum ≤ 8) (hdd : d' + 1 ≤ d) (hc9 : k + mc' ≤ mc) (hs9 : n + ms' ≤ ms) (kk : ∀ r I' L', ile I I' → post' r I' L' → G (pc + 5) ls (r.toList ++ rest) I' L' (k + mc') (n + ms')) (kx : ∀ E q I' L', ile I I' → xp' E q I' L' → GX pc ls rest E q I' L' (k + mc') (n + ms')) : G pc ls st I L k n := by
  obtain ⟨p, e, s, m, args, below, meth, c, R, Q, hΓ, hx, hb, hr, hml, hown, hts, hlk, hnm, hW, htab, hF, hR, hmd, rfl, rfl⟩ := hG
  obtain ⟨k1, k2, k3, k4, k5, k6, k7, k8, k9, k10⟩ := hk9
  obtain ⟨⟨b0, hw0⟩, -, hK0, -⟩ := hΓ
  obtain ⟨cc9, nL9, ret9, hh, hnL9, hw, hM⟩ := hS9
  intro H locs lsA hl hS hV hI
  have hrc : ∃ cellB : Cell, H[b]? = some cellB ∧ cellB.vm.isStatics = false ∧ s.vm.findClass C = some cellB.cls := by
    obtain ⟨cell, g1, g2, g3⟩ := hv H hS
    exact ⟨cell, g1, by rw [g2]; rfl, by rw [hW.alike.findClass]; exact g3⟩
  exact run_go5 hF hV hI hl (vx_runFW ((va_K.moved hW.alike hK0).1 ci _ hCL).2 ⟨hx, hb, hml, hown, hts⟩ hM (va_cwFW na hts (lw_app (fun w hw9 => by simp only [List.mem_cons, List.not_mem_nil, or_false] at hw9; rcases hw9 with e | e | e | e <;> rw [e] <;> assumption) (lw_methW hw)) rfl rfl rfl (va_Fw.moved ⟨k5.1, k5.2.1⟩ hW.alike (va_Fw.of (hw0 _ k6) (hw0 _ k7) (hw0 _ k8) (hw0 _ k9) (hw0 _ k10))) k5 ⟨Nat.le_trans hdd hR.1, by show 8 + (nL9 + 11) + 64 * d' ≤ _; omega⟩) ⟨PcS.blind, hrc, fun U hU hWU => ⟨rfl, State.WarmedH.trans hW hWU, by rw [hU]; exact hS⟩⟩ rfl hn9 (hl.1) hst (lv_room hw9) hd ⟨Nat.le_trans hc9 hR.2.2.1, Nat.le_trans hs9 hR.2.2.2⟩) kk kx
theorem IsG.mmax (hG : IsG l s0 D own nm cc nL ret tab d mc ms Ib post xp md G GX) {x y : Int32} {idx : Nat} (hd : decode cc pc = .ok (.invokestatic idx, 3)) (hk9 : Cond.methodLink own idx Lib.Math.max.name ∈ lw_all) (hw9 : (st.map fun v => v.category).sum ≤ 8) (hd1 : 1 ≤ d) (kk : G (pc + 3) ls (.int (if x < y then y else x) :: st) I L k n) (hkc : k ≤ mc := by omega) (hns : n ≤ ms := by omega) : G pc ls (.int y :: .int x :: st) I L k n := by
  obtain ⟨p, e, s, m, args, below, meth, c, R, Q, hΓ, hx, hb, hr, hml, hown, hts, hlk, hnm, hW, htab, hF, hR, hmd, rfl, rfl⟩ := hG
  intro H locs lsA hl hS hV hI
  exact va_mmax hx hb (by rw [hml]; exact hl.1.symm) hown (hts _ hk9) (hts _ q582) (hts _ q97) (hts _ q583) (by omega) (by omega) (Nat.le_trans hkc hR.2.2.1) (Nat.le_trans hns hR.2.2.2) hd (kk H locs lsA hl hS hV hI)
theorem IsG.mmin (hG : IsG l s0 D own nm cc nL ret tab d mc ms Ib post xp md G GX) {x y : Int32} {idx : Nat} (hd : decode cc pc = .ok (.invokestatic idx, 3)) (hk9 : Cond.methodLink own idx Lib.Math.min.name ∈ lw_all) (hw9 : (st.map fun v => v.category).sum ≤ 8) (hd1 : 1 ≤ d) (kk : G (pc + 3) ls (.int (if y < x then y else x) :: st) I L k n) (hkc : k ≤ mc := by omega) (hns : n ≤ ms := by omega) : G pc ls (.int y :: .int x :: st) I L k n := by
  obtain ⟨p, e, s, m, args, below, meth, c, R, Q, hΓ, hx, hb, hr, hml, hown, hts, hlk, hnm, hW, htab, hF, hR, hmd, rfl, rfl⟩ := hG
  intro H locs lsA hl hS hV hI
  exact va_mmin hx hb (by rw [hml]; exact hl.1.symm) hown (hts _ hk9) (hts _ q648) (hts _ q97) (hts _ q649) (by omega) (by omega) (Nat.le_trans hkc hR.2.2.1) (Nat.le_trans hns hR.2.2.2) hd (kk H locs lsA hl hS hV hI)
theorem IsG.mabs (hG : IsG l s0 D own nm cc nL ret tab d mc ms Ib post xp md G GX) {x : Int32} {idx : Nat} (hd : decode cc pc = .ok (.invokestatic idx, 3)) (hk9 : Cond.methodLink own idx Lib.Math.abs.name ∈ lw_all) (hw9 : (st.map fun v => v.category).sum ≤ 8) (hd1 : 1 ≤ d) (kk : G (pc + 3) ls (.int (if 0 ≤ x then x else 0 - x) :: st) I L k n) (hkc : k ≤ mc := by omega) (hns : n ≤ ms := by omega) : G pc ls (.int x :: st) I L k n := by
  obtain ⟨p, e, s, m, args, below, meth, c, R, Q, hΓ, hx, hb, hr, hml, hown, hts, hlk, hnm, hW, htab, hF, hR, hmd, rfl, rfl⟩ := hG
  intro H locs lsA hl hS hV hI
  exact va_mabs hx hb (by rw [hml]; exact hl.1.symm) hown (hts _ hk9) (hts _ q1881) (hts _ q97) (hts _ q1882) (by omega) (by omega) (Nat.le_trans hkc hR.2.2.1) (Nat.le_trans hns hR.2.2.2) hd (kk H locs lsA hl hS hV hI)
end ENG2
