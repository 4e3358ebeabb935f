/-! exceptions of the JDK, made by new E() -/
theorem cast_warm {s s0 : State} {A args : Array Value} {w : Cond} (hW : s0.WarmedH s.vm) (hc : (w.onTables && w.keepsCast) = true) (h : w.before A s0 = true) : w.before args s = true := by
  rw [Bool.and_eq_true] at hc
  exact va_tabs hc.1 (rfl : (s0.setVm s.vm).vm = s.vm) (Cond.before_shiftedCast (State.Shifted.of_warmed hW) w hc.2 h)
section EX
variable {l : Launch} {s0 : State} {D : va_G} {own nm : String} {cc : ByteArray} {nL : Nat} {ret : Option FieldType} {tab : List ExceptionTableEntry} {d mc ms : Nat} {Ib : AI} {post : Option Value → AI → AL → Prop} {xp : String → Nat → AI → AL → Prop} {md : Prop} {G : Gt} {GX : GXt}
variable {pc : Nat} {ls : List (Nat × Value)} {st : List Value} {I : AI} {L : AL} {k n : Nat}
/-- the words of new cls() at a place -/
def LkE (own cls : String) (names : List String) (ik ic : Nat) : Prop := Bundle.fit cls = true ∧ (∀ n ∈ names, Bundle.fit n = true) ∧ Cond.classLink own ik cls ∈ lw_all ∧ Cond.initialized cls ∈ lw_all ∧ (∀ w ∈ vx_at0 own ic cls names, w ∈ lw_tbl ∧ (w.onTables && w.keepsCast) = true) ∧ (∀ w ∈ Cond.classLink own ik cls :: Cond.initialized cls :: vx_at0 own ic cls names, vx_ot w = true)
theorem IsG.newE (hG : IsG l s0 D own nm cc nL ret tab d mc ms Ib post xp md G GX) {cls : String} {names : List String} {ik ic ci : Nat} {T0 : u_T} (d0 : decode cc pc = .ok (.new ik, 3)) (d3 : decode cc (pc + 3) = .ok (.dup, 1)) (d4 : decode cc (pc + 4) = .ok (.invokespecial ic, 3)) (hf : LkE own cls names ik ic) (hc : CL[ci]? = some (cls, T0, 0)) (hd : names.length + 4 ≤ d) (hst : (st.map fun v => v.category).sum ≤ 8) (hk : k + 1 ≤ mc) (hn : n + 6 ≤ ms) (kk : ∀ q, L q = none → (∀ x, ¬ I q x) → G (pc + 7) ls (.ref q :: st) I (up1 L q (some (.inl (.inr (ci, []))))) (k + 1) (n + 6)) : G pc ls st I L k n := by
  obtain ⟨p, e, s, m, args, below, meth, c, R, Q, hΓ, hx, hb, hr, hml, hown, hts, hlk, hnm, hW, htab, hF, hR, hmd, rfl, rfl⟩ := hG
  obtain ⟨h1, h2, h3, h4, h5, h6⟩ := hf
  obtain ⟨⟨b0, hw0⟩, htr, -, hU, hN⟩ := hΓ
  intro H locs lsA hl hS hV hI
  obtain ⟨ws, tys, hP, hD, hK, hnew⟩ := hS.nw
  have hK' := va_K.moved hW.alike hK
  have hR1 := hR.1
  have hR2 := hR.2.1
  refine vx_make0 hx hb htr hown h1 h2 (hts _ h3) (hts _ h4) (fun w hw => cast_warm hW (h5 w hw).2 (hw0 w (h5 w hw).1)) h6 ((vx_Zq.moved hW.alike hU).kept (fun a h1 h2 => hF.2 a h1)) ((vx_Zq.moved hW.alike hN).kept (fun a h1 h2 => hF.2 a h1)) hV (hl.1.trans hml.symm) d0 d3 d4 hK' hP hD (are_of hF) hc (by omega) (by omega) (Nat.le_trans hk hR.2.2.1) (Nat.le_trans hn hR.2.2.2) (fun q H1 hP1 hD1 hV1 => ?_)
  obtain ⟨g1, g2, g3⟩ := hnew q (.inr (ci, [])) _ tys H1 (fun _ h => h) hK rfl hP1 hD1 (frz_S hF hV1)
  exact kk q g1 g2 H1 locs lsA hl g3 hV1 hI
end EX
theorem at0_in {ws : List Cond} (h : ws.all (fun w => lw_tbl.any (fun v => decide (v = w)) && (w.onTables && w.keepsCast)) = true) : ∀ w ∈ ws, w ∈ lw_tbl ∧ (w.onTables && w.keepsCast) = true := fun w hw => by
  have h1 := List.all_eq_true.mp h w hw
  rw [Bool.and_eq_true] at h1
  obtain ⟨h2, h3⟩ := h1
  rw [List.any_eq_true] at h2
  obtain ⟨v, hv, e⟩ := h2
  have e2 : v = w := of_decide_eq_true e
  exact ⟨e2 ▸ hv, h3⟩
set_option maxRecDepth 1000000 in
theorem le_J14 : LkE RX1 RJ14 ["java/lang/RuntimeException", "java/lang/Exception"] 1 3 := ⟨by decide +kernel, by decide +kernel, q1685, q92, at0_in (by decide +kernel), by decide +kernel⟩
set_option maxRecDepth 1000000 in
theorem le_J33 : LkE RX1 RJ33 ["java/lang/RuntimeException", "java/lang/Exception"] 7 9 := ⟨by decide +kernel, by decide +kernel, q1647, q115, at0_in (by decide +kernel), by decide +kernel⟩
set_option maxRecDepth 1000000 in
theorem le_J36 : LkE RX1 RJ36 ["java/lang/RuntimeException", "java/lang/Exception"] 10 12 := ⟨by decide +kernel, by decide +kernel, q2918, q122, at0_in (by decide +kernel), by decide +kernel⟩
set_option maxRecDepth 1000000 in
theorem le_J16 : LkE RX1 RJ16 ["java/lang/RuntimeException", "java/lang/Exception"] 13 15 := ⟨by decide +kernel, by decide +kernel, q2798, q95, at0_in (by decide +kernel), by decide +kernel⟩
set_option maxRecDepth 1000000 in
theorem le_J35 : LkE RX1 RJ35 ["java/lang/RuntimeException", "java/lang/Exception"] 126 128 := ⟨by decide +kernel, by decide +kernel, q2275, q121, at0_in (by decide +kernel), by decide +kernel⟩
set_option maxRecDepth 1000000 in
theorem le_J39 : LkE RX1 RJ39 ["java/lang/RuntimeException", "java/lang/Exception"] 384 386 := ⟨by decide +kernel, by decide +kernel, q2894, q140, at0_in (by decide +kernel), by decide +kernel⟩
