/-! CONTRACTS: made (Spc.of, Spc.ofW) and used (IsG.callS ..) -/
section CALL
variable {l : Launch} {s0 : State} {D : va_G} {own nm : String} {cc : ByteArray} {nL : Nat} {ret : Option FieldType} {tab : List ExceptionTableEntry} {d mc ms : Nat} {Ib : AI} {post : Option Value → AI → AL → Prop} {xp : String → Nat → AI → AL → Prop} {md : Prop} {G : Gt} {GX : GXt}
variable {pc : Nat} {ls : List (Nat × Value)} {st : List Value} {I : AI} {L : AL} {k n : Nat}
/-- the answer's type by the descriptor -/
theorem cond_ret {y : MethodName} {b : ByteArray} {nl : Nat} {r r' : Option FieldType} {args : Array Value} {s : State} (h : (Cond.code y b nl r).before args s = true) (hd : (parseMethodDescriptor y.desc).map (fun d => d.returnType) = some r') : r = r' := by
  cases hm : s.methodNamed? y with
  | none =>
    have h' : (Cond.code y b nl r).holds args s none s [] = true := h
    simp [Cond.holds, Cond.value, hm] at h'
  | some m =>
    obtain ⟨meth, c, h1, h2, h3, h4, h5, h6, h7, h8⟩ := Cond.code_spec hm h
    rw [h8] at hd
    exact h5.symm.trans (Option.some.inj hd)
theorem PcS.blind {s0 : State} {D : va_G} {As : List Value} {I : AI} {L : AL} : FrameBlind (PcS s0 D As I L) := fun _ _ _ _ h => h
/-- a contract out of a walk: a method without handlers -/
theorem Spc.of (hΓ : Gam l s0 D) {y : MethodName} (cc : ByteArray) (nL : Nat) (ret : Option FieldType) (hw : Cond.code y cc nL ret ∈ lw_all) (hy : plainName y.cls = true) (hnL : nL ≤ 40) {As : List Value} (hAs : (lg_sl As).length ≤ nL)
    (body : ∀ (G : Gt) (GX : GXt), IsG l s0 D y.cls y.name cc nL ret [] d mc ms I post xp True G GX → G 0 (lv_args 0 As) [] I L 0 0) : Spc l s0 D y d As I L mc ms post xp := by
  refine ⟨cc, nL, ret, hnL, hw, ?_⟩
  refine vx_ofW (cc := cc) (maxL := nL) (ret := ret) hy rfl ?_
  intro p e s m args below meth c s₁ B hml htab hv
  obtain ⟨rfl, hW, hS⟩ := hv
  have hts := atoms_spec (ws := ws_ y cc nL ret) B.pre
  have hts : ∀ w ∈ lw_all, w.before _ s = true := fun w h => hts w (List.mem_cons_of_mem _ h)
  have ht0 : c.exceptionTable.toList = [] := List.eq_nil_iff_forall_not_mem.mpr fun x hx => htab x hx
  have K := body _ _ ⟨p, e, s, m, _, below, meth, c, rmS d mc ms, _, hΓ, B.exec, B.bytes, B.returns, hml, findClass_of_methodNamed B.named, hts, B.notSynchronized, (name_of_methodNamed B.named B.method).1, hW, ht0, hS.frz, ⟨Nat.le_refl _, Nat.le_refl _, Nat.le_refl _, Nat.le_refl _⟩, fun _ => rfl, rfl, rfl⟩
  rw [lg_entry_eq]
  exact K s.heap [] _ (lv_entry As hAs) hS va_S.rf ile_rf
/-- a contract out of a walk: a method with handlers -/
theorem SpcW.of (hΓ : Gam l s0 D) {y : MethodName} (cc : ByteArray) (nL : Nat) (ret : Option FieldType) (hh : List (Nat × Nat × Nat × Nat)) (hw : Cond.codeWith y cc nL ret hh ∈ lw_all) (hy : plainName y.cls = true) (hnL : nL ≤ 40) {As : List Value} (hAs : (lg_sl As).length ≤ nL)
    (body : ∀ (G : Gt) (GX : GXt), IsG l s0 D y.cls y.name cc nL ret (hh.map fun q => { startPc := q.1, endPc := q.2.1, handlerPc := q.2.2.1, catchType := q.2.2.2 }) d mc ms I post xp True G GX → G 0 (lv_args 0 As) [] I L 0 0) : SpcW l s0 D y d As I L mc ms post xp := by
  refine ⟨cc, nL, ret, hh, hnL, hw, ?_⟩
  refine vx_ofWH (cc := cc) (maxL := nL) (ret := ret) (hh := hh) hy rfl ?_
  intro p e s m args below meth c s₁ B hml hv
  obtain ⟨rfl, hW, hS⟩ := hv
  have hts0 := atoms_spec (ws := wsW_ y cc nL ret hh) B.pre
  have hts : ∀ w ∈ lw_all, w.before _ s = true := fun w h => hts0 w (List.mem_cons_of_mem _ h)
  have ht0 : c.exceptionTable.toList = hh.map fun q => { startPc := q.1, endPc := q.2.1, handlerPc := q.2.2.1, catchType := q.2.2.2 } := by
    obtain ⟨m9, meth9, c9, hn9, hm9, hc9, -, -, ht9, -⟩ := Cond.codeWith_spec (hts0 _ List.mem_cons_self)
    cases B.named.symm.trans hn9
    cases B.method.symm.trans hm9
    have hc : meth.code = some c := (Stand.of_body B).code
    cases hc.symm.trans hc9
    rw [← ht9, List.map_map]
    exact (List.map_id _).symm
  have K := body _ _ ⟨p, e, s, m, _, below, meth, c, rmS d mc ms, _, hΓ, B.exec, B.bytes, B.returns, hml, findClass_of_methodNamed B.named, hts, B.notSynchronized, (name_of_methodNamed B.named B.method).1, hW, ht0, hS.frz, ⟨Nat.le_refl _, Nat.le_refl _, Nat.le_refl _, Nat.le_refl _⟩, fun _ => rfl, rfl, rfl⟩
  rw [lg_entry_eq]
  exact K s.heap [] _ (lv_entry As hAs) hS va_S.rf ile_rf
/-- what a call leaves, from its run -/
theorem run_go {p : Program} {e : Env} {s : State} {m : MethodId} {args : Array Value} {below : List Frame} {meth : Method} {c : Code} {R : Room} {Q : State → Prop} {H : Heap} {locs : List Loc} {lsA : Array Slot} {rest : List Value} {mc' ms' : Nat} {post' : Option Value → AI → AL → Prop} {xp' : String → Nat → AI → AL → Prop} {AsA : Array Value}
    (hF : Frz s0 s.heap) (hV : va_S (Are s0) s.heap H locs) (hI : ile Ib I) (hl : lv_has lsA nL ls)
    (hrun : vx_Run p l e R s m args below meth c H locs k n mc' ms' (F0 m pc lsA st) rest (QcS s0 D I post' AsA) (XcS s0 D I xp') (Are s0))
    (kk : ∀ r I' L', ile I I' → post' r I' L' → ∀ (H : Heap) (locs : List Loc) (lsA : Array Slot), lv_has lsA nL ls → Sat s0 D I' L' H → va_S (Are s0) s.heap H locs → ile Ib I' → W p l e R s m args below meth c H locs (k + mc') (n + ms') Q (F0 m (pc + 3) lsA (r.toList ++ rest)))
    (kx : ∀ E q I' L', ile I I' → xp' E q I' L' → ∀ (H : Heap) (locs : List Loc) (lsA : Array Slot) (ce : Cell), lv_has lsA nL ls → Sat s0 D I' L' H → va_S (Are s0) s.heap H locs → ile Ib I' → H[q]? = some ce → ce.vm = .none → s.vm.findClass E = some ce.cls → vx_W p l e R s m args below meth c H locs (k + mc') (n + ms') Q (F0 m pc lsA rest) q) :
    W p l e R s m args below meth c H locs k n Q (F0 m pc lsA st) := by
  intro T hT X
  rcases hrun T hT X with ⟨v, st₀, t, T', Ls, h0, X', hL, e1, e2, ⟨r, I', L', hr, hI', hp, hS', hF'⟩, st9⟩ | ⟨q, st₀, t, T', Ls, E, ce, h0, X', hL, e1, e2, ⟨I', L', hI', hp, hS', hF'⟩, hce, hcv, hcl, st9⟩
  · cases hr
    have hV' := vx_keep h0 e1 hV (fun q _ h => h) (fun q h => h) hL hF'
    obtain ⟨t2, a1, b1⟩ := kk v I' L' hI' hp T'.heap (locs ++ Ls) lsA hl (by rw [e1]; exact hS') hV'.2.2 (ile_tr hI hI') T' rfl X'
    exact ⟨t2, st9 t2 a1, b1⟩
  · have hV' := vx_keep h0 e1 hV (fun q _ h => h) (fun q h => h) hL hF'
    obtain ⟨t2, a1, b1⟩ := kx E q I' L' hI' hp T'.heap (locs ++ Ls) lsA ce hl (by rw [e1]; exact hS') hV'.2.2 (ile_tr hI hI') (by rw [e1]; exact hce) hcv hcl T' rfl X'
    exact ⟨t2, st9.trans a1, b1⟩
theorem run_go5 {p : Program} {e : Env} {s : State} {m : MethodId} {args : Array Value} {below : List Frame} {meth : Method} {c : Code} {R : Room} {Q : State → Prop} {H : Heap} {locs : List Loc} {lsA : Array Slot} {rest : List Value} {mc' ms' : Nat} {post' : Option Value → AI → AL → Prop} {xp' : String → Nat → AI → AL → Prop} {AsA : Array Value}
    (hF : Frz s0 s.heap) (hV : va_S (Are s0) s.heap H locs) (hI : ile Ib I) (hl : lv_has lsA nL ls)
    (hrun : vx_Run5 p l e R s m args below meth c H locs k n mc' ms' (F0 m pc lsA st) rest (QcS s0 D I post' AsA) (XcS s0 D I xp') (Are s0))
    (kk : ∀ r I' L', ile I I' → post' r I' L' → ∀ (H : Heap) (locs : List Loc) (lsA : Array Slot), lv_has lsA nL ls → Sat s0 D I' L' H → va_S (Are s0) s.heap H locs → ile Ib I' → W p l e R s m args below meth c H locs (k + mc') (n + ms') Q (F0 m (pc + 5) lsA (r.toList ++ rest)))
    (kx : ∀ E q I' L', ile I I' → xp' E q I' L' → ∀ (H : Heap) (locs : List Loc) (lsA : Array Slot) (ce : Cell), lv_has lsA nL ls → Sat s0 D I' L' H → va_S (Are s0) s.heap H locs → ile Ib I' → H[q]? = some ce → ce.vm = .none → s.vm.findClass E = some ce.cls → vx_W p l e R s m args below meth c H locs (k + mc') (n + ms') Q (F0 m pc lsA rest) q) :
    W p l e R s m args below meth c H locs k n Q (F0 m pc lsA st) := by
  intro T hT X
  rcases hrun T hT X with ⟨v, st₀, t, T', Ls, h0, X', hL, e1, e2, ⟨r, I', L', hr, hI', hp, hS', hF'⟩, st9⟩ | ⟨q, st₀, t, T', Ls, E, ce, h0, X', hL, e1, e2, ⟨I', L', hI', hp, hS', hF'⟩, hce, hcv, hcl, st9⟩
  · cases hr
    have hV' := vx_keep h0 e1 hV (fun q _ h => h) (fun q h => h) hL hF'
    obtain ⟨t2, a1, b1⟩ := kk v I' L' hI' hp T'.heap (locs ++ Ls) lsA hl (by rw [e1]; exact hS') hV'.2.2 (ile_tr hI hI') T' rfl X'
    exact ⟨t2, st9 t2 a1, b1⟩
  · have hV' := vx_keep h0 e1 hV (fun q _ h => h) (fun q h => h) hL hF'
    obtain ⟨t2, a1, b1⟩ := kx E q I' L' hI' hp T'.heap (locs ++ Ls) lsA ce hl (by rw [e1]; exact hS') hV'.2.2 (ile_tr hI hI') (by rw [e1]; exact hce) hcv hcl T' rfl X'
    exact ⟨t2, st9.trans a1, b1⟩
abbrev arity (y : MethodName) (na : Nat) : Prop := y.cls ≠ "java/lang/invoke/MethodHandle" ∧ y.cls ≠ "java/lang/invoke/VarHandle" ∧ (parseMethodDescriptor y.desc).map (fun d => d.parameters.length) = some na
def LkS (own : String) (idx : Nat) (y : MethodName) (na : Nat) : Prop := Cond.methodLink own idx y ∈ lw_all ∧ Cond.static y ∈ lw_all ∧ Cond.initialized y.cls ∈ lw_all ∧ arity y na
def LkV (own : String) (idx : Nat) (y : MethodName) (na : Nat) : Prop := Cond.methodLink own idx y ∈ lw_all ∧ Cond.instanceMethod y ∈ lw_all ∧ Cond.selects y.cls y y ∈ lw_all ∧ Cond.initialized y.cls ∈ lw_all ∧ arity y na
def LkI (own : String) (idx : Nat) (y : MethodName) (na : Nat) : Prop := Cond.methodLink own idx y ∈ lw_all ∧ Cond.instanceMethod y ∈ lw_all ∧ Cond.initialized y.cls ∈ lw_all ∧ y.name = "<init>" ∧ arity y na ∧ (parseMethodDescriptor y.desc).map (fun d => d.returnType) = some none
/-- the same of a nest mate -/
def LkNI (own : String) (idx : Nat) (y : MethodName) (na : Nat) : Prop := (∃ host, Cond.methodLinkNest own idx y host ∈ lw_tbl) ∧ Cond.instanceMethod y ∈ lw_all ∧ Cond.initialized y.cls ∈ lw_all ∧ y.name = "<init>" ∧ arity y na ∧ (parseMethodDescriptor y.desc).map (fun d => d.returnType) = some none
def LkNV (own : String) (idx : Nat) (y : MethodName) (na : Nat) : Prop := (∃ host, Cond.methodLinkNest own idx y host ∈ lw_tbl) ∧ Cond.instanceMethod y ∈ lw_all ∧ Cond.selects y.cls y y ∈ lw_all ∧ Cond.initialized y.cls ∈ lw_all ∧ arity y na
def LkNS (own : String) (idx : Nat) (y : MethodName) (na : Nat) : Prop := (∃ host, Cond.methodLinkNest own idx y host ∈ lw_tbl) ∧ Cond.static y ∈ lw_all ∧ Cond.initialized y.cls ∈ lw_all ∧ arity y na
/-- x linked, y selected for an object of the class C: not overridden, or overridden -/
def LkU (own : String) (idx : Nat) (C : String) (x y : MethodName) (na : Nat) : Prop := ∃ owner, Cond.methodLink own idx x ∈ lw_all ∧ Cond.sameMethod x.cls owner x.name x.desc ∈ lw_all ∧ Cond.selects C x y ∈ lw_all ∧ Cond.instanceMethod y ∈ lw_all ∧ Cond.initialized y.cls ∈ lw_all ∧ owner ≠ "java/lang/invoke/MethodHandle" ∧ owner ≠ "java/lang/invoke/VarHandle" ∧ (parseMethodDescriptor x.desc).map (fun d => d.parameters.length) = some na ∧
  (y = ⟨owner, x.name, x.desc⟩ ∨ (Cond.instanceMethod ⟨owner, x.name, x.desc⟩ ∈ lw_all ∧ ∃ b0 m0 r0, Cond.code ⟨owner, x.name, x.desc⟩ b0 m0 r0 ∈ lw_all) ∨ Cond.declares ⟨owner, x.name, x.desc⟩ ∈ lw_tbl)
/-- super.y -/
def LkSU (own : String) (idx : Nat) (y : MethodName) (na : Nat) : Prop := Cond.methodLink own idx y ∈ lw_all ∧ Cond.sameMethod y.cls y.cls y.name y.desc ∈ lw_all ∧ Cond.superclass own y.cls ∈ lw_all ∧ Cond.instanceMethod y ∈ lw_all ∧ Cond.initialized y.cls ∈ lw_all ∧ y.name ≠ "<init>" ∧ (parseMethodDescriptor y.desc).map (fun d => d.parameters.length) = some na
/-- an interface's method x; y for an object of the class C -/
def LkF (own : String) (idx : Nat) (C : String) (x y : MethodName) (na : Nat) : Prop := Cond.methodLink own idx x ∈ lw_all ∧ Cond.selects C x y ∈ lw_all ∧ Cond.instanceMethod y ∈ lw_all ∧ Cond.initialized y.cls ∈ lw_all ∧ arity x na ∧ Cond.declares x ∈ lw_tbl ∧ Cond.interfaceMethod x.cls x.cls x.name x.desc ∈ lw_tbl ∧ Cond.publicMethod y ∈ lw_tbl ∧ Cond.unhidden C x.name x.desc ∈ lw_tbl ∧ Cond.castable C x.cls ∈ lw_tbl

theorem IsG.callS (hG : IsG l s0 D own nm cc nL ret tab d mc ms Ib post xp md G GX) {y : MethodName} {idx na : Nat} {d' mc' ms' : Nat} {As rest : List Value} {post' : Option Value → AI → AL → Prop} {xp' : String → Nat → AI → AL → Prop}  (hd : decode cc pc = .ok (.invokestatic idx, 3)) (hk9 : LkS own idx y na) (hS9 : Spc l s0 D y d' As I L mc' ms' post' xp') (hn9 : As.length = na) (hst : st = As.reverse ++ rest) (hw9 : (rest.map fun v => v.category).sum ≤ 8) (hdd : d' + 1 ≤ d) (hc9 : k + mc' ≤ mc) (hs9 : n + ms' ≤ ms) (kk : ∀ r I' L', ile I I' → post' r I' L' → G (pc + 3) ls (r.toList ++ rest) I' L' (k + mc') (n + ms')) (kx : ∀ E q I' L', ile I I' → xp' E q I' L' → GX pc ls rest E q I' L' (k + mc') (n + ms')) : G pc ls st I L k n := by
  obtain ⟨p, e, s, m, args, below, meth, c, R, Q, hΓ, hx, hb, hr, hml, hown, hts, hlk, hnm, hW, htab, hF, hR, hmd, rfl, rfl⟩ := hG
  obtain ⟨k1, k2, k3, k4⟩ := hk9
  obtain ⟨cc9, nL9, ret9, hnL9, hw, hM⟩ := hS9
  intro H locs lsA hl hS hV hI
  exact run_go hF hV hI hl (vx_runS ⟨hx, hb, hml, hown, hts⟩ hM (va_cwS na hts (lw_S k1 k2 k3 hw) rfl rfl rfl k4 ⟨Nat.le_trans hdd hR.1, by show 8 + (nL9 + 11) + 64 * d' ≤ _; omega⟩) ⟨PcS.blind, fun U hU hWU => ⟨rfl, State.WarmedH.trans hW hWU, by rw [hU]; exact hS⟩⟩ rfl hn9 (hl.1) hst (lv_room hw9) hd ⟨Nat.le_trans hc9 hR.2.2.1, Nat.le_trans hs9 hR.2.2.2⟩) kk kx
theorem IsG.callSW (hG : IsG l s0 D own nm cc nL ret tab d mc ms Ib post xp md G GX) {y : MethodName} {idx na : Nat} {d' mc' ms' : Nat} {As rest : List Value} {post' : Option Value → AI → AL → Prop} {xp' : String → Nat → AI → AL → Prop}  (hd : decode cc pc = .ok (.invokestatic idx, 3)) (hk9 : LkS own idx y na) (hS9 : SpcW l s0 D y d' As I L mc' ms' post' xp') (hn9 : As.length = na) (hst : st = As.reverse ++ rest) (hw9 : (rest.map fun v => v.category).sum ≤ 8) (hdd : d' + 1 ≤ d) (hc9 : k + mc' ≤ mc) (hs9 : n + ms' ≤ ms) (kk : ∀ r I' L', ile I I' → post' r I' L' → G (pc + 3) ls (r.toList ++ rest) I' L' (k + mc') (n + ms')) (kx : ∀ E q I' L', ile I I' → xp' E q I' L' → GX pc ls rest E q I' L' (k + mc') (n + ms')) : G pc ls st I L k n := by
  obtain ⟨p, e, s, m, args, below, meth, c, R, Q, hΓ, hx, hb, hr, hml, hown, hts, hlk, hnm, hW, htab, hF, hR, hmd, rfl, rfl⟩ := hG
  obtain ⟨k1, k2, k3, k4⟩ := hk9
  obtain ⟨cc9, nL9, ret9, hh, hnL9, hw, hM⟩ := hS9
  intro H locs lsA hl hS hV hI
  exact run_go hF hV hI hl (vx_runSX ⟨hx, hb, hml, hown, hts⟩ hM (vx_cwSW na hts (lw_SW k1 k2 k3 hw) rfl rfl rfl k4 ⟨Nat.le_trans hdd hR.1, by show 8 + (nL9 + 11) + 64 * d' ≤ _; omega⟩) ⟨PcS.blind, fun U hU hWU => ⟨rfl, State.WarmedH.trans hW hWU, by rw [hU]; exact hS⟩⟩ rfl hn9 (hl.1) hst (lv_room hw9) hd ⟨Nat.le_trans hc9 hR.2.2.1, Nat.le_trans hs9 hR.2.2.2⟩) kk kx
theorem IsG.callV (hG : IsG l s0 D own nm cc nL ret tab d mc ms Ib post xp md G GX) {y : MethodName} {idx na : Nat} {d' mc' ms' : Nat} {As rest : List Value} {post' : Option Value → AI → AL → Prop} {xp' : String → Nat → AI → AL → Prop} {b : Nat} (hd : decode cc pc = .ok (.invokevirtual idx, 3)) (hk9 : LkV own idx y na) (hv : Rcv s0 D I L b y.cls) (hS9 : Spc l s0 D y d' (.ref b :: As) I L mc' ms' post' xp') (hn9 : As.length = na) (hst : st = As.reverse ++ .ref b :: rest) (hw9 : (rest.map fun v => v.category).sum ≤ 8) (hdd : d' + 1 ≤ d) (hc9 : k + mc' ≤ mc) (hs9 : n + ms' ≤ ms) (kk : ∀ r I' L', ile I I' → post' r I' L' → G (pc + 3) ls (r.toList ++ rest) I' L' (k + mc') (n + ms')) (kx : ∀ E q I' L', ile I I' → xp' E q I' L' → GX pc ls rest E q I' L' (k + mc') (n + ms')) : G pc ls st I L k n := by
  obtain ⟨p, e, s, m, args, below, meth, c, R, Q, hΓ, hx, hb, hr, hml, hown, hts, hlk, hnm, hW, htab, hF, hR, hmd, rfl, rfl⟩ := hG
  obtain ⟨k1, k2, k3, k4, k5⟩ := hk9
  obtain ⟨cc9, nL9, ret9, hnL9, hw, hM⟩ := hS9
  intro H locs lsA hl hS hV hI
  have hrc : ∃ cellB : Cell, H[b]? = some cellB ∧ cellB.vm.isStatics = false ∧ s.vm.findClass y.cls = some cellB.cls := by
    obtain ⟨cell, g1, g2, g3⟩ := hv H hS
    exact ⟨cell, g1, by rw [g2]; rfl, by rw [hW.alike.findClass]; exact g3⟩
  exact run_go hF hV hI hl (vx_runV ⟨hx, hb, hml, hown, hts⟩ hM (cwV na hts (lw_V k1 k2 k3 k4 hw) rfl rfl rfl ⟨rfl, k5⟩ ⟨Nat.le_trans hdd hR.1, by show 8 + (nL9 + 11) + 64 * d' ≤ _; omega⟩) ⟨PcS.blind, hrc, fun U hU hWU => ⟨rfl, State.WarmedH.trans hW hWU, by rw [hU]; exact hS⟩⟩ rfl hn9 (hl.1) hst (lv_room hw9) hd ⟨Nat.le_trans hc9 hR.2.2.1, Nat.le_trans hs9 hR.2.2.2⟩) kk kx
theorem IsG.callVW (hG : IsG l s0 D own nm cc nL ret tab d mc ms Ib post xp md G GX) {y : MethodName} {idx na : Nat} {d' mc' ms' : Nat} {As rest : List Value} {post' : Option Value → AI → AL → Prop} {xp' : String → Nat → AI → AL → Prop} {b : Nat} (hd : decode cc pc = .ok (.invokevirtual idx, 3)) (hk9 : LkV own idx y na) (hv : Rcv s0 D I L b y.cls) (hS9 : SpcW l s0 D y d' (.ref b :: As) I L mc' ms' post' xp') (hn9 : As.length = na) (hst : st = As.reverse ++ .ref b :: rest) (hw9 : (rest.map fun v => v.category).sum ≤ 8) (hdd : d' + 1 ≤ d) (hc9 : k + mc' ≤ mc) (hs9 : n + ms' ≤ ms) (kk : ∀ r I' L', ile I I' → post' r I' L' → G (pc + 3) ls (r.toList ++ rest) I' L' (k + mc') (n + ms')) (kx : ∀ E q I' L', ile I I' → xp' E q I' L' → GX pc ls rest E q I' L' (k + mc') (n + ms')) : G pc ls st I L k n := by
  obtain ⟨p, e, s, m, args, below, meth, c, R, Q, hΓ, hx, hb, hr, hml, hown, hts, hlk, hnm, hW, htab, hF, hR, hmd, rfl, rfl⟩ := hG
  obtain ⟨k1, k2, k3, k4, k5⟩ := hk9
  obtain ⟨cc9, nL9, ret9, hh, hnL9, hw, hM⟩ := hS9
  intro H locs lsA hl hS hV hI
  have hrc : ∃ cellB : Cell, H[b]? = some cellB ∧ cellB.vm.isStatics = false ∧ s.vm.findClass y.cls = some cellB.cls := by
    obtain ⟨cell, g1, g2, g3⟩ := hv H hS
    exact ⟨cell, g1, by rw [g2]; rfl, by rw [hW.alike.findClass]; exact g3⟩
  exact run_go hF hV hI hl (vx_runVX ⟨hx, hb, hml, hown, hts⟩ hM (vx_cwVW na hts (lw_VW k1 k2 k3 k4 hw) rfl rfl rfl ⟨rfl, k5⟩ ⟨Nat.le_trans hdd hR.1, by show 8 + (nL9 + 11) + 64 * d' ≤ _; omega⟩) ⟨PcS.blind, hrc, fun U hU hWU => ⟨rfl, State.WarmedH.trans hW hWU, by rw [hU]; exact hS⟩⟩ rfl hn9 (hl.1) hst (lv_room hw9) hd ⟨Nat.le_trans hc9 hR.2.2.1, Nat.le_trans hs9 hR.2.2.2⟩) kk kx
theorem IsG.callU (hG : IsG l s0 D own nm cc nL ret tab d mc ms Ib post xp md G GX) {y : MethodName} {idx na : Nat} {d' mc' ms' : Nat} {As rest : List Value} {post' : Option Value → AI → AL → Prop} {xp' : String → Nat → AI → AL → Prop} {b : Nat} {C : String} {x : MethodName} (hd : decode cc pc = .ok (.invokevirtual idx, 3)) (hk9 : LkU own idx C x y na) (hv : Rcv s0 D I L b C) (hS9 : Spc l s0 D y d' (.ref b :: As) I L mc' ms' post' xp') (hn9 : As.length = na) (hst : st = As.reverse ++ .ref b :: rest) (hw9 : (rest.map fun v => v.category).sum ≤ 8) (hdd : d' + 1 ≤ d) (hc9 : k + mc' ≤ mc) (hs9 : n + ms' ≤ ms) (kk : ∀ r I' L', ile I I' → post' r I' L' → G (pc + 3) ls (r.toList ++ rest) I' L' (k + mc') (n + ms')) (kx : ∀ E q I' L', ile I I' → xp' E q I' L' → GX pc ls rest E q I' L' (k + mc') (n + ms')) : G pc ls st I L k n := by
  obtain ⟨p, e, s, m, args, below, meth, c, R, Q, hΓ, hx, hb, hr, hml, hown, hts, hlk, hnm, hW, htab, hF, hR, hmd, rfl, rfl⟩ := hG
  obtain ⟨owner, k1, k2, k3, k4, k5, k6, k7, k8, k9⟩ := hk9
  obtain ⟨cc9, nL9, ret9, hnL9, hw, hM⟩ := hS9
  intro H locs lsA hl hS hV hI
  have hrc : ∃ cellB : Cell, H[b]? = some cellB ∧ cellB.vm.isStatics = false ∧ s.vm.findClass C = some cellB.cls := by
    obtain ⟨cell, g1, g2, g3⟩ := hv H hS
    exact ⟨cell, g1, by rw [g2]; rfl, by rw [hW.alike.findClass]; exact g3⟩
  exact run_go hF hV hI hl (vx_runU ⟨hx, hb, hml, hown, hts⟩ hM (by
      rcases k9 with e9 | ⟨k10, b0, m0, r0, k11⟩ | k12
      · exact va_cwU na hts (lw_app (fun w hw9 => by simp only [List.mem_cons, List.not_mem_nil, or_false] at hw9; rcases hw9 with e | e | e | e | e <;> rw [e] <;> assumption) (lw_meth hw)) rfl rfl rfl e9 ⟨k6, k7, k8⟩ ⟨Nat.le_trans hdd hR.1, by show 8 + (nL9 + 11) + 64 * d' ≤ _; omega⟩
      · exact va_cwO na hts (lw_app (fun w hw9 => by simp only [List.mem_cons, List.not_mem_nil, or_false] at hw9; rcases hw9 with e | e | e | e | e | e <;> rw [e] <;> assumption) (lw_meth hw)) rfl rfl rfl k11 ⟨k6, k7, k8⟩ ⟨Nat.le_trans hdd hR.1, by show 8 + (nL9 + 11) + 64 * d' ≤ _; omega⟩
      · obtain ⟨⟨b0, hw0⟩, -⟩ := hΓ
        exact va_cwA na hts (lw_app (fun w hw9 => by simp only [List.mem_cons, List.not_mem_nil, or_false] at hw9; rcases hw9 with e | e | e | e | e <;> rw [e] <;> assumption) (lw_meth hw)) rfl rfl rfl (va_Nw.warmD hW (va_Nw.of rfl (hw0 _ k12))) ⟨k6, k7, k8⟩ ⟨Nat.le_trans hdd hR.1, by show 8 + (nL9 + 11) + 64 * d' ≤ _; omega⟩) ⟨PcS.blind, hrc, fun U hU hWU => ⟨rfl, State.WarmedH.trans hW hWU, by rw [hU]; exact hS⟩⟩ rfl hn9 (hl.1) hst (lv_room hw9) hd ⟨Nat.le_trans hc9 hR.2.2.1, Nat.le_trans hs9 hR.2.2.2⟩) kk kx
theorem IsG.callI (hG : IsG l s0 D own nm cc nL ret tab d mc ms Ib post xp md G GX) {y : MethodName} {idx na : Nat} {d' mc' ms' : Nat} {As rest : List Value} {post' : Option Value → AI → AL → Prop} {xp' : String → Nat → AI → AL → Prop} {b : Nat} (hd : decode cc pc = .ok (.invokespecial idx, 3)) (hk9 : LkI own idx y na) (hS9 : Spc l s0 D y d' (.ref b :: As) I L mc' ms' post' xp') (hn9 : As.length = na) (hst : st = As.reverse ++ .ref b :: rest) (hw9 : (rest.map fun v => v.category).sum ≤ 8) (hdd : d' + 1 ≤ d) (hc9 : k + mc' ≤ mc) (hs9 : n + ms' ≤ ms) (kk : ∀ r I' L', ile I I' → post' r I' L' → G (pc + 3) ls (r.toList ++ rest) I' L' (k + mc') (n + ms')) (kx : ∀ E q I' L', ile I I' → xp' E q I' L' → GX pc ls rest E q I' L' (k + mc') (n + ms')) : G pc ls st I L k n := by
  obtain ⟨p, e, s, m, args, below, meth, c, R, Q, hΓ, hx, hb, hr, hml, hown, hts, hlk, hnm, hW, htab, hF, hR, hmd, rfl, rfl⟩ := hG
  obtain ⟨k1, k2, k3, k4, k5, k6⟩ := hk9
  obtain ⟨cc9, nL9, ret9, hnL9, hw, hM⟩ := hS9
  intro H locs lsA hl hS hV hI
  exact run_go hF hV hI hl (by
      have hr9 := cond_ret (hts _ hw) k6
      subst hr9
      exact vx_runI ⟨hx, hb, hml, hown, hts⟩ hM (cwI na hts (lw_meth hw) rfl rfl rfl (hts _ k3) (hts _ k1) (hts _ k2) k4 k5 ⟨Nat.le_trans hdd hR.1, by show 8 + (nL9 + 11) + 64 * d' ≤ _; omega⟩) ⟨PcS.blind, fun U hU hWU => ⟨rfl, State.WarmedH.trans hW hWU, by rw [hU]; exact hS⟩⟩ rfl hn9 (hl.1) hst (lv_room hw9) hd ⟨Nat.le_trans hc9 hR.2.2.1, Nat.le_trans hs9 hR.2.2.2⟩) kk kx
theorem IsG.callNI (hG : IsG l s0 D own nm cc nL ret tab d mc ms Ib post xp md G GX) {y : MethodName} {idx na : Nat} {d' mc' ms' : Nat} {As rest : List Value} {post' : Option Value → AI → AL → Prop} {xp' : String → Nat → AI → AL → Prop} {b : Nat} (hd : decode cc pc = .ok (.invokespecial idx, 3)) (hk9 : LkNI own idx y na) (hS9 : Spc l s0 D y d' (.ref b :: As) I L mc' ms' post' xp') (hn9 : As.length = na) (hst : st = As.reverse ++ .ref b :: rest) (hw9 : (rest.map fun v => v.category).sum ≤ 8) (hdd : d' + 1 ≤ d) (hc9 : k + mc' ≤ mc) (hs9 : n + ms' ≤ ms) (kk : ∀ r I' L', ile I I' → post' r I' L' → G (pc + 3) ls (r.toList ++ rest) I' L' (k + mc') (n + ms')) (kx : ∀ E q I' L', ile I I' → xp' E q I' L' → GX pc ls rest E q I' L' (k + mc') (n + ms')) : G pc ls st I L k n := by
  obtain ⟨p, e, s, m, args, below, meth, c, R, Q, hΓ, hx, hb, hr, hml, hown, hts, hlk, hnm, hW, htab, hF, hR, hmd, rfl, rfl⟩ := hG
  obtain ⟨⟨host, k1⟩, k2, k3, k4, k5, k6⟩ := hk9
  obtain ⟨⟨b0, hw0⟩, -⟩ := hΓ
  obtain ⟨cc9, nL9, ret9, hnL9, hw, hM⟩ := hS9
  intro H locs lsA hl hS hV hI
  exact run_go hF hV hI hl (by
      have hr9 := cond_ret (hts _ hw) k6
      subst hr9
      exact vx_runIN ⟨hx, hb, hml, hown, hts⟩ hM ⟨va_cnB na hts (lw_meth hw) rfl rfl rfl (nw_linkM hw0 hW k1) (hts _ k3) k5 ⟨Nat.le_trans hdd hR.1, by show 8 + (nL9 + 11) + 64 * d' ≤ _; omega⟩, k4, hts _ k2⟩ ⟨PcS.blind, fun U hU hWU => ⟨rfl, State.WarmedH.trans hW hWU, by rw [hU]; exact hS⟩⟩ rfl hn9 (hl.1) hst (lv_room hw9) hd ⟨Nat.le_trans hc9 hR.2.2.1, Nat.le_trans hs9 hR.2.2.2⟩) kk kx
theorem IsG.callNV (hG : IsG l s0 D own nm cc nL ret tab d mc ms Ib post xp md G GX) {y : MethodName} {idx na : Nat} {d' mc' ms' : Nat} {As rest : List Value} {post' : Option Value → AI → AL → Prop} {xp' : String → Nat → AI → AL → Prop} {b : Nat} (hd : decode cc pc = .ok (.invokevirtual idx, 3)) (hk9 : LkNV own idx y na) (hv : Rcv s0 D I L b y.cls) (hS9 : Spc l s0 D y d' (.ref b :: As) I L mc' ms' post' xp') (hn9 : As.length = na) (hst : st = As.reverse ++ .ref b :: rest) (hw9 : (rest.map fun v => v.category).sum ≤ 8) (hdd : d' + 1 ≤ d) (hc9 : k + mc' ≤ mc) (hs9 : n + ms' ≤ ms) (kk : ∀ r I' L', ile I I' → post' r I' L' → G (pc + 3) ls (r.toList ++ rest) I' L' (k + mc') (n + ms')) (kx : ∀ E q I' L', ile I I' → xp' E q I' L' → GX pc ls rest E q I' L' (k + mc') (n + ms')) : G pc ls st I L k n := by
  obtain ⟨p, e, s, m, args, below, meth, c, R, Q, hΓ, hx, hb, hr, hml, hown, hts, hlk, hnm, hW, htab, hF, hR, hmd, rfl, rfl⟩ := hG
  obtain ⟨⟨host, k1⟩, k2, k3, k4, k5⟩ := hk9
  obtain ⟨⟨b0, hw0⟩, -⟩ := hΓ
  obtain ⟨cc9, nL9, ret9, hnL9, hw, hM⟩ := hS9
  intro H locs lsA hl hS hV hI
  have hrc : ∃ cellB : Cell, H[b]? = some cellB ∧ cellB.vm.isStatics = false ∧ s.vm.findClass y.cls = some cellB.cls := by
    obtain ⟨cell, g1, g2, g3⟩ := hv H hS
    exact ⟨cell, g1, by rw [g2]; rfl, by rw [hW.alike.findClass]; exact g3⟩
  exact run_go hF hV hI hl (vx_runVN ⟨hx, hb, hml, hown, hts⟩ hM ⟨va_cnB na hts (lw_meth hw) rfl rfl rfl (nw_linkM hw0 hW k1) (hts _ k4) k5 ⟨Nat.le_trans hdd hR.1, by show 8 + (nL9 + 11) + 64 * d' ≤ _; omega⟩, hts _ k2, hts _ k3⟩ ⟨PcS.blind, hrc, fun U hU hWU => ⟨rfl, State.WarmedH.trans hW hWU, by rw [hU]; exact hS⟩⟩ rfl hn9 (hl.1) hst (lv_room hw9) hd ⟨Nat.le_trans hc9 hR.2.2.1, Nat.le_trans hs9 hR.2.2.2⟩) kk kx
theorem IsG.callNS (hG : IsG l s0 D own nm cc nL ret tab d mc ms Ib post xp md G GX) {y : MethodName} {idx na : Nat} {d' mc' ms' : Nat} {As rest : List Value} {post' : Option Value → AI → AL → Prop} {xp' : String → Nat → AI → AL → Prop}  (hd : decode cc pc = .ok (.invokestatic idx, 3)) (hk9 : LkNS own idx y na) (hS9 : Spc l s0 D y d' As I L mc' ms' post' xp') (hn9 : As.length = na) (hst : st = As.reverse ++ rest) (hw9 : (rest.map fun v => v.category).sum ≤ 8) (hdd : d' + 1 ≤ d) (hc9 : k + mc' ≤ mc) (hs9 : n + ms' ≤ ms) (kk : ∀ r I' L', ile I I' → post' r I' L' → G (pc + 3) ls (r.toList ++ rest) I' L' (k + mc') (n + ms')) (kx : ∀ E q I' L', ile I I' → xp' E q I' L' → GX pc ls rest E q I' L' (k + mc') (n + ms')) : G pc ls st I L k n := by
  obtain ⟨p, e, s, m, args, below, meth, c, R, Q, hΓ, hx, hb, hr, hml, hown, hts, hlk, hnm, hW, htab, hF, hR, hmd, rfl, rfl⟩ := hG
  obtain ⟨⟨host, k1⟩, k2, k3, k4⟩ := hk9
  obtain ⟨⟨b0, hw0⟩, -⟩ := hΓ
  obtain ⟨cc9, nL9, ret9, hnL9, hw, hM⟩ := hS9
  intro H locs lsA hl hS hV hI
  exact run_go hF hV hI hl (vx_runSN ⟨hx, hb, hml, hown, hts⟩ hM ⟨va_cnB na hts (lw_meth hw) rfl rfl rfl (nw_linkM hw0 hW k1) (hts _ k3) k4 ⟨Nat.le_trans hdd hR.1, by show 8 + (nL9 + 11) + 64 * d' ≤ _; omega⟩, hts _ k2, trivial⟩ ⟨PcS.blind, fun U hU hWU => ⟨rfl, State.WarmedH.trans hW hWU, by rw [hU]; exact hS⟩⟩ rfl hn9 (hl.1) hst (lv_room hw9) hd ⟨Nat.le_trans hc9 hR.2.2.1, Nat.le_trans hs9 hR.2.2.2⟩) kk kx
theorem IsG.callSU (hG : IsG l s0 D own nm cc nL ret tab d mc ms Ib post xp md G GX) {y : MethodName} {idx na : Nat} {d' mc' ms' : Nat} {As rest : List Value} {post' : Option Value → AI → AL → Prop} {xp' : String → Nat → AI → AL → Prop} {b ci N : Nat} {C : String} {T : u_T} (hd : decode cc pc = .ok (.invokespecial idx, 3)) (hk9 : LkSU own idx y na) (hv : Rcv s0 D I L b C) (hCL : CL[ci]? = some (C, T, N)) (hS9 : Spc l s0 D y d' (.ref b :: As) I L mc' ms' post' xp') (hn9 : As.length = na) (hst : st = As.reverse ++ .ref b :: rest) (hw9 : (rest.map fun v => v.category).sum ≤ 8) (hdd : d' + 1 ≤ d) (hc9 : k + mc' ≤ mc) (hs9 : n + ms' ≤ ms) (kk : ∀ r I' L', ile I I' → post' r I' L' → G (pc + 3) ls (r.toList ++ rest) I' L' (k + mc') (n + ms')) (kx : ∀ E q I' L', ile I I' → xp' E q I' L' → GX pc ls rest E q I' L' (k + mc') (n + ms')) : G pc ls st I L k n := by
  obtain ⟨p, e, s, m, args, below, meth, c, R, Q, hΓ, hx, hb, hr, hml, hown, hts, hlk, hnm, hW, htab, hF, hR, hmd, rfl, rfl⟩ := hG
  obtain ⟨k1, k2, k3, k4, k5, k6, k7⟩ := hk9
  obtain ⟨-, -, hK0, -⟩ := hΓ
  obtain ⟨cc9, nL9, ret9, hnL9, hw, hM⟩ := hS9
  intro H locs lsA hl hS hV hI
  have hrc : ∃ cellB : Cell, H[b]? = some cellB ∧ cellB.vm.isStatics = false ∧ s.vm.findClass C = some cellB.cls := by
    obtain ⟨cell, g1, g2, g3⟩ := hv H hS
    exact ⟨cell, g1, by rw [g2]; rfl, by rw [hW.alike.findClass]; exact g3⟩
  exact run_go hF hV hI hl (vx_runSU ((va_K.moved hW.alike hK0).1 ci _ hCL).2 ⟨hx, hb, hml, hown, hts⟩ hM (va_cwSU na hts (lw_app (fun w hw9 => by simp only [List.mem_cons, List.not_mem_nil, or_false] at hw9; rcases hw9 with e | e | e | e | e <;> rw [e] <;> assumption) (lw_meth hw)) rfl rfl rfl ⟨k6, k7⟩ ⟨Nat.le_trans hdd hR.1, by show 8 + (nL9 + 11) + 64 * d' ≤ _; omega⟩) ⟨PcS.blind, hrc, fun U hU hWU => ⟨rfl, State.WarmedH.trans hW hWU, by rw [hU]; exact hS⟩⟩ rfl hn9 (hl.1) hst (lv_room hw9) hd ⟨Nat.le_trans hc9 hR.2.2.1, Nat.le_trans hs9 hR.2.2.2⟩) kk kx
theorem IsG.callF (hG : IsG l s0 D own nm cc nL ret tab d mc ms Ib post xp md G GX) {y : MethodName} {idx na : Nat} {d' mc' ms' : Nat} {As rest : List Value} {post' : Option Value → AI → AL → Prop} {xp' : String → Nat → AI → AL → Prop} {b ci N cnt : Nat} {C : String} {x : MethodName} {T : u_T} (hd : decode cc pc = .ok (.invokeinterface idx cnt, 5)) (hk9 : LkF own idx C x y na) (hv : Rcv s0 D I L b C) (hCL : CL[ci]? = some (C, T, N)) (hS9 : Spc l s0 D y d' (.ref b :: As) I L mc' ms' post' xp') (hn9 : As.length = na) (hst : st = As.reverse ++ .ref b :: rest) (hw9 : (rest.map fun v => v.category).sum ≤ 8) (hdd : d' + 1 ≤ d) (hc9 : k + mc' ≤ mc) (hs9 : n + ms' ≤ ms) (kk : ∀ r I' L', ile I I' → post' r I' L' → G (pc + 5) ls (r.toList ++ rest) I' L' (k + mc') (n + ms')) (kx : ∀ E q I' L', ile I I' → xp' E q I' L' → GX pc ls rest E q I' L' (k + mc') (n + ms')) : G pc ls st I L k n := by
  obtain ⟨p, e, s, m, args, below, meth, c, R, Q, hΓ, hx, hb, hr, hml, hown, hts, hlk, hnm, hW, htab, hF, hR, hmd, rfl, rfl⟩ := hG
  obtain ⟨k1, k2, k3, k4, k5, k6, k7, k8, k9, k10⟩ := hk9
  obtain ⟨⟨b0, hw0⟩, -, hK0, -⟩ := hΓ
  obtain ⟨cc9, nL9, ret9, hnL9, hw, hM⟩ := hS9
  intro H locs lsA hl hS hV hI
  have hrc : ∃ cellB : Cell, H[b]? = some cellB ∧ cellB.vm.isStatics = false ∧ s.vm.findClass C = some cellB.cls := by
    obtain ⟨cell, g1, g2, g3⟩ := hv H hS
    exact ⟨cell, g1, by rw [g2]; rfl, by rw [hW.alike.findClass]; exact g3⟩
  exact run_go5 hF hV hI hl (vx_runF ((va_K.moved hW.alike hK0).1 ci _ hCL).2 ⟨hx, hb, hml, hown, hts⟩ hM (va_cwF na hts (lw_app (fun w hw9 => by simp only [List.mem_cons, List.not_mem_nil, or_false] at hw9; rcases hw9 with e | e | e | e <;> rw [e] <;> assumption) (lw_meth hw)) rfl rfl rfl (va_Fw.moved ⟨k5.1, k5.2.1⟩ hW.alike (va_Fw.of (hw0 _ k6) (hw0 _ k7) (hw0 _ k8) (hw0 _ k9) (hw0 _ k10))) k5 ⟨Nat.le_trans hdd hR.1, by show 8 + (nL9 + 11) + 64 * d' ≤ _; omega⟩) ⟨PcS.blind, hrc, fun U hU hWU => ⟨rfl, State.WarmedH.trans hW hWU, by rw [hU]; exact hS⟩⟩ rfl hn9 (hl.1) hst (lv_room hw9) hd ⟨Nat.le_trans hc9 hR.2.2.1, Nat.le_trans hs9 hR.2.2.2⟩) kk kx
end CALL
