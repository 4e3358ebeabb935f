/-! THE WALK's JUDGEMENT: G pc locals stack I L cells slots, opaque; IsG says what it is; one rule an instruction. -/
abbrev Gt : Type := Nat → List (Nat × Value) → List Value → AI → AL → Nat → Nat → Prop
abbrev GXt : Type := Nat → List (Nat × Value) → List Value → String → Nat → AI → AL → Nat → Nat → Prop
/-- what the start gives -/
def Gam (l : Launch) (s0 : State) (D : va_G) : Prop := (∃ b0 : Addr, ∀ w ∈ lw_tbl, w.before #[Value.ref b0] s0 = true) ∧ l.stackTraces = false ∧ va_K D CL [] s0 ∧ vx_Zq Bundle.tN "UNASSIGNED_STACK" Bundle.steD (Are s0) s0 s0.heap ∧ vx_Zq Bundle.tN "SUPPRESSED_SENTINEL" Bundle.listD (Are s0) s0 s0.heap
def QcS (s0 : State) (D : va_G) (Ib : AI) (post : Option Value → AI → AL → Prop) : Array Value → State → Outcome → State → Prop := fun _ st o t => ∃ (r : Option Value) (I' : AI) (L' : AL), o = .returned r ∧ ile Ib I' ∧ post r I' L' ∧ Sat s0 D I' L' t.heap ∧ va_F (Are s0) st t
def XcS (s0 : State) (D : va_G) (Ib : AI) (xp : String → Nat → AI → AL → Prop) : String → Addr → State → State → Prop := fun E q st t => ∃ (I' : AI) (L' : AL), ile Ib I' ∧ xp E q I' L' ∧ Sat s0 D I' L' t.heap ∧ va_F (Are s0) st t
abbrev rmS (d mc ms : Nat) : Room := { frames := d, cells := mc, slots := ms, locals := 64 * d }
abbrev PcS (s0 : State) (D : va_G) (As : List Value) (I : AI) (L : AL) : Array Value → State → Prop := va_Pc As (fun U => s0.WarmedH U.vm ∧ Sat s0 D I L U.heap)
/-- A CONTRACT: y, called with As on the store (I, L), at depth d, returns with post or throws with xp; at most mc cells, ms slots -/
def Spc (l : Launch) (s0 : State) (D : va_G) (y : MethodName) (d : Nat) (As : List Value) (I : AI) (L : AL) (mc ms : Nat) (post : Option Value → AI → AL → Prop) (xp : String → Nat → AI → AL → Prop) : Prop :=
  ∃ (cc : ByteArray) (nL : Nat) (ret : Option FieldType), nL ≤ 40 ∧ Cond.code y cc nL ret ∈ lw_all ∧ vx_Met l y (ws_ y cc nL ret) (rmS d mc ms) (PcS s0 D As I L) (QcS s0 D I post) (XcS s0 D I xp) mc ms (Are s0)
/-- the same of a method with handlers -/
def SpcW (l : Launch) (s0 : State) (D : va_G) (y : MethodName) (d : Nat) (As : List Value) (I : AI) (L : AL) (mc ms : Nat) (post : Option Value → AI → AL → Prop) (xp : String → Nat → AI → AL → Prop) : Prop :=
  ∃ (cc : ByteArray) (nL : Nat) (ret : Option FieldType) (hh : List (Nat × Nat × Nat × Nat)), nL ≤ 40 ∧ Cond.codeWith y cc nL ret hh ∈ lw_all ∧ vx_Met l y (wsW_ y cc nL ret hh) (rmS d mc ms) (PcS s0 D As I L) (QcS s0 D I post) (XcS s0 D I xp) mc ms (Are s0)
abbrev noX : String → Nat → AI → AL → Prop := fun _ _ _ _ => False
def IsG (l : Launch) (s0 : State) (D : va_G) (own nm : String) (cc : ByteArray) (nL : Nat) (ret : Option FieldType) (tab : List ExceptionTableEntry) (d mc ms : Nat) (Ib : AI) (post : Option Value → AI → AL → Prop) (xp : String → Nat → AI → AL → Prop) (md : Prop) (G : Gt) (GX : GXt) : Prop :=
  ∃ (p : Program) (e : Env) (s : State) (m : MethodId) (args : Array Value) (below : List Frame) (meth : Method) (c : Code) (R : Room) (Q : State → Prop),
    Gam l s0 D ∧ p.tables.exec = Jvm.exec ∧ c.code = cc ∧ meth.sig.returnType = ret ∧ c.maxLocals = nL ∧ s.vm.findClass own = some m.cls ∧ (∀ w ∈ lw_all, w.before args s = true) ∧ meth.locks = false ∧ meth.name = nm ∧ s0.WarmedH s.vm ∧ c.exceptionTable.toList = tab ∧ Frz s0 s.heap ∧
    (d ≤ R.frames ∧ 64 * d ≤ R.locals ∧ mc ≤ R.cells ∧ ms ≤ R.slots) ∧ (md → Q = vx_MQ below (QcS s0 D Ib post) (XcS s0 D Ib xp) args s mc ms (Are s0)) ∧
    G = (fun pc ls st I L k n => ∀ (H : Heap) (locs : List Loc) (lsA : Array Slot), lv_has lsA nL ls → Sat s0 D I L H → va_S (Are s0) s.heap H locs → ile Ib I → W p l e R s m args below meth c H locs k n Q (F0 m pc lsA st)) ∧
    GX = (fun pc ls st E q I L k n => ∀ (H : Heap) (locs : List Loc) (lsA : Array Slot) (ce : Cell), lv_has lsA nL ls → Sat s0 D I L H → va_S (Are s0) s.heap H locs → ile Ib I → H[q]? = some ce → ce.vm = .none → s.vm.findClass E = some ce.cls → vx_W p l e R s m args below meth c H locs k n Q (F0 m pc lsA st) q)
/-- the locals: a list by numbers -/
def lget : List (Nat × Value) → Nat → Option Value
  | [], _ => none
  | (i, v) :: l, k => match Nat.beq i k with
    | true => some v
    | false => lget l k
def ldel : List (Nat × Value) → Nat → List (Nat × Value)
  | [], _ => []
  | (j, w) :: l, i => match Nat.beq j i || (Nat.beq (j + 1) i && Nat.beq w.category 2) with
    | true => ldel l i
    | false => (j, w) :: ldel l i
def ldel2 : List (Nat × Value) → Nat → List (Nat × Value)
  | [], _ => []
  | (j, w) :: l, i => match Nat.beq j i || (Nat.beq j (i + 1) || (Nat.beq (j + 1) i && Nat.beq w.category 2)) with
    | true => ldel2 l i
    | false => (j, w) :: ldel2 l i
theorem nbeq (a b : Nat) : (a == b) = Nat.beq a b := by
  cases h : Nat.beq a b with
  | true => rw [Nat.eq_of_beq_eq_true h]; exact beq_self_eq_true b
  | false => exact beq_eq_false_iff_ne.mpr (Nat.ne_of_beq_eq_false h)
theorem ldel_eq (i : Nat) : ∀ l : List (Nat × Value), ldel l i = l.filter (fun q => !(q.1 == i) && !(q.1 + 1 == i && q.2.category == 2))
  | [] => rfl
  | (j, w) :: l => by
    have e1 : (j == i) = Nat.beq j i := nbeq _ _
    have e2 : (j + 1 == i) = Nat.beq (j + 1) i := nbeq _ _
    have e3 : (w.category == 2) = Nat.beq w.category 2 := nbeq _ _
    rw [List.filter_cons, ldel, ldel_eq i l, e1, e2, e3]
    cases Nat.beq j i <;> cases Nat.beq (j + 1) i <;> cases Nat.beq w.category 2 <;> rfl
theorem ldel2_eq (i : Nat) : ∀ l : List (Nat × Value), ldel2 l i = l.filter (fun q => !(q.1 == i) && (!(q.1 == i + 1) && !(q.1 + 1 == i && q.2.category == 2)))
  | [] => rfl
  | (j, w) :: l => by
    have e1 : (j == i) = Nat.beq j i := nbeq _ _
    have e4 : (j == i + 1) = Nat.beq j (i + 1) := nbeq _ _
    have e2 : (j + 1 == i) = Nat.beq (j + 1) i := nbeq _ _
    have e3 : (w.category == 2) = Nat.beq w.category 2 := nbeq _ _
    rw [List.filter_cons, ldel2, ldel2_eq i l, e1, e2, e3, e4]
    cases Nat.beq j i <;> cases Nat.beq j (i + 1) <;> cases Nat.beq (j + 1) i <;> cases Nat.beq w.category 2 <;> rfl
def lput (l : List (Nat × Value)) (i : Nat) (v : Value) : List (Nat × Value) := (i, v) :: ldel l i
def lput2 (l : List (Nat × Value)) (i : Nat) (v : Value) : List (Nat × Value) := (i, v) :: ldel2 l i
theorem lget_mem : ∀ {l : List (Nat × Value)} {k : Nat} {v : Value}, lget l k = some v → (k, v) ∈ l
  | [], _, _, h => by cases h
  | (i, w) :: l, k, v, h => by
    unfold lget at h
    cases hb : Nat.beq i k with
    | true =>
      rw [hb] at h
      have e : i = k := Nat.eq_of_beq_eq_true hb
      have e2 : w = v := Option.some.inj h
      rw [e, e2]
      exact List.mem_cons_self
    | false =>
      rw [hb] at h
      exact List.mem_cons_of_mem _ (lget_mem h)
theorem lget_at {lsA : Array Slot} {nL : Nat} {l : List (Nat × Value)} (h : lv_has lsA nL l) {k : Nat} {v : Value} (hk : lget l k = some v) : lsA[k]? = some (.val v) := h.2.2 (k, v) (lget_mem hk)
/-- all of l' is in l -/
def lsub (l : List (Nat × Value)) : List (Nat × Value) → Prop
  | [] => True
  | (k, v) :: r => lget l k = some v ∧ lsub l r
theorem lsub_mem {l : List (Nat × Value)} : ∀ {l' : List (Nat × Value)}, lsub l l' → ∀ q ∈ l', q ∈ l
  | [], _, q, h => by cases h
  | (k, v) :: r, h, q, hq => by
    rcases List.mem_cons.mp hq with e | e
    · rw [e]; exact lget_mem h.1
    · exact lsub_mem h.2 q e
theorem lsub_has {lsA : Array Slot} {nL : Nat} {l l' : List (Nat × Value)} (h : lv_has lsA nL l) (hs : lsub l l') : lv_has lsA nL l' := ⟨h.1, h.2.1, fun q hq => h.2.2 q (lsub_mem hs q hq)⟩
theorem frz_S {s0 s : State} {H : Heap} {locs : List Loc} (hF : Frz s0 s.heap) (hV : va_S (Are s0) s.heap H locs) : Frz s0 H :=
  ⟨Nat.le_trans hF.1 hV.1, fun q hq => (hV.2.1 q (Nat.lt_of_lt_of_le hq hF.1) (Nat.not_le.mpr hq)).trans (hF.2 q hq)⟩
theorem are_of {s0 s : State} (hF : Frz s0 s.heap) : ∀ q : Nat, s.heap.size ≤ q → Are s0 q := fun q h => Nat.le_trans hF.1 h
/-- a special word of the tables, now -/
theorem nw_castable {s0 s : State} {b0 : Addr} (hw : ∀ w ∈ lw_tbl, w.before #[Value.ref b0] s0 = true) (hW : s0.WarmedH s.vm) {C T : String} (h : Cond.castable C T ∈ lw_tbl) : va_Nw (.castable C T) s := va_Nw.warmC hW (va_Nw.of rfl (hw _ h))
theorem nw_linkF {s0 s : State} {b0 : Addr} (hw : ∀ w ∈ lw_tbl, w.before #[Value.ref b0] s0 = true) (hW : s0.WarmedH s.vm) {a : String} {i : Nat} {b n d h : String} (hm : Cond.fieldLinkNest a i b n d h ∈ lw_tbl) : va_Nw (.fieldLinkNest a i b n d h) s := va_Nw.warmF hW (va_Nw.of rfl (hw _ hm))
theorem nw_linkM {s0 s : State} {b0 : Addr} (hw : ∀ w ∈ lw_tbl, w.before #[Value.ref b0] s0 = true) (hW : s0.WarmedH s.vm) {a : String} {i : Nat} {x : MethodName} {h : String} (hm : Cond.methodLinkNest a i x h ∈ lw_tbl) : va_Nw (.methodLinkNest a i x h) s := va_Nw.warmM hW (va_Nw.of rfl (hw _ hm))
section ENG
variable {l : Launch} {s0 : State} {D : va_G} {own nm : String} {cc : ByteArray} {nL : Nat} {ret : Option FieldType} {tab : List ExceptionTableEntry} {d mc ms : Nat} {Ib : AI} {post : Option Value → AI → AL → Prop} {xp : String → Nat → AI → AL → Prop} {md : Prop} {G : Gt} {GX : GXt}
variable {pc : Nat} {ls : List (Nat × Value)} {st : List Value} {I : AI} {L : AL} {k n : Nat}

theorem IsG.iconst (hG : IsG l s0 D own nm cc nL ret tab d mc ms Ib post xp md G GX) {z : Int} {v : Int32} (hd : decode cc pc = .ok (.iconst z, 1)) (hv : Int32.ofInt z = v) (kk : G (pc + 1) ls (.int v :: st) I L k n) : G pc ls st I L k n := by
  obtain ⟨p, e, s, m, args, below, meth, c, R, Q, hΓ, hx, hb, hr, hml, hown, hts, hlk, hnm, hW, htab, hF, hR, hmd, rfl, rfl⟩ := hG
  intro H locs lsA hl hS hV hI
  exact lv_iconst hx hb hd hv (kk H locs lsA hl hS hV hI)
theorem IsG.bipush (hG : IsG l s0 D own nm cc nL ret tab d mc ms Ib post xp md G GX) {z : Int} {v : Int32} (hd : decode cc pc = .ok (.bipush z, 2)) (hv : (Int8.ofInt z).toInt32 = v) (kk : G (pc + 2) ls (.int v :: st) I L k n) : G pc ls st I L k n := by
  obtain ⟨p, e, s, m, args, below, meth, c, R, Q, hΓ, hx, hb, hr, hml, hown, hts, hlk, hnm, hW, htab, hF, hR, hmd, rfl, rfl⟩ := hG
  intro H locs lsA hl hS hV hI
  exact lv_bipush hx hb hd hv (kk H locs lsA hl hS hV hI)
theorem IsG.sipush (hG : IsG l s0 D own nm cc nL ret tab d mc ms Ib post xp md G GX) {z : Int} {v : Int32} (hd : decode cc pc = .ok (.sipush z, 3)) (hv : (Int16.ofInt z).toInt32 = v) (kk : G (pc + 3) ls (.int v :: st) I L k n) : G pc ls st I L k n := by
  obtain ⟨p, e, s, m, args, below, meth, c, R, Q, hΓ, hx, hb, hr, hml, hown, hts, hlk, hnm, hW, htab, hF, hR, hmd, rfl, rfl⟩ := hG
  intro H locs lsA hl hS hV hI
  exact lv_sipush hx hb hd hv (kk H locs lsA hl hS hV hI)
theorem IsG.iload_n (hG : IsG l s0 D own nm cc nL ret tab d mc ms Ib post xp md G GX) {i : Fin 4} {x : Int32} (hd : decode cc pc = .ok (.iload_n i, 1)) (hg : lget ls i.val = some (.int x)) (kk : G (pc + 1) ls (.int x :: st) I L k n) : G pc ls st I L k n := by
  obtain ⟨p, e, s, m, args, below, meth, c, R, Q, hΓ, hx, hb, hr, hml, hown, hts, hlk, hnm, hW, htab, hF, hR, hmd, rfl, rfl⟩ := hG
  intro H locs lsA hl hS hV hI
  exact lv_iload_n hx hb hd rfl (lget_at hl hg) (kk H locs lsA hl hS hV hI)
theorem IsG.iload (hG : IsG l s0 D own nm cc nL ret tab d mc ms Ib post xp md G GX) {i : Nat} {x : Int32} (hd : decode cc pc = .ok (.iload i, 2)) (hg : lget ls i = some (.int x)) (kk : G (pc + 2) ls (.int x :: st) I L k n) : G pc ls st I L k n := by
  obtain ⟨p, e, s, m, args, below, meth, c, R, Q, hΓ, hx, hb, hr, hml, hown, hts, hlk, hnm, hW, htab, hF, hR, hmd, rfl, rfl⟩ := hG
  intro H locs lsA hl hS hV hI
  exact lv_iload hx hb hd (lget_at hl hg) (kk H locs lsA hl hS hV hI)
theorem IsG.aload_n (hG : IsG l s0 D own nm cc nL ret tab d mc ms Ib post xp md G GX) {i : Fin 4} {x : Nat} (hd : decode cc pc = .ok (.aload_n i, 1)) (hg : lget ls i.val = some (.ref x)) (kk : G (pc + 1) ls (.ref x :: st) I L k n) : G pc ls st I L k n := by
  obtain ⟨p, e, s, m, args, below, meth, c, R, Q, hΓ, hx, hb, hr, hml, hown, hts, hlk, hnm, hW, htab, hF, hR, hmd, rfl, rfl⟩ := hG
  intro H locs lsA hl hS hV hI
  exact lv_aload_n hx hb hd rfl (lget_at hl hg) (kk H locs lsA hl hS hV hI)
theorem IsG.aload (hG : IsG l s0 D own nm cc nL ret tab d mc ms Ib post xp md G GX) {i : Nat} {x : Nat} (hd : decode cc pc = .ok (.aload i, 2)) (hg : lget ls i = some (.ref x)) (kk : G (pc + 2) ls (.ref x :: st) I L k n) : G pc ls st I L k n := by
  obtain ⟨p, e, s, m, args, below, meth, c, R, Q, hΓ, hx, hb, hr, hml, hown, hts, hlk, hnm, hW, htab, hF, hR, hmd, rfl, rfl⟩ := hG
  intro H locs lsA hl hS hV hI
  exact lv_aload hx hb hd (lget_at hl hg) (kk H locs lsA hl hS hV hI)
theorem IsG.lload_n (hG : IsG l s0 D own nm cc nL ret tab d mc ms Ib post xp md G GX) {i : Fin 4} {x : Int64} (hd : decode cc pc = .ok (.lload_n i, 1)) (hg : lget ls i.val = some (.long x)) (kk : G (pc + 1) ls (.long x :: st) I L k n) : G pc ls st I L k n := by
  obtain ⟨p, e, s, m, args, below, meth, c, R, Q, hΓ, hx, hb, hr, hml, hown, hts, hlk, hnm, hW, htab, hF, hR, hmd, rfl, rfl⟩ := hG
  intro H locs lsA hl hS hV hI
  exact lv_lload_n hx hb hd rfl (lget_at hl hg) (kk H locs lsA hl hS hV hI)
theorem IsG.lload (hG : IsG l s0 D own nm cc nL ret tab d mc ms Ib post xp md G GX) {i : Nat} {x : Int64} (hd : decode cc pc = .ok (.lload i, 2)) (hg : lget ls i = some (.long x)) (kk : G (pc + 2) ls (.long x :: st) I L k n) : G pc ls st I L k n := by
  obtain ⟨p, e, s, m, args, below, meth, c, R, Q, hΓ, hx, hb, hr, hml, hown, hts, hlk, hnm, hW, htab, hF, hR, hmd, rfl, rfl⟩ := hG
  intro H locs lsA hl hS hV hI
  exact lv_lload hx hb hd (lget_at hl hg) (kk H locs lsA hl hS hV hI)
theorem IsG.fload_n (hG : IsG l s0 D own nm cc nL ret tab d mc ms Ib post xp md G GX) {i : Fin 4} {x : UInt32} (hd : decode cc pc = .ok (.fload_n i, 1)) (hg : lget ls i.val = some (.float x)) (kk : G (pc + 1) ls (.float x :: st) I L k n) : G pc ls st I L k n := by
  obtain ⟨p, e, s, m, args, below, meth, c, R, Q, hΓ, hx, hb, hr, hml, hown, hts, hlk, hnm, hW, htab, hF, hR, hmd, rfl, rfl⟩ := hG
  intro H locs lsA hl hS hV hI
  exact lv_fload_n hx hb hd rfl (lget_at hl hg) (kk H locs lsA hl hS hV hI)
theorem IsG.fload (hG : IsG l s0 D own nm cc nL ret tab d mc ms Ib post xp md G GX) {i : Nat} {x : UInt32} (hd : decode cc pc = .ok (.fload i, 2)) (hg : lget ls i = some (.float x)) (kk : G (pc + 2) ls (.float x :: st) I L k n) : G pc ls st I L k n := by
  obtain ⟨p, e, s, m, args, below, meth, c, R, Q, hΓ, hx, hb, hr, hml, hown, hts, hlk, hnm, hW, htab, hF, hR, hmd, rfl, rfl⟩ := hG
  intro H locs lsA hl hS hV hI
  exact lv_fload hx hb hd (lget_at hl hg) (kk H locs lsA hl hS hV hI)
theorem IsG.dload_n (hG : IsG l s0 D own nm cc nL ret tab d mc ms Ib post xp md G GX) {i : Fin 4} {x : UInt64} (hd : decode cc pc = .ok (.dload_n i, 1)) (hg : lget ls i.val = some (.double x)) (kk : G (pc + 1) ls (.double x :: st) I L k n) : G pc ls st I L k n := by
  obtain ⟨p, e, s, m, args, below, meth, c, R, Q, hΓ, hx, hb, hr, hml, hown, hts, hlk, hnm, hW, htab, hF, hR, hmd, rfl, rfl⟩ := hG
  intro H locs lsA hl hS hV hI
  exact lv_dload_n hx hb hd rfl (lget_at hl hg) (kk H locs lsA hl hS hV hI)
theorem IsG.dload (hG : IsG l s0 D own nm cc nL ret tab d mc ms Ib post xp md G GX) {i : Nat} {x : UInt64} (hd : decode cc pc = .ok (.dload i, 2)) (hg : lget ls i = some (.double x)) (kk : G (pc + 2) ls (.double x :: st) I L k n) : G pc ls st I L k n := by
  obtain ⟨p, e, s, m, args, below, meth, c, R, Q, hΓ, hx, hb, hr, hml, hown, hts, hlk, hnm, hW, htab, hF, hR, hmd, rfl, rfl⟩ := hG
  intro H locs lsA hl hS hV hI
  exact lv_dload hx hb hd (lget_at hl hg) (kk H locs lsA hl hS hV hI)
theorem IsG.aload_nN (hG : IsG l s0 D own nm cc nL ret tab d mc ms Ib post xp md G GX) {i : Fin 4} (hd : decode cc pc = .ok (.aload_n i, 1)) (hg : lget ls i.val = some .null) (kk : G (pc + 1) ls (.null :: st) I L k n) : G pc ls st I L k n := by
  obtain ⟨p, e, s, m, args, below, meth, c, R, Q, hΓ, hx, hb, hr, hml, hown, hts, hlk, hnm, hW, htab, hF, hR, hmd, rfl, rfl⟩ := hG
  intro H locs lsA hl hS hV hI
  exact lv_aload_nN hx hb hd rfl (lget_at hl hg) (kk H locs lsA hl hS hV hI)
theorem IsG.aloadN (hG : IsG l s0 D own nm cc nL ret tab d mc ms Ib post xp md G GX) {i : Nat} (hd : decode cc pc = .ok (.aload i, 2)) (hg : lget ls i = some .null) (kk : G (pc + 2) ls (.null :: st) I L k n) : G pc ls st I L k n := by
  obtain ⟨p, e, s, m, args, below, meth, c, R, Q, hΓ, hx, hb, hr, hml, hown, hts, hlk, hnm, hW, htab, hF, hR, hmd, rfl, rfl⟩ := hG
  intro H locs lsA hl hS hV hI
  exact lv_aloadN hx hb hd (lget_at hl hg) (kk H locs lsA hl hS hV hI)
theorem IsG.istore_n (hG : IsG l s0 D own nm cc nL ret tab d mc ms Ib post xp md G GX) {i : Fin 4} {x : Int32} (hd : decode cc pc = .ok (.istore_n i, 1)) (hn : i.val < nL) (kk : G (pc + 1) (lput ls i.val (.int x)) st I L k n) : G pc ls (.int x :: st) I L k n := by
  obtain ⟨p, e, s, m, args, below, meth, c, R, Q, hΓ, hx, hb, hr, hml, hown, hts, hlk, hnm, hW, htab, hF, hR, hmd, rfl, rfl⟩ := hG
  intro H locs lsA hl hS hV hI
  exact lv_istore_n hx hb hd rfl hl hn (by rw [lput, ldel_eq]) (fun ls2 hl2 => kk H locs ls2 hl2 hS hV hI)
theorem IsG.istore (hG : IsG l s0 D own nm cc nL ret tab d mc ms Ib post xp md G GX) {i : Nat} {x : Int32} (hd : decode cc pc = .ok (.istore i, 2)) (hn : i < nL) (kk : G (pc + 2) (lput ls i (.int x)) st I L k n) : G pc ls (.int x :: st) I L k n := by
  obtain ⟨p, e, s, m, args, below, meth, c, R, Q, hΓ, hx, hb, hr, hml, hown, hts, hlk, hnm, hW, htab, hF, hR, hmd, rfl, rfl⟩ := hG
  intro H locs lsA hl hS hV hI
  exact lv_istore hx hb hd hl hn (by rw [lput, ldel_eq]) (fun ls2 hl2 => kk H locs ls2 hl2 hS hV hI)
theorem IsG.astore_n (hG : IsG l s0 D own nm cc nL ret tab d mc ms Ib post xp md G GX) {i : Fin 4} {x : Nat} (hd : decode cc pc = .ok (.astore_n i, 1)) (hn : i.val < nL) (kk : G (pc + 1) (lput ls i.val (.ref x)) st I L k n) : G pc ls (.ref x :: st) I L k n := by
  obtain ⟨p, e, s, m, args, below, meth, c, R, Q, hΓ, hx, hb, hr, hml, hown, hts, hlk, hnm, hW, htab, hF, hR, hmd, rfl, rfl⟩ := hG
  intro H locs lsA hl hS hV hI
  exact lv_astore_n hx hb hd rfl hl hn (by rw [lput, ldel_eq]) (fun ls2 hl2 => kk H locs ls2 hl2 hS hV hI)
theorem IsG.astore (hG : IsG l s0 D own nm cc nL ret tab d mc ms Ib post xp md G GX) {i : Nat} {x : Nat} (hd : decode cc pc = .ok (.astore i, 2)) (hn : i < nL) (kk : G (pc + 2) (lput ls i (.ref x)) st I L k n) : G pc ls (.ref x :: st) I L k n := by
  obtain ⟨p, e, s, m, args, below, meth, c, R, Q, hΓ, hx, hb, hr, hml, hown, hts, hlk, hnm, hW, htab, hF, hR, hmd, rfl, rfl⟩ := hG
  intro H locs lsA hl hS hV hI
  exact lv_astore hx hb hd hl hn (by rw [lput, ldel_eq]) (fun ls2 hl2 => kk H locs ls2 hl2 hS hV hI)
theorem IsG.lstore_n (hG : IsG l s0 D own nm cc nL ret tab d mc ms Ib post xp md G GX) {i : Fin 4} {x : Int64} (hd : decode cc pc = .ok (.lstore_n i, 1)) (hn : i.val + 1 < nL) (kk : G (pc + 1) (lput2 ls i.val (.long x)) st I L k n) : G pc ls (.long x :: st) I L k n := by
  obtain ⟨p, e, s, m, args, below, meth, c, R, Q, hΓ, hx, hb, hr, hml, hown, hts, hlk, hnm, hW, htab, hF, hR, hmd, rfl, rfl⟩ := hG
  intro H locs lsA hl hS hV hI
  exact lv_lstore_n hx hb hd rfl hl hn (by rw [lput2, ldel2_eq]) (fun ls2 hl2 => kk H locs ls2 hl2 hS hV hI)
theorem IsG.lstore (hG : IsG l s0 D own nm cc nL ret tab d mc ms Ib post xp md G GX) {i : Nat} {x : Int64} (hd : decode cc pc = .ok (.lstore i, 2)) (hn : i + 1 < nL) (kk : G (pc + 2) (lput2 ls i (.long x)) st I L k n) : G pc ls (.long x :: st) I L k n := by
  obtain ⟨p, e, s, m, args, below, meth, c, R, Q, hΓ, hx, hb, hr, hml, hown, hts, hlk, hnm, hW, htab, hF, hR, hmd, rfl, rfl⟩ := hG
  intro H locs lsA hl hS hV hI
  exact lv_lstore hx hb hd hl hn (by rw [lput2, ldel2_eq]) (fun ls2 hl2 => kk H locs ls2 hl2 hS hV hI)
theorem IsG.fstore_n (hG : IsG l s0 D own nm cc nL ret tab d mc ms Ib post xp md G GX) {i : Fin 4} {x : UInt32} (hd : decode cc pc = .ok (.fstore_n i, 1)) (hn : i.val < nL) (kk : G (pc + 1) (lput ls i.val (.float x)) st I L k n) : G pc ls (.float x :: st) I L k n := by
  obtain ⟨p, e, s, m, args, below, meth, c, R, Q, hΓ, hx, hb, hr, hml, hown, hts, hlk, hnm, hW, htab, hF, hR, hmd, rfl, rfl⟩ := hG
  intro H locs lsA hl hS hV hI
  exact lv_fstore_n hx hb hd rfl hl hn (by rw [lput, ldel_eq]) (fun ls2 hl2 => kk H locs ls2 hl2 hS hV hI)
theorem IsG.fstore (hG : IsG l s0 D own nm cc nL ret tab d mc ms Ib post xp md G GX) {i : Nat} {x : UInt32} (hd : decode cc pc = .ok (.fstore i, 2)) (hn : i < nL) (kk : G (pc + 2) (lput ls i (.float x)) st I L k n) : G pc ls (.float x :: st) I L k n := by
  obtain ⟨p, e, s, m, args, below, meth, c, R, Q, hΓ, hx, hb, hr, hml, hown, hts, hlk, hnm, hW, htab, hF, hR, hmd, rfl, rfl⟩ := hG
  intro H locs lsA hl hS hV hI
  exact lv_fstore hx hb hd hl hn (by rw [lput, ldel_eq]) (fun ls2 hl2 => kk H locs ls2 hl2 hS hV hI)
theorem IsG.dstore_n (hG : IsG l s0 D own nm cc nL ret tab d mc ms Ib post xp md G GX) {i : Fin 4} {x : UInt64} (hd : decode cc pc = .ok (.dstore_n i, 1)) (hn : i.val + 1 < nL) (kk : G (pc + 1) (lput2 ls i.val (.double x)) st I L k n) : G pc ls (.double x :: st) I L k n := by
  obtain ⟨p, e, s, m, args, below, meth, c, R, Q, hΓ, hx, hb, hr, hml, hown, hts, hlk, hnm, hW, htab, hF, hR, hmd, rfl, rfl⟩ := hG
  intro H locs lsA hl hS hV hI
  exact lv_dstore_n hx hb hd rfl hl hn (by rw [lput2, ldel2_eq]) (fun ls2 hl2 => kk H locs ls2 hl2 hS hV hI)
theorem IsG.dstore (hG : IsG l s0 D own nm cc nL ret tab d mc ms Ib post xp md G GX) {i : Nat} {x : UInt64} (hd : decode cc pc = .ok (.dstore i, 2)) (hn : i + 1 < nL) (kk : G (pc + 2) (lput2 ls i (.double x)) st I L k n) : G pc ls (.double x :: st) I L k n := by
  obtain ⟨p, e, s, m, args, below, meth, c, R, Q, hΓ, hx, hb, hr, hml, hown, hts, hlk, hnm, hW, htab, hF, hR, hmd, rfl, rfl⟩ := hG
  intro H locs lsA hl hS hV hI
  exact lv_dstore hx hb hd hl hn (by rw [lput2, ldel2_eq]) (fun ls2 hl2 => kk H locs ls2 hl2 hS hV hI)
theorem IsG.astore_nN (hG : IsG l s0 D own nm cc nL ret tab d mc ms Ib post xp md G GX) {i : Fin 4} (hd : decode cc pc = .ok (.astore_n i, 1)) (hn : i.val < nL) (kk : G (pc + 1) (lput ls i.val .null) st I L k n) : G pc ls (.null :: st) I L k n := by
  obtain ⟨p, e, s, m, args, below, meth, c, R, Q, hΓ, hx, hb, hr, hml, hown, hts, hlk, hnm, hW, htab, hF, hR, hmd, rfl, rfl⟩ := hG
  intro H locs lsA hl hS hV hI
  exact lv_astore_nN hx hb hd rfl hl hn (by rw [lput, ldel_eq]) (fun ls2 hl2 => kk H locs ls2 hl2 hS hV hI)
theorem IsG.astoreN (hG : IsG l s0 D own nm cc nL ret tab d mc ms Ib post xp md G GX) {i : Nat} (hd : decode cc pc = .ok (.astore i, 2)) (hn : i < nL) (kk : G (pc + 2) (lput ls i .null) st I L k n) : G pc ls (.null :: st) I L k n := by
  obtain ⟨p, e, s, m, args, below, meth, c, R, Q, hΓ, hx, hb, hr, hml, hown, hts, hlk, hnm, hW, htab, hF, hR, hmd, rfl, rfl⟩ := hG
  intro H locs lsA hl hS hV hI
  exact lv_astoreN hx hb hd hl hn (by rw [lput, ldel_eq]) (fun ls2 hl2 => kk H locs ls2 hl2 hS hV hI)
theorem IsG.iinc (hG : IsG l s0 D own nm cc nL ret tab d mc ms Ib post xp md G GX) {i : Nat} {z : Int} {x : Int32} (hd : decode cc pc = .ok (.iinc i z, 3)) (hg : lget ls i = some (.int x)) (hn : i < nL) (kk : G (pc + 3) (lput ls i (.int (x + Int32.ofInt z))) st I L k n) : G pc ls st I L k n := by
  obtain ⟨p, e, s, m, args, below, meth, c, R, Q, hΓ, hx, hb, hr, hml, hown, hts, hlk, hnm, hW, htab, hF, hR, hmd, rfl, rfl⟩ := hG
  intro H locs lsA hl hS hV hI
  obtain ⟨j, hj⟩ := List.getElem?_of_mem (lget_mem hg)
  exact lv_iinc hx hb hd hl hj rfl hn (by rw [lput, ldel_eq]) (fun ls2 hl2 => kk H locs ls2 hl2 hS hV hI)
theorem IsG.iadd (hG : IsG l s0 D own nm cc nL ret tab d mc ms Ib post xp md G GX) {x y : Int32} (hd : decode cc pc = .ok (.iadd, 1))  (kk : G (pc + 1) ls (.int (x + y) :: st) I L k n) : G pc ls (.int y :: .int x :: st) I L k n := by
  obtain ⟨p, e, s, m, args, below, meth, c, R, Q, hΓ, hx, hb, hr, hml, hown, hts, hlk, hnm, hW, htab, hF, hR, hmd, rfl, rfl⟩ := hG
  intro H locs lsA hl hS hV hI
  exact lv_iadd hx hb hd (kk H locs lsA hl hS hV hI)
theorem IsG.isub (hG : IsG l s0 D own nm cc nL ret tab d mc ms Ib post xp md G GX) {x y : Int32} (hd : decode cc pc = .ok (.isub, 1))  (kk : G (pc + 1) ls (.int (x - y) :: st) I L k n) : G pc ls (.int y :: .int x :: st) I L k n := by
  obtain ⟨p, e, s, m, args, below, meth, c, R, Q, hΓ, hx, hb, hr, hml, hown, hts, hlk, hnm, hW, htab, hF, hR, hmd, rfl, rfl⟩ := hG
  intro H locs lsA hl hS hV hI
  exact lv_isub hx hb hd (kk H locs lsA hl hS hV hI)
theorem IsG.imul (hG : IsG l s0 D own nm cc nL ret tab d mc ms Ib post xp md G GX) {x y : Int32} (hd : decode cc pc = .ok (.imul, 1))  (kk : G (pc + 1) ls (.int (x * y) :: st) I L k n) : G pc ls (.int y :: .int x :: st) I L k n := by
  obtain ⟨p, e, s, m, args, below, meth, c, R, Q, hΓ, hx, hb, hr, hml, hown, hts, hlk, hnm, hW, htab, hF, hR, hmd, rfl, rfl⟩ := hG
  intro H locs lsA hl hS hV hI
  exact lv_imul hx hb hd (kk H locs lsA hl hS hV hI)
theorem IsG.iand (hG : IsG l s0 D own nm cc nL ret tab d mc ms Ib post xp md G GX) {x y : Int32} (hd : decode cc pc = .ok (.iand, 1))  (kk : G (pc + 1) ls (.int (x &&& y) :: st) I L k n) : G pc ls (.int y :: .int x :: st) I L k n := by
  obtain ⟨p, e, s, m, args, below, meth, c, R, Q, hΓ, hx, hb, hr, hml, hown, hts, hlk, hnm, hW, htab, hF, hR, hmd, rfl, rfl⟩ := hG
  intro H locs lsA hl hS hV hI
  exact lv_iand hx hb hd (kk H locs lsA hl hS hV hI)
theorem IsG.ior (hG : IsG l s0 D own nm cc nL ret tab d mc ms Ib post xp md G GX) {x y : Int32} (hd : decode cc pc = .ok (.ior, 1))  (kk : G (pc + 1) ls (.int (x ||| y) :: st) I L k n) : G pc ls (.int y :: .int x :: st) I L k n := by
  obtain ⟨p, e, s, m, args, below, meth, c, R, Q, hΓ, hx, hb, hr, hml, hown, hts, hlk, hnm, hW, htab, hF, hR, hmd, rfl, rfl⟩ := hG
  intro H locs lsA hl hS hV hI
  exact lv_ior hx hb hd (kk H locs lsA hl hS hV hI)
theorem IsG.ixor (hG : IsG l s0 D own nm cc nL ret tab d mc ms Ib post xp md G GX) {x y : Int32} (hd : decode cc pc = .ok (.ixor, 1))  (kk : G (pc + 1) ls (.int (x ^^^ y) :: st) I L k n) : G pc ls (.int y :: .int x :: st) I L k n := by
  obtain ⟨p, e, s, m, args, below, meth, c, R, Q, hΓ, hx, hb, hr, hml, hown, hts, hlk, hnm, hW, htab, hF, hR, hmd, rfl, rfl⟩ := hG
  intro H locs lsA hl hS hV hI
  exact lv_ixor hx hb hd (kk H locs lsA hl hS hV hI)
theorem IsG.idiv (hG : IsG l s0 D own nm cc nL ret tab d mc ms Ib post xp md G GX) {x y : Int32} (hd : decode cc pc = .ok (.idiv, 1)) (hne : ¬ y = 0) (kk : G (pc + 1) ls (.int (x / y) :: st) I L k n) : G pc ls (.int y :: .int x :: st) I L k n := by
  obtain ⟨p, e, s, m, args, below, meth, c, R, Q, hΓ, hx, hb, hr, hml, hown, hts, hlk, hnm, hW, htab, hF, hR, hmd, rfl, rfl⟩ := hG
  intro H locs lsA hl hS hV hI
  exact lv_idiv hx hb hd hne (kk H locs lsA hl hS hV hI)
theorem IsG.irem (hG : IsG l s0 D own nm cc nL ret tab d mc ms Ib post xp md G GX) {x y : Int32} (hd : decode cc pc = .ok (.irem, 1)) (hne : ¬ y = 0) (kk : G (pc + 1) ls (.int (x - x / y * y) :: st) I L k n) : G pc ls (.int y :: .int x :: st) I L k n := by
  obtain ⟨p, e, s, m, args, below, meth, c, R, Q, hΓ, hx, hb, hr, hml, hown, hts, hlk, hnm, hW, htab, hF, hR, hmd, rfl, rfl⟩ := hG
  intro H locs lsA hl hS hV hI
  exact lv_irem hx hb hd hne (kk H locs lsA hl hS hV hI)
theorem IsG.ineg (hG : IsG l s0 D own nm cc nL ret tab d mc ms Ib post xp md G GX) {x : Int32} (hd : decode cc pc = .ok (.ineg, 1))  (kk : G (pc + 1) ls (.int (-x) :: st) I L k n) : G pc ls (.int x :: st) I L k n := by
  obtain ⟨p, e, s, m, args, below, meth, c, R, Q, hΓ, hx, hb, hr, hml, hown, hts, hlk, hnm, hW, htab, hF, hR, hmd, rfl, rfl⟩ := hG
  intro H locs lsA hl hS hV hI
  exact lv_ineg hx hb hd (kk H locs lsA hl hS hV hI)
theorem IsG.ishl (hG : IsG l s0 D own nm cc nL ret tab d mc ms Ib post xp md G GX) {x y : Int32} (hd : decode cc pc = .ok (.ishl, 1))  (kk : G (pc + 1) ls (.int (x <<< (y &&& 31)) :: st) I L k n) : G pc ls (.int y :: .int x :: st) I L k n := by
  obtain ⟨p, e, s, m, args, below, meth, c, R, Q, hΓ, hx, hb, hr, hml, hown, hts, hlk, hnm, hW, htab, hF, hR, hmd, rfl, rfl⟩ := hG
  intro H locs lsA hl hS hV hI
  exact lv_ishl hx hb hd (kk H locs lsA hl hS hV hI)
theorem IsG.ishr (hG : IsG l s0 D own nm cc nL ret tab d mc ms Ib post xp md G GX) {x y : Int32} (hd : decode cc pc = .ok (.ishr, 1))  (kk : G (pc + 1) ls (.int (x >>> (y &&& 31)) :: st) I L k n) : G pc ls (.int y :: .int x :: st) I L k n := by
  obtain ⟨p, e, s, m, args, below, meth, c, R, Q, hΓ, hx, hb, hr, hml, hown, hts, hlk, hnm, hW, htab, hF, hR, hmd, rfl, rfl⟩ := hG
  intro H locs lsA hl hS hV hI
  exact lv_ishr hx hb hd (kk H locs lsA hl hS hV hI)
theorem IsG.iushr (hG : IsG l s0 D own nm cc nL ret tab d mc ms Ib post xp md G GX) {x y : Int32} (hd : decode cc pc = .ok (.iushr, 1))  (kk : G (pc + 1) ls (.int (x.toUInt32 >>> (y.toUInt32 &&& Int32.toUInt32 31)).toInt32 :: st) I L k n) : G pc ls (.int y :: .int x :: st) I L k n := by
  obtain ⟨p, e, s, m, args, below, meth, c, R, Q, hΓ, hx, hb, hr, hml, hown, hts, hlk, hnm, hW, htab, hF, hR, hmd, rfl, rfl⟩ := hG
  intro H locs lsA hl hS hV hI
  exact lv_iushr hx hb hd rfl (kk H locs lsA hl hS hV hI)
theorem IsG.i2l (hG : IsG l s0 D own nm cc nL ret tab d mc ms Ib post xp md G GX) {x : Int32} (hd : decode cc pc = .ok (.i2l, 1))  (kk : G (pc + 1) ls (.long x.toInt64 :: st) I L k n) : G pc ls (.int x :: st) I L k n := by
  obtain ⟨p, e, s, m, args, below, meth, c, R, Q, hΓ, hx, hb, hr, hml, hown, hts, hlk, hnm, hW, htab, hF, hR, hmd, rfl, rfl⟩ := hG
  intro H locs lsA hl hS hV hI
  exact lv_i2l hx hb hd rfl (kk H locs lsA hl hS hV hI)
theorem IsG.i2b (hG : IsG l s0 D own nm cc nL ret tab d mc ms Ib post xp md G GX) {x : Int32} (hd : decode cc pc = .ok (.i2b, 1))  (kk : G (pc + 1) ls (.int x.toInt8.toInt32 :: st) I L k n) : G pc ls (.int x :: st) I L k n := by
  obtain ⟨p, e, s, m, args, below, meth, c, R, Q, hΓ, hx, hb, hr, hml, hown, hts, hlk, hnm, hW, htab, hF, hR, hmd, rfl, rfl⟩ := hG
  intro H locs lsA hl hS hV hI
  exact lv_i2b hx hb hd rfl (kk H locs lsA hl hS hV hI)
theorem IsG.i2c (hG : IsG l s0 D own nm cc nL ret tab d mc ms Ib post xp md G GX) {x : Int32} (hd : decode cc pc = .ok (.i2c, 1))  (kk : G (pc + 1) ls (.int (x.toUInt32 % 65536).toInt32 :: st) I L k n) : G pc ls (.int x :: st) I L k n := by
  obtain ⟨p, e, s, m, args, below, meth, c, R, Q, hΓ, hx, hb, hr, hml, hown, hts, hlk, hnm, hW, htab, hF, hR, hmd, rfl, rfl⟩ := hG
  intro H locs lsA hl hS hV hI
  exact lv_i2c hx hb hd rfl (kk H locs lsA hl hS hV hI)
theorem IsG.i2d (hG : IsG l s0 D own nm cc nL ret tab d mc ms Ib post xp md G GX) {x : Int32} (hd : decode cc pc = .ok (.i2d, 1))  (kk : G (pc + 1) ls (.double (FP.i2d x) :: st) I L k n) : G pc ls (.int x :: st) I L k n := by
  obtain ⟨p, e, s, m, args, below, meth, c, R, Q, hΓ, hx, hb, hr, hml, hown, hts, hlk, hnm, hW, htab, hF, hR, hmd, rfl, rfl⟩ := hG
  intro H locs lsA hl hS hV hI
  exact lv_i2d hx hb hd (kk H locs lsA hl hS hV hI)
theorem IsG.i2f (hG : IsG l s0 D own nm cc nL ret tab d mc ms Ib post xp md G GX) {x : Int32} (hd : decode cc pc = .ok (.i2f, 1))  (kk : G (pc + 1) ls (.float (FP.i2f x) :: st) I L k n) : G pc ls (.int x :: st) I L k n := by
  obtain ⟨p, e, s, m, args, below, meth, c, R, Q, hΓ, hx, hb, hr, hml, hown, hts, hlk, hnm, hW, htab, hF, hR, hmd, rfl, rfl⟩ := hG
  intro H locs lsA hl hS hV hI
  exact lv_i2f hx hb hd (kk H locs lsA hl hS hV hI)
theorem IsG.f2d (hG : IsG l s0 D own nm cc nL ret tab d mc ms Ib post xp md G GX) {x : UInt32} (hd : decode cc pc = .ok (.f2d, 1)) (hne : vf_n64 (FP.f2d x)) (kk : G (pc + 1) ls (.double (FP.f2d x) :: st) I L k n) : G pc ls (.float x :: st) I L k n := by
  obtain ⟨p, e, s, m, args, below, meth, c, R, Q, hΓ, hx, hb, hr, hml, hown, hts, hlk, hnm, hW, htab, hF, hR, hmd, rfl, rfl⟩ := hG
  intro H locs lsA hl hS hV hI
  exact lv_f2d hx hb hd hne (kk H locs lsA hl hS hV hI)
theorem IsG.ddiv (hG : IsG l s0 D own nm cc nL ret tab d mc ms Ib post xp md G GX) {x y : UInt64} (hd : decode cc pc = .ok (.ddiv, 1)) (hne : vf_n64 (FP.ddiv x y)) (kk : G (pc + 1) ls (.double (FP.ddiv x y) :: st) I L k n) : G pc ls (.double y :: .double x :: st) I L k n := by
  obtain ⟨p, e, s, m, args, below, meth, c, R, Q, hΓ, hx, hb, hr, hml, hown, hts, hlk, hnm, hW, htab, hF, hR, hmd, rfl, rfl⟩ := hG
  intro H locs lsA hl hS hV hI
  exact lv_ddiv hx hb hd hne (kk H locs lsA hl hS hV hI)
theorem IsG.fdiv (hG : IsG l s0 D own nm cc nL ret tab d mc ms Ib post xp md G GX) {x y : UInt32} (hd : decode cc pc = .ok (.fdiv, 1)) (hne : vf_n32 (FP.fdiv x y)) (kk : G (pc + 1) ls (.float (FP.fdiv x y) :: st) I L k n) : G pc ls (.float y :: .float x :: st) I L k n := by
  obtain ⟨p, e, s, m, args, below, meth, c, R, Q, hΓ, hx, hb, hr, hml, hown, hts, hlk, hnm, hW, htab, hF, hR, hmd, rfl, rfl⟩ := hG
  intro H locs lsA hl hS hV hI
  exact lv_fdiv hx hb hd hne (kk H locs lsA hl hS hV hI)
theorem IsG.dcmp (hG : IsG l s0 D own nm cc nL ret tab d mc ms Ib post xp md G GX) {x y : UInt64} {op : CmpOp} (hd : decode cc pc = .ok (.dcmp op, 1))  (kk : G (pc + 1) ls (.int (Op.cmpValue (FP.dcmp x y) op) :: st) I L k n) : G pc ls (.double y :: .double x :: st) I L k n := by
  obtain ⟨p, e, s, m, args, below, meth, c, R, Q, hΓ, hx, hb, hr, hml, hown, hts, hlk, hnm, hW, htab, hF, hR, hmd, rfl, rfl⟩ := hG
  intro H locs lsA hl hS hV hI
  exact lv_dcmp hx hb hd (kk H locs lsA hl hS hV hI)
theorem IsG.fcmp (hG : IsG l s0 D own nm cc nL ret tab d mc ms Ib post xp md G GX) {x y : UInt32} {op : CmpOp} (hd : decode cc pc = .ok (.fcmp op, 1))  (kk : G (pc + 1) ls (.int (Op.cmpValue (FP.fcmp x y) op) :: st) I L k n) : G pc ls (.float y :: .float x :: st) I L k n := by
  obtain ⟨p, e, s, m, args, below, meth, c, R, Q, hΓ, hx, hb, hr, hml, hown, hts, hlk, hnm, hW, htab, hF, hR, hmd, rfl, rfl⟩ := hG
  intro H locs lsA hl hS hV hI
  exact lv_fcmp hx hb hd (kk H locs lsA hl hS hV hI)
theorem IsG.dup (hG : IsG l s0 D own nm cc nL ret tab d mc ms Ib post xp md G GX) {a : Value} (hd : decode cc pc = .ok (.dup, 1)) (ha : a.category = 1) (kk : G (pc + 1) ls (a :: a :: st) I L k n) : G pc ls (a :: st) I L k n := by
  obtain ⟨p, e, s, m, args, below, meth, c, R, Q, hΓ, hx, hb, hr, hml, hown, hts, hlk, hnm, hW, htab, hF, hR, hmd, rfl, rfl⟩ := hG
  intro H locs lsA hl hS hV hI
  exact lv_dup hx hb hd ha (kk H locs lsA hl hS hV hI)
theorem IsG.pop (hG : IsG l s0 D own nm cc nL ret tab d mc ms Ib post xp md G GX) {a : Value} (hd : decode cc pc = .ok (.pop, 1)) (ha : a.category = 1) (kk : G (pc + 1) ls st I L k n) : G pc ls (a :: st) I L k n := by
  obtain ⟨p, e, s, m, args, below, meth, c, R, Q, hΓ, hx, hb, hr, hml, hown, hts, hlk, hnm, hW, htab, hF, hR, hmd, rfl, rfl⟩ := hG
  intro H locs lsA hl hS hV hI
  exact lv_pop hx hb hd ha (kk H locs lsA hl hS hV hI)
theorem IsG.dup_x1 (hG : IsG l s0 D own nm cc nL ret tab d mc ms Ib post xp md G GX) {a b : Value} (hd : decode cc pc = .ok (.dup_x1, 1)) (ha : a.category = 1) (hb2 : b.category = 1) (kk : G (pc + 1) ls (a :: b :: a :: st) I L k n) : G pc ls (a :: b :: st) I L k n := by
  obtain ⟨p, e, s, m, args, below, meth, c, R, Q, hΓ, hx, hb, hr, hml, hown, hts, hlk, hnm, hW, htab, hF, hR, hmd, rfl, rfl⟩ := hG
  intro H locs lsA hl hS hV hI
  exact lv_dup_x1 hx hb hd ha hb2 (kk H locs lsA hl hS hV hI)
theorem IsG.dup_x2 (hG : IsG l s0 D own nm cc nL ret tab d mc ms Ib post xp md G GX) {a b c0 : Value} (hd : decode cc pc = .ok (.dup_x2, 1)) (ha : a.category = 1) (hb2 : b.category = 1) (hc2 : c0.category = 1) (kk : G (pc + 1) ls (a :: b :: c0 :: a :: st) I L k n) : G pc ls (a :: b :: c0 :: st) I L k n := by
  obtain ⟨p, e, s, m, args, below, meth, c, R, Q, hΓ, hx, hb, hr, hml, hown, hts, hlk, hnm, hW, htab, hF, hR, hmd, rfl, rfl⟩ := hG
  intro H locs lsA hl hS hV hI
  exact lv_dup_x2 hx hb hd ha hb2 hc2 (kk H locs lsA hl hS hV hI)
theorem IsG.dup2 (hG : IsG l s0 D own nm cc nL ret tab d mc ms Ib post xp md G GX) {a b : Value} (hd : decode cc pc = .ok (.dup2, 1)) (ha : a.category = 1) (hb2 : b.category = 1) (kk : G (pc + 1) ls (a :: b :: a :: b :: st) I L k n) : G pc ls (a :: b :: st) I L k n := by
  obtain ⟨p, e, s, m, args, below, meth, c, R, Q, hΓ, hx, hb, hr, hml, hown, hts, hlk, hnm, hW, htab, hF, hR, hmd, rfl, rfl⟩ := hG
  intro H locs lsA hl hS hV hI
  exact lv_dup2_11 hx hb hd ha hb2 (kk H locs lsA hl hS hV hI)
theorem IsG.null (hG : IsG l s0 D own nm cc nL ret tab d mc ms Ib post xp md G GX)  (hd : decode cc pc = .ok (.aconst_null, 1))  (kk : G (pc + 1) ls (.null :: st) I L k n) : G pc ls st I L k n := by
  obtain ⟨p, e, s, m, args, below, meth, c, R, Q, hΓ, hx, hb, hr, hml, hown, hts, hlk, hnm, hW, htab, hF, hR, hmd, rfl, rfl⟩ := hG
  intro H locs lsA hl hS hV hI
  exact lv_null hx hb hd (kk H locs lsA hl hS hV hI)
theorem IsG.ldc (hG : IsG l s0 D own nm cc nL ret tab d mc ms Ib post xp md G GX) {idx : Nat} {v : Int32} (hd : decode cc pc = .ok (.ldc idx, 2)) (hc : Cond.constant own idx v ∈ lw_all) (kk : G (pc + 2) ls (.int v :: st) I L k n) : G pc ls st I L k n := by
  obtain ⟨p, e, s, m, args, below, meth, c, R, Q, hΓ, hx, hb, hr, hml, hown, hts, hlk, hnm, hW, htab, hF, hR, hmd, rfl, rfl⟩ := hG
  intro H locs lsA hl hS hV hI
  exact lv_ldc hx hb hown (hts _ hc) hd (kk H locs lsA hl hS hV hI)
theorem IsG.castN (hG : IsG l s0 D own nm cc nL ret tab d mc ms Ib post xp md G GX) {idx : Nat} (hd : decode cc pc = .ok (.checkcast idx, 3))  (kk : G (pc + 3) ls (.null :: st) I L k n) : G pc ls (.null :: st) I L k n := by
  obtain ⟨p, e, s, m, args, below, meth, c, R, Q, hΓ, hx, hb, hr, hml, hown, hts, hlk, hnm, hW, htab, hF, hR, hmd, rfl, rfl⟩ := hG
  intro H locs lsA hl hS hV hI
  exact lv_castN hx hb hd (kk H locs lsA hl hS hV hI)
theorem IsG.instN (hG : IsG l s0 D own nm cc nL ret tab d mc ms Ib post xp md G GX) {idx : Nat} (hd : decode cc pc = .ok (.instanceof idx, 3))  (kk : G (pc + 3) ls (.int 0 :: st) I L k n) : G pc ls (.null :: st) I L k n := by
  obtain ⟨p, e, s, m, args, below, meth, c, R, Q, hΓ, hx, hb, hr, hml, hown, hts, hlk, hnm, hW, htab, hF, hR, hmd, rfl, rfl⟩ := hG
  intro H locs lsA hl hS hV hI
  exact lv_instN hx hb hd (kk H locs lsA hl hS hV hI)
theorem IsG.ifnull (hG : IsG l s0 D own nm cc nL ret tab d mc ms Ib post xp md G GX) {x : Nat} {off : Int} (hd : decode cc pc = .ok (.ifnull off, 3))  (kk : G (pc + 3) ls st I L k n) : G pc ls (.ref x :: st) I L k n := by
  obtain ⟨p, e, s, m, args, below, meth, c, R, Q, hΓ, hx, hb, hr, hml, hown, hts, hlk, hnm, hW, htab, hF, hR, hmd, rfl, rfl⟩ := hG
  intro H locs lsA hl hS hV hI
  exact lv_ifnull hx hb hd (kk H locs lsA hl hS hV hI)
theorem IsG.ifnonnullN (hG : IsG l s0 D own nm cc nL ret tab d mc ms Ib post xp md G GX) {off : Int} (hd : decode cc pc = .ok (.ifnonnull off, 3))  (kk : G (pc + 3) ls st I L k n) : G pc ls (.null :: st) I L k n := by
  obtain ⟨p, e, s, m, args, below, meth, c, R, Q, hΓ, hx, hb, hr, hml, hown, hts, hlk, hnm, hW, htab, hF, hR, hmd, rfl, rfl⟩ := hG
  intro H locs lsA hl hS hV hI
  exact lv_ifnonnullN hx hb hd (kk H locs lsA hl hS hV hI)
theorem IsG.goto (hG : IsG l s0 D own nm cc nL ret tab d mc ms Ib post xp md G GX)  {off : Int} {tgt : Nat} (hd : decode cc pc = .ok (.goto off, 3)) (ht : (pc : Int) + off = (tgt : Int)) (kk : G tgt ls st I L k n) : G pc ls st I L k n := by
  obtain ⟨p, e, s, m, args, below, meth, c, R, Q, hΓ, hx, hb, hr, hml, hown, hts, hlk, hnm, hW, htab, hF, hR, hmd, rfl, rfl⟩ := hG
  intro H locs lsA hl hS hV hI
  exact lv_goto hx hb hd ht (kk H locs lsA hl hS hV hI)
theorem IsG.ifnullN (hG : IsG l s0 D own nm cc nL ret tab d mc ms Ib post xp md G GX)  {off : Int} {tgt : Nat} (hd : decode cc pc = .ok (.ifnull off, 3)) (ht : (pc : Int) + off = (tgt : Int)) (kk : G tgt ls st I L k n) : G pc ls (.null :: st) I L k n := by
  obtain ⟨p, e, s, m, args, below, meth, c, R, Q, hΓ, hx, hb, hr, hml, hown, hts, hlk, hnm, hW, htab, hF, hR, hmd, rfl, rfl⟩ := hG
  intro H locs lsA hl hS hV hI
  exact lv_ifnullN hx hb hd ht (kk H locs lsA hl hS hV hI)
theorem IsG.ifnonnull (hG : IsG l s0 D own nm cc nL ret tab d mc ms Ib post xp md G GX) {x : Nat} {off : Int} {tgt : Nat} (hd : decode cc pc = .ok (.ifnonnull off, 3)) (ht : (pc : Int) + off = (tgt : Int)) (kk : G tgt ls st I L k n) : G pc ls (.ref x :: st) I L k n := by
  obtain ⟨p, e, s, m, args, below, meth, c, R, Q, hΓ, hx, hb, hr, hml, hown, hts, hlk, hnm, hW, htab, hF, hR, hmd, rfl, rfl⟩ := hG
  intro H locs lsA hl hS hV hI
  exact lv_ifnonnull hx hb hd ht (kk H locs lsA hl hS hV hI)
theorem IsG.if_eq (hG : IsG l s0 D own nm cc nL ret tab d mc ms Ib post xp md G GX) {x : Int32} {off : Int} {tgt : Nat} (hd : decode cc pc = .ok (.ifCond .eq off, 3)) (ht : (pc : Int) + off = (tgt : Int)) (kt : (x = 0) → G tgt ls st I L k n) (kf : ¬ (x = 0) → G (pc + 3) ls st I L k n) : G pc ls (.int x :: st) I L k n := by
  obtain ⟨p, e, s, m, args, below, meth, c, R, Q, hΓ, hx, hb, hr, hml, hown, hts, hlk, hnm, hW, htab, hF, hR, hmd, rfl, rfl⟩ := hG
  intro H locs lsA hl hS hV hI
  exact lv_if_eq hx hb hd ht (fun h => kt h H locs lsA hl hS hV hI) (fun h => kf h H locs lsA hl hS hV hI)
theorem IsG.icmp_eq (hG : IsG l s0 D own nm cc nL ret tab d mc ms Ib post xp md G GX) {x y : Int32} {off : Int} {tgt : Nat} (hd : decode cc pc = .ok (.if_icmp .eq off, 3)) (ht : (pc : Int) + off = (tgt : Int)) (kt : (x = y) → G tgt ls st I L k n) (kf : ¬ (x = y) → G (pc + 3) ls st I L k n) : G pc ls (.int y :: .int x :: st) I L k n := by
  obtain ⟨p, e, s, m, args, below, meth, c, R, Q, hΓ, hx, hb, hr, hml, hown, hts, hlk, hnm, hW, htab, hF, hR, hmd, rfl, rfl⟩ := hG
  intro H locs lsA hl hS hV hI
  exact lv_icmp_eq hx hb hd ht (fun h => kt h H locs lsA hl hS hV hI) (fun h => kf h H locs lsA hl hS hV hI)
theorem IsG.if_ne (hG : IsG l s0 D own nm cc nL ret tab d mc ms Ib post xp md G GX) {x : Int32} {off : Int} {tgt : Nat} (hd : decode cc pc = .ok (.ifCond .ne off, 3)) (ht : (pc : Int) + off = (tgt : Int)) (kt : ¬ x = 0 → G tgt ls st I L k n) (kf : x = 0 → G (pc + 3) ls st I L k n) : G pc ls (.int x :: st) I L k n := by
  obtain ⟨p, e, s, m, args, below, meth, c, R, Q, hΓ, hx, hb, hr, hml, hown, hts, hlk, hnm, hW, htab, hF, hR, hmd, rfl, rfl⟩ := hG
  intro H locs lsA hl hS hV hI
  exact lv_if_ne hx hb hd ht (fun h => kt h H locs lsA hl hS hV hI) (fun h => kf h H locs lsA hl hS hV hI)
theorem IsG.icmp_ne (hG : IsG l s0 D own nm cc nL ret tab d mc ms Ib post xp md G GX) {x y : Int32} {off : Int} {tgt : Nat} (hd : decode cc pc = .ok (.if_icmp .ne off, 3)) (ht : (pc : Int) + off = (tgt : Int)) (kt : ¬ x = y → G tgt ls st I L k n) (kf : x = y → G (pc + 3) ls st I L k n) : G pc ls (.int y :: .int x :: st) I L k n := by
  obtain ⟨p, e, s, m, args, below, meth, c, R, Q, hΓ, hx, hb, hr, hml, hown, hts, hlk, hnm, hW, htab, hF, hR, hmd, rfl, rfl⟩ := hG
  intro H locs lsA hl hS hV hI
  exact lv_icmp_ne hx hb hd ht (fun h => kt h H locs lsA hl hS hV hI) (fun h => kf h H locs lsA hl hS hV hI)
theorem IsG.if_lt (hG : IsG l s0 D own nm cc nL ret tab d mc ms Ib post xp md G GX) {x : Int32} {off : Int} {tgt : Nat} (hd : decode cc pc = .ok (.ifCond .lt off, 3)) (ht : (pc : Int) + off = (tgt : Int)) (kt : (x < 0) → G tgt ls st I L k n) (kf : ¬ (x < 0) → G (pc + 3) ls st I L k n) : G pc ls (.int x :: st) I L k n := by
  obtain ⟨p, e, s, m, args, below, meth, c, R, Q, hΓ, hx, hb, hr, hml, hown, hts, hlk, hnm, hW, htab, hF, hR, hmd, rfl, rfl⟩ := hG
  intro H locs lsA hl hS hV hI
  exact lv_if_lt hx hb hd ht (fun h => kt h H locs lsA hl hS hV hI) (fun h => kf h H locs lsA hl hS hV hI)
theorem IsG.icmp_lt (hG : IsG l s0 D own nm cc nL ret tab d mc ms Ib post xp md G GX) {x y : Int32} {off : Int} {tgt : Nat} (hd : decode cc pc = .ok (.if_icmp .lt off, 3)) (ht : (pc : Int) + off = (tgt : Int)) (kt : (x < y) → G tgt ls st I L k n) (kf : ¬ (x < y) → G (pc + 3) ls st I L k n) : G pc ls (.int y :: .int x :: st) I L k n := by
  obtain ⟨p, e, s, m, args, below, meth, c, R, Q, hΓ, hx, hb, hr, hml, hown, hts, hlk, hnm, hW, htab, hF, hR, hmd, rfl, rfl⟩ := hG
  intro H locs lsA hl hS hV hI
  exact lv_icmp_lt hx hb hd ht (fun h => kt h H locs lsA hl hS hV hI) (fun h => kf h H locs lsA hl hS hV hI)
theorem IsG.if_ge (hG : IsG l s0 D own nm cc nL ret tab d mc ms Ib post xp md G GX) {x : Int32} {off : Int} {tgt : Nat} (hd : decode cc pc = .ok (.ifCond .ge off, 3)) (ht : (pc : Int) + off = (tgt : Int)) (kt : (0 ≤ x) → G tgt ls st I L k n) (kf : ¬ (0 ≤ x) → G (pc + 3) ls st I L k n) : G pc ls (.int x :: st) I L k n := by
  obtain ⟨p, e, s, m, args, below, meth, c, R, Q, hΓ, hx, hb, hr, hml, hown, hts, hlk, hnm, hW, htab, hF, hR, hmd, rfl, rfl⟩ := hG
  intro H locs lsA hl hS hV hI
  exact lv_if_ge hx hb hd ht (fun h => kt h H locs lsA hl hS hV hI) (fun h => kf h H locs lsA hl hS hV hI)
theorem IsG.icmp_ge (hG : IsG l s0 D own nm cc nL ret tab d mc ms Ib post xp md G GX) {x y : Int32} {off : Int} {tgt : Nat} (hd : decode cc pc = .ok (.if_icmp .ge off, 3)) (ht : (pc : Int) + off = (tgt : Int)) (kt : (y ≤ x) → G tgt ls st I L k n) (kf : ¬ (y ≤ x) → G (pc + 3) ls st I L k n) : G pc ls (.int y :: .int x :: st) I L k n := by
  obtain ⟨p, e, s, m, args, below, meth, c, R, Q, hΓ, hx, hb, hr, hml, hown, hts, hlk, hnm, hW, htab, hF, hR, hmd, rfl, rfl⟩ := hG
  intro H locs lsA hl hS hV hI
  exact lv_icmp_ge hx hb hd ht (fun h => kt h H locs lsA hl hS hV hI) (fun h => kf h H locs lsA hl hS hV hI)
theorem IsG.if_gt (hG : IsG l s0 D own nm cc nL ret tab d mc ms Ib post xp md G GX) {x : Int32} {off : Int} {tgt : Nat} (hd : decode cc pc = .ok (.ifCond .gt off, 3)) (ht : (pc : Int) + off = (tgt : Int)) (kt : (0 < x) → G tgt ls st I L k n) (kf : ¬ (0 < x) → G (pc + 3) ls st I L k n) : G pc ls (.int x :: st) I L k n := by
  obtain ⟨p, e, s, m, args, below, meth, c, R, Q, hΓ, hx, hb, hr, hml, hown, hts, hlk, hnm, hW, htab, hF, hR, hmd, rfl, rfl⟩ := hG
  intro H locs lsA hl hS hV hI
  exact lv_if_gt hx hb hd ht (fun h => kt h H locs lsA hl hS hV hI) (fun h => kf h H locs lsA hl hS hV hI)
theorem IsG.icmp_gt (hG : IsG l s0 D own nm cc nL ret tab d mc ms Ib post xp md G GX) {x y : Int32} {off : Int} {tgt : Nat} (hd : decode cc pc = .ok (.if_icmp .gt off, 3)) (ht : (pc : Int) + off = (tgt : Int)) (kt : (y < x) → G tgt ls st I L k n) (kf : ¬ (y < x) → G (pc + 3) ls st I L k n) : G pc ls (.int y :: .int x :: st) I L k n := by
  obtain ⟨p, e, s, m, args, below, meth, c, R, Q, hΓ, hx, hb, hr, hml, hown, hts, hlk, hnm, hW, htab, hF, hR, hmd, rfl, rfl⟩ := hG
  intro H locs lsA hl hS hV hI
  exact lv_icmp_gt hx hb hd ht (fun h => kt h H locs lsA hl hS hV hI) (fun h => kf h H locs lsA hl hS hV hI)
theorem IsG.if_le (hG : IsG l s0 D own nm cc nL ret tab d mc ms Ib post xp md G GX) {x : Int32} {off : Int} {tgt : Nat} (hd : decode cc pc = .ok (.ifCond .le off, 3)) (ht : (pc : Int) + off = (tgt : Int)) (kt : (x ≤ 0) → G tgt ls st I L k n) (kf : ¬ (x ≤ 0) → G (pc + 3) ls st I L k n) : G pc ls (.int x :: st) I L k n := by
  obtain ⟨p, e, s, m, args, below, meth, c, R, Q, hΓ, hx, hb, hr, hml, hown, hts, hlk, hnm, hW, htab, hF, hR, hmd, rfl, rfl⟩ := hG
  intro H locs lsA hl hS hV hI
  exact lv_if_le hx hb hd ht (fun h => kt h H locs lsA hl hS hV hI) (fun h => kf h H locs lsA hl hS hV hI)
theorem IsG.icmp_le (hG : IsG l s0 D own nm cc nL ret tab d mc ms Ib post xp md G GX) {x y : Int32} {off : Int} {tgt : Nat} (hd : decode cc pc = .ok (.if_icmp .le off, 3)) (ht : (pc : Int) + off = (tgt : Int)) (kt : (x ≤ y) → G tgt ls st I L k n) (kf : ¬ (x ≤ y) → G (pc + 3) ls st I L k n) : G pc ls (.int y :: .int x :: st) I L k n := by
  obtain ⟨p, e, s, m, args, below, meth, c, R, Q, hΓ, hx, hb, hr, hml, hown, hts, hlk, hnm, hW, htab, hF, hR, hmd, rfl, rfl⟩ := hG
  intro H locs lsA hl hS hV hI
  exact lv_icmp_le hx hb hd ht (fun h => kt h H locs lsA hl hS hV hI) (fun h => kf h H locs lsA hl hS hV hI)
theorem IsG.tabIn (hG : IsG l s0 D own nm cc nL ret tab d mc ms Ib post xp md G GX) {dflt lo hi : Int} {offs : Array Int} {len : Nat} {x : Int32} {off : Int} {tgt : Nat} (hd : decode cc pc = .ok (.tableswitch dflt lo hi offs, len)) (h1 : ¬ x.toInt < lo) (h2 : ¬ hi < x.toInt) (ho : offs[(x.toInt - lo).toNat]? = some off) (ht : (pc : Int) + off = (tgt : Int)) (kk : G tgt ls st I L k n) : G pc ls (.int x :: st) I L k n := by
  obtain ⟨p, e, s, m, args, below, meth, c, R, Q, hΓ, hx, hb, hr, hml, hown, hts, hlk, hnm, hW, htab, hF, hR, hmd, rfl, rfl⟩ := hG
  intro H locs lsA hl hS hV hI
  exact lv_tableIn hx hb hd h1 h2 ho ht (kk H locs lsA hl hS hV hI)
theorem IsG.tabOut (hG : IsG l s0 D own nm cc nL ret tab d mc ms Ib post xp md G GX) {dflt lo hi : Int} {offs : Array Int} {len : Nat} {x : Int32} {tgt : Nat} (hd : decode cc pc = .ok (.tableswitch dflt lo hi offs, len)) (h : x.toInt < lo ∨ hi < x.toInt) (ht : (pc : Int) + dflt = (tgt : Int)) (kk : G tgt ls st I L k n) : G pc ls (.int x :: st) I L k n := by
  obtain ⟨p, e, s, m, args, below, meth, c, R, Q, hΓ, hx, hb, hr, hml, hown, hts, hlk, hnm, hW, htab, hF, hR, hmd, rfl, rfl⟩ := hG
  intro H locs lsA hl hS hV hI
  exact lv_tableOut hx hb hd h ht (kk H locs lsA hl hS hV hI)
theorem IsG.lookup (hG : IsG l s0 D own nm cc nL ret tab d mc ms Ib post xp md G GX) {dflt : Int} {ps : Array (Int × Int)} {len : Nat} {x : Int32} {off : Int} {tgt : Nat} (hd : decode cc pc = .ok (.lookupswitch dflt ps, len)) (hp : (ps.toList.zip (ps.toList.drop 1)).all (fun (a, next) => a.1 < next.1) = true) (ho : Op.lookupswitch.offset ps.toList dflt x.toInt = off) (ht : (pc : Int) + off = (tgt : Int)) (kk : G tgt ls st I L k n) : G pc ls (.int x :: st) I L k n := by
  obtain ⟨p, e, s, m, args, below, meth, c, R, Q, hΓ, hx, hb, hr, hml, hown, hts, hlk, hnm, hW, htab, hF, hR, hmd, rfl, rfl⟩ := hG
  intro H locs lsA hl hS hV hI
  exact lv_lookup hx hb hd hp ho ht (kk H locs lsA hl hS hV hI)
/-- fewer locals -/
theorem IsG.lsb (hG : IsG l s0 D own nm cc nL ret tab d mc ms Ib post xp md G GX) (l' : List (Nat × Value)) (h : lsub ls l') (kk : G pc l' st I L k n) : G pc ls st I L k n := by
  obtain ⟨p, e, s, m, args, below, meth, c, R, Q, hΓ, hx, hb, hr, hml, hown, hts, hlk, hnm, hW, htab, hF, hR, hmd, rfl, rfl⟩ := hG
  intro H locs lsA hl hS hV hI
  exact kk H locs lsA (lsub_has hl h) hS hV hI
/-- more cells and slots counted -/
theorem IsG.wid (hG : IsG l s0 D own nm cc nL ret tab d mc ms Ib post xp md G GX) {k' n' : Nat} (h1 : k ≤ k') (h2 : n ≤ n') (kk : G pc ls st I L k' n') : G pc ls st I L k n := by
  obtain ⟨p, e, s, m, args, below, meth, c, R, Q, hΓ, hx, hb, hr, hml, hown, hts, hlk, hnm, hW, htab, hF, hR, hmd, rfl, rfl⟩ := hG
  intro H locs lsA hl hS hV hI
  exact W.widen h1 h2 (kk H locs lsA hl hS hV hI)
/-- fewer cells of the store -/
theorem IsG.sub (hG : IsG l s0 D own nm cc nL ret tab d mc ms Ib post xp md G GX) {S : AL} (hs : ∀ q x, S q = some x → L q = some x) (kk : G pc ls st I S k n) : G pc ls st I L k n := by
  obtain ⟨p, e, s, m, args, below, meth, c, R, Q, hΓ, hx, hb, hr, hml, hown, hts, hlk, hnm, hW, htab, hF, hR, hmd, rfl, rfl⟩ := hG
  intro H locs lsA hl hS hV hI
  exact kk H locs lsA hl (hS.sub hs) hV hI
/-- a raw cell is frozen -/
theorem IsG.fr (hG : IsG l s0 D own nm cc nL ret tab d mc ms Ib post xp md G GX) {a : Nat} {e1 : E1} (ha : L a = some (.inl e1)) (kk : G pc ls st (frI I a e1) (up1 L a none) k n) : G pc ls st I L k n := by
  obtain ⟨p, e, s, m, args, below, meth, c, R, Q, hΓ, hx, hb, hr, hml, hown, hts, hlk, hnm, hW, htab, hF, hR, hmd, rfl, rfl⟩ := hG
  intro H locs lsA hl hS hV hI
  exact kk H locs lsA hl (hS.fr ha) hV (ile_tr hI frI_le)
/-- a static cell -/
theorem IsG.sta (hG : IsG l s0 D own nm cc nL ret tab d mc ms Ib post xp md G GX) {q : Nat} {e1 : E1} (hq : Sta s0 D q e1) (kk : I q e1 → G pc ls st I L k n) : G pc ls st I L k n := by
  obtain ⟨p, e, s, m, args, below, meth, c, R, Q, hΓ, hx, hb, hr, hml, hown, hts, hlk, hnm, hW, htab, hF, hR, hmd, rfl, rfl⟩ := hG
  intro H locs lsA hl hS hV hI
  exact kk (hS.sta hq) H locs lsA hl hS hV hI
/-- a nest opened -/
theorem IsG.op (hG : IsG l s0 D own nm cc nL ret tab d mc ms Ib post xp md G GX) {a kd : Nat} {Φ : AI → Nat → AL → Prop} (ha : L a = some (cel kd Φ)) (kk : ∀ (J : AI) (S : AL), ile J I → Φ J a S → (∀ q x, S q = some x → q = a ∨ L q = none) → S a ≠ none → G pc ls st I (ovl L a S) k n) : G pc ls st I L k n := by
  obtain ⟨p, e, s, m, args, below, meth, c, R, Q, hΓ, hx, hb, hr, hml, hown, hts, hlk, hnm, hW, htab, hF, hR, hmd, rfl, rfl⟩ := hG
  intro H locs lsA hl hS hV hI
  obtain ⟨J, S, h1, h2, h3, h4, h5⟩ := hS.op ha
  exact kk J S h1 h2 h3 h4 H locs lsA hl h5 hV hI
/-- a nest closed -/
theorem IsG.cl (hG : IsG l s0 D own nm cc nL ret tab d mc ms Ib post xp md G GX) {a : Nat} (kd : Nat) {Φ : AI → Nat → AL → Prop} (S : AL) (hs : ∀ q x, S q = some x → L q = some x) (hSa : S a ≠ none) (hΦ : Φ I a S) (kk : G pc ls st I (clo L a S (cel kd Φ)) k n) : G pc ls st I L k n := by
  obtain ⟨p, e, s, m, args, below, meth, c, R, Q, hΓ, hx, hb, hr, hml, hown, hts, hlk, hnm, hW, htab, hF, hR, hmd, rfl, rfl⟩ := hG
  intro H locs lsA hl hS hV hI
  exact kk H locs lsA hl (hS.cl kd hs hSa hΦ) hV hI
theorem IsG.iret (hG : IsG l s0 D own nm cc nL ret tab d mc ms Ib post xp md G GX) {v : Int32} (hd : decode cc pc = .ok (.ireturn, 1)) (hrt : ret = some .int) (hp : post (some (.int v)) I L) (hk : k ≤ mc) (hn : n ≤ ms) (hm : md) : G pc ls [.int v] I L k n := by
  obtain ⟨p, e, s, m, args, below, meth, c, R, Q, hΓ, hx, hb, hr, hml, hown, hts, hlk, hnm, hW, htab, hF, hR, hmd, rfl, rfl⟩ := hG
  cases hmd hm
  intro H locs lsA hl hS hV hI
  exact W.widen hk hn (vx_ret (W.iret hx hb (hr.trans hrt) (fun t ht hW => ⟨_, I, L, rfl, hI, hp, by rw [ht]; exact hS, hV.F ht⟩) hV.2.2 hd hlk))
theorem IsG.lret (hG : IsG l s0 D own nm cc nL ret tab d mc ms Ib post xp md G GX) {v : Int64} (hd : decode cc pc = .ok (.lreturn, 1)) (hrt : ret = some .long) (hp : post (some (.long v)) I L) (hk : k ≤ mc) (hn : n ≤ ms) (hm : md) : G pc ls [.long v] I L k n := by
  obtain ⟨p, e, s, m, args, below, meth, c, R, Q, hΓ, hx, hb, hr, hml, hown, hts, hlk, hnm, hW, htab, hF, hR, hmd, rfl, rfl⟩ := hG
  cases hmd hm
  intro H locs lsA hl hS hV hI
  exact W.widen hk hn (vx_ret (W.lret hx hb (hr.trans hrt) (fun t ht hW => ⟨_, I, L, rfl, hI, hp, by rw [ht]; exact hS, hV.F ht⟩) hV.2.2 hd hlk))
theorem IsG.fret (hG : IsG l s0 D own nm cc nL ret tab d mc ms Ib post xp md G GX) {v : UInt32} (hd : decode cc pc = .ok (.freturn, 1)) (hrt : ret = some .float) (hp : post (some (.float v)) I L) (hk : k ≤ mc) (hn : n ≤ ms) (hm : md) : G pc ls [.float v] I L k n := by
  obtain ⟨p, e, s, m, args, below, meth, c, R, Q, hΓ, hx, hb, hr, hml, hown, hts, hlk, hnm, hW, htab, hF, hR, hmd, rfl, rfl⟩ := hG
  cases hmd hm
  intro H locs lsA hl hS hV hI
  exact W.widen hk hn (vx_ret (W.fret hx hb (hr.trans hrt) (fun t ht hW => ⟨_, I, L, rfl, hI, hp, by rw [ht]; exact hS, hV.F ht⟩) hV.2.2 hd hlk))
theorem IsG.dret (hG : IsG l s0 D own nm cc nL ret tab d mc ms Ib post xp md G GX) {v : UInt64} (hd : decode cc pc = .ok (.dreturn, 1)) (hrt : ret = some .double) (hp : post (some (.double v)) I L) (hk : k ≤ mc) (hn : n ≤ ms) (hm : md) : G pc ls [.double v] I L k n := by
  obtain ⟨p, e, s, m, args, below, meth, c, R, Q, hΓ, hx, hb, hr, hml, hown, hts, hlk, hnm, hW, htab, hF, hR, hmd, rfl, rfl⟩ := hG
  cases hmd hm
  intro H locs lsA hl hS hV hI
  exact W.widen hk hn (vx_ret (W.dret hx hb (hr.trans hrt) (fun t ht hW => ⟨_, I, L, rfl, hI, hp, by rw [ht]; exact hS, hV.F ht⟩) hV.2.2 hd hlk))
theorem IsG.zret (hG : IsG l s0 D own nm cc nL ret tab d mc ms Ib post xp md G GX) {v : Int32} {ty : FieldType} (hd : decode cc pc = .ok (.ireturn, 1)) (hrt : ret = some ty) (hnr : narrow ty (.int v) = .int v) (hp : post (some (.int v)) I L) (hk : k ≤ mc) (hn : n ≤ ms) (hm : md) : G pc ls [.int v] I L k n := by
  obtain ⟨p, e, s, m, args, below, meth, c, R, Q, hΓ, hx, hb, hr, hml, hown, hts, hlk, hnm, hW, htab, hF, hR, hmd, rfl, rfl⟩ := hG
  cases hmd hm
  intro H locs lsA hl hS hV hI
  exact W.widen hk hn (vx_ret (W.zret hx hb (hr.trans hrt) hnr (fun t ht hW => ⟨_, I, L, rfl, hI, hp, by rw [ht]; exact hS, hV.F ht⟩) hV.2.2 hd hlk))
theorem IsG.vret (hG : IsG l s0 D own nm cc nL ret tab d mc ms Ib post xp md G GX) (hd : decode cc pc = .ok (.return_, 1)) (hrt : ret = none) (hp : post none I L) (hk : k ≤ mc) (hn : n ≤ ms) (hm : md) : G pc ls [] I L k n := by
  obtain ⟨p, e, s, m, args, below, meth, c, R, Q, hΓ, hx, hb, hr, hml, hown, hts, hlk, hnm, hW, htab, hF, hR, hmd, rfl, rfl⟩ := hG
  cases hmd hm
  intro H locs lsA hl hS hV hI
  exact W.widen hk hn (vx_ret (W.vret hx hb (hr.trans hrt) (fun t ht hW => ⟨_, I, L, rfl, hI, hp, by rw [ht]; exact hS, hV.F ht⟩) hV.2.2 hd hlk))
theorem IsG.aret (hG : IsG l s0 D own nm cc nL ret tab d mc ms Ib post xp md G GX) {v : Value} {rt : FieldType} (hd : decode cc pc = .ok (.areturn, 1)) (hrt : ret = some rt) (hro : (∃ n, rt = .object n) ∨ ∃ t, rt = .array t) (hv : v = .null ∨ ∃ a, v = .ref a) (hp : post (some v) I L) (hk : k ≤ mc) (hn : n ≤ ms) (hm : md) : G pc ls [v] I L k n := by
  obtain ⟨p, e, s, m, args, below, meth, c, R, Q, hΓ, hx, hb, hr, hml, hown, hts, hlk, hnm, hW, htab, hF, hR, hmd, rfl, rfl⟩ := hG
  cases hmd hm
  intro H locs lsA hl hS hV hI
  exact W.widen hk hn (vx_ret (W.aret hx hb (hr.trans hrt) hro hv (fun t ht hW => ⟨_, I, L, rfl, hI, hp, by rw [ht]; exact hS, hV.F ht⟩) hV.2.2 hd hlk))
/-- thrown out of the method: no row of its table covers pc -/
theorem IsG.out (hG : IsG l s0 D own nm cc nL ret tab d mc ms Ib post xp md G GX) {E : String} {q : Nat} (hout : ∀ x ∈ tab, covers x pc = false) (hp : xp E q I L) (hk : k ≤ mc) (hn : n ≤ ms) (hm : md) : GX pc ls st E q I L k n := by
  obtain ⟨p, e, s, m, args, below, meth, c, R, Q, hΓ, hx, hb, hr, hml, hown, hts, hlk, hnm, hW, htab, hF, hR, hmd, rfl, rfl⟩ := hG
  cases hmd hm
  intro H locs lsA ce hl hS hV hI hc hv hcl
  exact vx_out (fun x hx9 => hout x (by rw [← htab]; exact hx9)) hlk hc hv hcl (fun t ht hA => ⟨I, L, hI, hp, by rw [ht]; exact hS, hV.F ht⟩) hV.2.2 hk hn
/-- athrow -/
theorem IsG.athrow (hG : IsG l s0 D own nm cc nL ret tab d mc ms Ib post xp md G GX) {E : String} {q : Nat} (hd : decode cc pc = .ok (.athrow, 1)) (hq : Rcv s0 D I L q E) (kk : GX pc ls st E q I L k n) : G pc ls (.ref q :: st) I L k n := by
  obtain ⟨p, e, s, m, args, below, meth, c, R, Q, hΓ, hx, hb, hr, hml, hown, hts, hlk, hnm, hW, htab, hF, hR, hmd, rfl, rfl⟩ := hG
  intro H locs lsA hl hS hV hI
  obtain ⟨ce, h1, h2, h3⟩ := hq H hS
  refine vx_athrow hx hb hd (kk H locs lsA ce hl hS hV hI h1 h2 ?_)
  rw [hW.alike.findClass]
  exact h3
/-- caught -/
theorem IsG.catch_ (hG : IsG l s0 D own nm cc nL ret tab d mc ms Ib post xp md G GX) {E name : String} {q : Nat} (pre : List ExceptionTableEntry) (x : ExceptionTableEntry) (suf : List ExceptionTableEntry) (hsp : tab = pre ++ x :: suf) (hpass : ∀ z ∈ pre, covers z pc = false ∨ (z.catchType ≠ 0 ∧ ∃ nm2 : String, Cond.classLink own z.catchType nm2 ∈ lw_all ∧ va_Nc E nm2 s0)) (hcov : covers x pc = true) (h0 : x.catchType ≠ 0) (hl1 : Cond.classLink own x.catchType name ∈ lw_all) (hca : Cond.castable E name ∈ lw_tbl) (kk : G x.handlerPc ls [.ref q] I L k n) : GX pc ls st E q I L k n := by
  obtain ⟨p, e, s, m, args, below, meth, c, R, Q, hΓ, hx, hb, hr, hml, hown, hts, hlk, hnm, hW, htab, hF, hR, hmd, rfl, rfl⟩ := hG
  intro H locs lsA ce hl hS hV hI hc hv hcl
  obtain ⟨⟨b0, hw⟩, -⟩ := hΓ
  refine vx_catch hown pre x suf (htab.trans hsp) (fun z hz => ?_) hcov h0 (hts _ hl1) (va_Nw.use rfl (nw_castable hw hW hca)) hc hv hcl (kk H locs lsA hl hS hV hI)
  rcases hpass z hz with h | ⟨h1, nm2, h2, a, b, h3, h4, h5⟩
  · exact Or.inl h
  · exact Or.inr ⟨h1, nm2, hts _ h2, a, b, by rw [hW.alike.findClass]; exact h3, by rw [hW.alike.findClass]; exact h4, by rw [hW.alike.assignable]; exact h5⟩
end ENG
