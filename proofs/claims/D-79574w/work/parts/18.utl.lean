/-! small words for contracts; a nest opened and closed with an exact frame -/
def b2i (b : Bool) : Int32 := if b then 1 else 0
theorem b2i_t : b2i true = 1 := rfl
theorem b2i_f : b2i false = 0 := rfl
theorem b2i_01 (b : Bool) : b2i b = 0 ∨ b2i b = 1 := by cases b <;> simp [b2i]
theorem b2i_nar (b : Bool) : narrow .boolean (.int (b2i b)) = .int (b2i b) := by cases b <;> rfl
theorem b2i_fit (b : Bool) : fits .boolean (.int (b2i b)) = true := by cases b <;> rfl
theorem b2i_eq0 {b : Bool} : b2i b = 0 ↔ b = false := by cases b <;> simp [b2i]
/-- a pure answer -/
abbrev pV (v : Value) (I : AI) (L : AL) : Option Value → AI → AL → Prop := fun r I' L' => r = some v ∧ I = I' ∧ L = L'
abbrev p0 (I : AI) (L : AL) : Option Value → AI → AL → Prop := fun r I' L' => r = none ∧ I = I' ∧ L = L'
/-- nothing answered, one cell set -/
abbrev pU (I : AI) (L : AL) (a : Nat) (c : Cel) : Option Value → AI → AL → Prop := fun r I' L' => r = none ∧ I = I' ∧ L' = up1 L a (some c)
abbrev pVU (v : Value) (I : AI) (L : AL) (a : Nat) (c : Cel) : Option Value → AI → AL → Prop := fun r I' L' => r = some v ∧ I = I' ∧ L' = up1 L a (some c)
abbrev ob (ci : Nat) (fs : List Value) : E1 := .inr (ci, fs)
abbrev obC (ci : Nat) (fs : List Value) : Cel := .inl (.inr (ci, fs))
abbrev arI (n : Nat) (f : Nat → Int32) : E1 := .inl (.int, (n, .inl f))
abbrev arB (n : Nat) (f : Nat → Int32) : E1 := .inl (.byte, (n, .inl f))
abbrev arQ (E : String) (n : Nat) (f : Nat → Option Nat) : E1 := .inl (.object E, (n, .inr (.inr (.inr (.inr f)))))
theorem ne_val {L : AL} {a b : Nat} {x y : Cel} (h1 : L a = some x) (h2 : L b = some y) (h : x ≠ y) : a ≠ b := by
  intro e
  subst e
  rw [h1] at h2
  exact h (Option.some.inj h2)
theorem ne_none {L : AL} {a b : Nat} {x : Cel} (h1 : L a = some x) (h2 : L b = none) : a ≠ b := by
  intro e
  subst e
  rw [h1] at h2
  cases h2
/-- other class -/
theorem ne_cls {c1 c2 : Nat} {f1 f2 : List Value} (h : c1 ≠ c2) : obC c1 f1 ≠ obC c2 f2 := fun e => h (by have := Sum.inl.inj e; have := Sum.inr.inj this; exact (Prod.mk.inj this).1)
theorem ne_kind {k1 k2 : Nat} {p1 p2 : Prd} (h : k1 ≠ k2) : (Sum.inr (k1, p1) : Cel) ≠ .inr (k2, p2) := fun e => h (by have := Sum.inr.inj e; exact (Prod.mk.inj this).1)
theorem ne_rk {e1 : E1} {k2 : Nat} {p2 : Prd} : (Sum.inl e1 : Cel) ≠ .inr (k2, p2) := fun e => by cases e
theorem ne_kr {e1 : E1} {k2 : Nat} {p2 : Prd} : (Sum.inr (k2, p2) : Cel) ≠ .inl e1 := fun e => by cases e
/-- M is L with the nest at a opened to the nodes N -/
def Frm (L : AL) (a : Nat) (N : List Nat) (M : AL) : Prop := ∀ q x, L q = some x → q ≠ a → q ∉ N ∧ M q = some x
theorem Frm.up {L : AL} {a : Nat} {N : List Nat} {M : AL} (h : Frm L a N M) {b : Nat} (hb : b ∈ N) (c : Option Cel) : Frm L a N (up1 M b c) := fun q x hq hqa => by
  obtain ⟨h1, h2⟩ := h q x hq hqa
  have hqb : q ≠ b := fun e => by subst e; exact h1 hb
  exact ⟨h1, by rw [up1_n hqb]; exact h2⟩
theorem Frm.new {L : AL} {a : Nat} {N : List Nat} {M : AL} (h : Frm L a N M) {b : Nat} (hb : M b = none) (c : Option Cel) : Frm L a (b :: N) (up1 M b c) := fun q x hq hqa => by
  obtain ⟨h1, h2⟩ := h q x hq hqa
  have hqb : q ≠ b := fun e => by subst e; rw [hb] at h2; cases h2
  exact ⟨fun hm => by rcases List.mem_cons.mp hm with e | e; exact hqb e; exact h1 e, by rw [up1_n hqb]; exact h2⟩
theorem Frm.wk {L : AL} {a : Nat} {N N' : List Nat} {M : AL} (h : Frm L a N M) (hs : ∀ q ∈ N', q ∈ N) : Frm L a N' M := fun q x hq hqa => ⟨fun hm => (h q x hq hqa).1 (hs q hm), (h q x hq hqa).2⟩
/-- M's part on N -/
def rst (M : AL) (N : List Nat) : AL := fun q => if q ∈ N then M q else none
theorem rst_in {M : AL} {N : List Nat} {q : Nat} (h : q ∈ N) : rst M N q = M q := if_pos h
theorem rst_at {M : AL} {N : List Nat} {q : Nat} {x : Cel} (h : q ∈ N) (hx : M q = some x) : rst M N q = some x := (if_pos h).trans hx
section UTL
variable {l : Launch} {s0 : State} {D : va_G} {own nm : String} {cc : ByteArray} {nL : Nat} {ret : Option FieldType} {tab : List ExceptionTableEntry} {d mc ms : Nat} {Ib : AI} {post : Option Value → AI → AL → Prop} {xp : String → Nat → AI → AL → Prop} {md : Prop} {G : Gt} {GX : GXt}
variable {pc : Nat} {ls : List (Nat × Value)} {st : List Value} {I : AI} {L : AL} {k n : Nat}
/-- a nest opened: its cells S are in M, the others stand in M as before -/
theorem IsG.opn (hG : IsG l s0 D own nm cc nL ret tab d mc ms Ib post xp md G GX) {a kd : Nat} {Φ : AI → Nat → AL → Prop} (ha : L a = some (cel kd Φ)) (kk : ∀ (J : AI) (S M : AL), ile J I → Φ J a S → (∀ q x, S q = some x → M q = some x) → (∀ q x, L q = some x → q ≠ a → S q = none ∧ M q = some x) → G pc ls st I M k n) : G pc ls st I L k n := by
  refine hG.op ha (fun J S h1 h2 h3 h4 => kk J S _ h1 h2 (fun q x h => ovl_in h) (fun q x hq hqa => ?_))
  have hS : S q = none := by
    cases hx : S q with
    | none => rfl
    | some y =>
      rcases h3 q y hx with e | e
      · exact absurd e hqa
      · rw [e] at hq; cases hq
  exact ⟨hS, by rw [ovl_out hS hqa]; exact hq⟩
/-- the nodes N closed to one cell at a; all else as in L -/
theorem IsG.clz (hG : IsG l s0 D own nm cc nL ret tab d mc ms Ib post xp md G GX) {a : Nat} (kd : Nat) {Φ : AI → Nat → AL → Prop} {M : AL} (L : AL) (N : List Nat) (hfr : Frm L a N M) (haN : a ∈ N) (hMa : M a ≠ none) (hΦ : Φ I a (rst M N)) (kk : G pc ls st I (up1 L a (some (cel kd Φ))) k n) : G pc ls st I M k n := by
  refine hG.cl kd (rst M N) (fun q x hq => ?_) (by rw [rst_in haN]; exact hMa) hΦ (hG.sub (fun q x hq => ?_) kk)
  · unfold rst at hq
    split at hq
    · exact hq
    · cases hq
  · by_cases hqa : q = a
    · subst hqa
      rw [up1_s] at hq
      cases hq
      exact clo_s
    · rw [up1_n hqa] at hq
      obtain ⟨h1, h2⟩ := hfr q x hq hqa
      rw [clo_out (if_neg h1) hqa]
      exact h2
/-- what a closed cell says, seen without opening it -/
theorem IsG.peek (hG : IsG l s0 D own nm cc nL ret tab d mc ms Ib post xp md G GX) {a kd : Nat} {Φ : AI → Nat → AL → Prop} (ha : L a = some (cel kd Φ)) (kk : ∀ (J : AI) (S : AL), ile J I → Φ J a S → G pc ls st I L k n) : G pc ls st I L k n := by
  obtain ⟨p, e, s, m, args, below, meth, c, R, Q, hΓ, hx, hb, hr, hml, hown, hts, hlk, hnm, hW, htab, hF, hR, hmd, rfl, rfl⟩ := hG
  intro H locs lsA hl hS hV hI
  obtain ⟨J, S, h1, h2, -⟩ := hS.op ha
  exact kk J S h1 h2 H locs lsA hl hS hV hI
end UTL
theorem frm_of {L S M : AL} {a : Nat} (N : List Nat) (hN : ∀ q ∈ N, q ≠ a → S q ≠ none) (h : ∀ q x, L q = some x → q ≠ a → S q = none ∧ M q = some x) : Frm L a N M := fun q x hq hqa => ⟨fun hm => hN q hm hqa (h q x hq hqa).1, (h q x hq hqa).2⟩
theorem Rcv.raw {s0 : State} {D : va_G} {I : AI} {L : AL} {a ci N : Nat} {fs : List Value} {C : String} {T : u_T} (h : L a = some (obC ci fs)) (hc : CL[ci]? = some (C, T, N)) : Rcv s0 D I L a C := Rd.rcv (Or.inl h) hc
theorem Rcv.imm {s0 : State} {D : va_G} {I : AI} {L : AL} {a ci N : Nat} {fs : List Value} {C : String} {T : u_T} (h : I a (ob ci fs)) (hc : CL[ci]? = some (C, T, N)) : Rcv s0 D I L a C := Rd.rcv (Or.inr h) hc
