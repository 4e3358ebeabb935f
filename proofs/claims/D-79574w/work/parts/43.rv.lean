/-! the river: a mathematical value, and its cells -/
abbrev T3 : Type := Int32 × Int32 × Int32
abbrev t3E (ci : Nat) (c : T3) : E1 := ob ci [.int c.1, .int c.2.1, .int c.2.2]
def Els (I : AI) (ci : Nat) : List Nat → List T3 → Prop
  | [], [] => True
  | x :: xs, c :: cs => I x (t3E ci c) ∧ Els I ci xs cs
  | _, _ => False
theorem Els.len {I : AI} {ci : Nat} : ∀ {xs : List Nat} {cs : List T3}, Els I ci xs cs → xs.length = cs.length
  | [], [], _ => rfl
  | x :: xs, c :: cs, h => by simp [Els.len h.2]
  | [], _ :: _, h => h.elim
  | _ :: _, [], h => h.elim
theorem Els.mono {I J : AI} {ci : Nat} (hI : ile I J) : ∀ {xs : List Nat} {cs : List T3}, Els I ci xs cs → Els J ci xs cs
  | [], [], _ => trivial
  | x :: xs, c :: cs, h => ⟨hI _ _ h.1, Els.mono hI h.2⟩
  | [], _ :: _, h => h.elim
  | _ :: _, [], h => h.elim
theorem Els.get {I : AI} {ci : Nat} : ∀ {xs : List Nat} {cs : List T3} {i : Nat} {c : T3}, Els I ci xs cs → cs[i]? = some c → ∃ x, xs[i]? = some x ∧ I x (t3E ci c)
  | [], [], i, c, _, hc => by simp at hc
  | x :: xs, c0 :: cs, 0, c, h, hc => by
    cases (Option.some.inj hc)
    exact ⟨x, rfl, h.1⟩
  | x :: xs, c0 :: cs, i + 1, c, h, hc => by
    obtain ⟨y, h1, h2⟩ := Els.get (xs := xs) (cs := cs) (i := i) (c := c) h.2 (by simpa using hc)
    exact ⟨y, by simpa using h1, h2⟩
  | [], _ :: _, _, _, h, _ => h.elim
  | _ :: _, [], _, _, h, _ => h.elim
theorem Els.mem {I : AI} {ci : Nat} : ∀ {xs : List Nat} {cs : List T3}, Els I ci xs cs → ∀ x ∈ xs, ∃ c, I x (t3E ci c)
  | [], [], _, x, hx => (nomatch hx)
  | y :: xs, c :: cs, h, x, hx => by
    rcases List.mem_cons.mp hx with e | e
    · exact ⟨c, e ▸ h.1⟩
    · exact Els.mem h.2 x e
  | [], _ :: _, h, _, _ => h.elim
  | _ :: _, [], h, _, _ => h.elim
theorem Els.app {I : AI} {ci : Nat} : ∀ {xs : List Nat} {cs : List T3} {x : Nat} {c : T3}, Els I ci xs cs → I x (t3E ci c) → Els I ci (xs ++ [x]) (cs ++ [c])
  | [], [], x, c, _, hx => ⟨hx, trivial⟩
  | y :: xs, d :: cs, x, c, h, hx => ⟨h.1, Els.app h.2 hx⟩
  | [], _ :: _, _, _, h, _ => h.elim
  | _ :: _, [], _, _, h, _ => h.elim
theorem Els.set {I : AI} {ci : Nat} : ∀ {xs : List Nat} {cs : List T3} {i x : Nat} {c : T3}, Els I ci xs cs → I x (t3E ci c) → Els I ci (xs.set i x) (cs.set i c)
  | [], [], _, x, c, _, _ => trivial
  | y :: xs, d :: cs, 0, x, c, h, hx => ⟨hx, h.2⟩
  | y :: xs, d :: cs, i + 1, x, c, h, hx => ⟨h.1, Els.set h.2 hx⟩
  | [], _ :: _, _, _, _, h, _ => h.elim
  | _ :: _, [], _, _, _, h, _ => h.elim
theorem Els.ers {I : AI} {ci : Nat} : ∀ {xs : List Nat} {cs : List T3} {i : Nat}, Els I ci xs cs → Els I ci (xs.eraseIdx i) (cs.eraseIdx i)
  | [], [], _, _ => trivial
  | y :: xs, d :: cs, 0, h => h.2
  | y :: xs, d :: cs, i + 1, h => ⟨h.1, Els.ers h.2⟩
  | [], _ :: _, _, h => h.elim
  | _ :: _, [], _, h => h.elim
theorem Els.ins {I : AI} {ci : Nat} : ∀ {xs : List Nat} {cs : List T3} {i x : Nat} {c : T3}, Els I ci xs cs → I x (t3E ci c) → i ≤ xs.length → Els I ci (xs.insertIdx i x) (cs.insertIdx i c)
  | [], [], 0, x, c, _, hx, _ => ⟨hx, trivial⟩
  | y :: xs, d :: cs, 0, x, c, h, hx, _ => ⟨hx, h⟩
  | y :: xs, d :: cs, i + 1, x, c, h, hx, hi => by
    rw [List.insertIdx_succ_cons, List.insertIdx_succ_cons]
    exact ⟨h.1, Els.ins h.2 hx (by simpa using hi)⟩
  | [], [], i + 1, _, _, _, _, hi => absurd hi (by simp)
  | [], _ :: _, _, _, _, h, _, _ => h.elim
  | _ :: _, [], _, _, _, h, _, _ => h.elim
theorem Els.of {I : AI} {ci : Nat} {xs : List Nat} {cs : List T3} (h : Els I ci xs cs) {i x : Nat} (hx : xs[i]? = some x) : ∃ c, cs[i]? = some c ∧ I x (t3E ci c) := by
  have hl := h.len
  obtain ⟨hi, -⟩ := List.getElem?_eq_some_iff.mp hx
  have hc : cs[i]? = some (cs[i]'(by omega)) := List.getElem?_eq_getElem (by omega)
  obtain ⟨y, hy, hyc⟩ := h.get hc
  rw [hx] at hy
  cases hy
  exact ⟨_, hc, hyc⟩
theorem elt_of {s0 : State} {D : va_G} {I : AI} {x ci N : Nat} {fs : List Value} {C : String} {T : u_T} (h : I x (ob ci fs)) (hc : CL[ci]? = some (C, T, N)) (hca : Cond.castable C OBJ ∈ lw_tbl) : Elt s0 D I x := ⟨C, fun M => Rcv.imm h hc, hca⟩
theorem Els.elt {s0 : State} {D : va_G} {I : AI} {ci N : Nat} {xs : List Nat} {cs : List T3} {C : String} {T : u_T} (h : Els I ci xs cs) (hc : CL[ci]? = some (C, T, N)) (hca : Cond.castable C OBJ ∈ lw_tbl) : ∀ y ∈ xs, Elt s0 D I y := fun y hy => by
  obtain ⟨c, hx⟩ := h.mem y hy
  exact elt_of hx hc hca
def Rv : Type := (List T3) × (List T3) × (List T3) × Tal × Tal × Tal × Int32 × Int32 × Int32 × Int32 × Int32 × Int32 × Int32 × Int32 × Int32
abbrev Rv.ch (R : Rv) : List T3 := R.1
abbrev Rv.fl (R : Rv) : List T3 := R.2.1
abbrev Rv.an (R : Rv) : List T3 := R.2.2.1
abbrev Rv.wa (R : Rv) : Tal := R.2.2.2.1
abbrev Rv.fo (R : Rv) : Tal := R.2.2.2.2.1
abbrev Rv.af (R : Rv) : Tal := R.2.2.2.2.2.1
abbrev Rv.f0 (R : Rv) : Int32 := R.2.2.2.2.2.2.1
abbrev Rv.f1 (R : Rv) : Int32 := R.2.2.2.2.2.2.2.1
abbrev Rv.f2 (R : Rv) : Int32 := R.2.2.2.2.2.2.2.2.1
abbrev Rv.hr (R : Rv) : Int32 := R.2.2.2.2.2.2.2.2.2.1
abbrev Rv.st (R : Rv) : Int32 := R.2.2.2.2.2.2.2.2.2.2.1
abbrev Rv.rp (R : Rv) : Int32 := R.2.2.2.2.2.2.2.2.2.2.2.1
abbrev Rv.ld (R : Rv) : Int32 := R.2.2.2.2.2.2.2.2.2.2.2.2.1
abbrev Rv.pd (R : Rv) : Int32 := R.2.2.2.2.2.2.2.2.2.2.2.2.2.1
abbrev Rv.cr (R : Rv) : Int32 := R.2.2.2.2.2.2.2.2.2.2.2.2.2.2
abbrev Rv.wCh (R : Rv) (x : List T3) : Rv := (x, R.2)
abbrev Rv.wFl (R : Rv) (x : List T3) : Rv := (R.1, x, R.2.2)
abbrev Rv.wAn (R : Rv) (x : List T3) : Rv := (R.1, R.2.1, x, R.2.2.2)
abbrev Rv.wWa (R : Rv) (x : Tal) : Rv := (R.1, R.2.1, R.2.2.1, x, R.2.2.2.2)
abbrev Rv.wFo (R : Rv) (x : Tal) : Rv := (R.1, R.2.1, R.2.2.1, R.2.2.2.1, x, R.2.2.2.2.2)
abbrev Rv.wAf (R : Rv) (x : Tal) : Rv := (R.1, R.2.1, R.2.2.1, R.2.2.2.1, R.2.2.2.2.1, x, R.2.2.2.2.2.2)
abbrev Rv.wF0 (R : Rv) (x : Int32) : Rv := (R.1, R.2.1, R.2.2.1, R.2.2.2.1, R.2.2.2.2.1, R.2.2.2.2.2.1, x, R.2.2.2.2.2.2.2)
abbrev Rv.wF1 (R : Rv) (x : Int32) : Rv := (R.1, R.2.1, R.2.2.1, R.2.2.2.1, R.2.2.2.2.1, R.2.2.2.2.2.1, R.2.2.2.2.2.2.1, x, R.2.2.2.2.2.2.2.2)
abbrev Rv.wF2 (R : Rv) (x : Int32) : Rv := (R.1, R.2.1, R.2.2.1, R.2.2.2.1, R.2.2.2.2.1, R.2.2.2.2.2.1, R.2.2.2.2.2.2.1, R.2.2.2.2.2.2.2.1, x, R.2.2.2.2.2.2.2.2.2)
abbrev Rv.wHr (R : Rv) (x : Int32) : Rv := (R.1, R.2.1, R.2.2.1, R.2.2.2.1, R.2.2.2.2.1, R.2.2.2.2.2.1, R.2.2.2.2.2.2.1, R.2.2.2.2.2.2.2.1, R.2.2.2.2.2.2.2.2.1, x, R.2.2.2.2.2.2.2.2.2.2)
abbrev Rv.wSt (R : Rv) (x : Int32) : Rv := (R.1, R.2.1, R.2.2.1, R.2.2.2.1, R.2.2.2.2.1, R.2.2.2.2.2.1, R.2.2.2.2.2.2.1, R.2.2.2.2.2.2.2.1, R.2.2.2.2.2.2.2.2.1, R.2.2.2.2.2.2.2.2.2.1, x, R.2.2.2.2.2.2.2.2.2.2.2)
abbrev Rv.wRp (R : Rv) (x : Int32) : Rv := (R.1, R.2.1, R.2.2.1, R.2.2.2.1, R.2.2.2.2.1, R.2.2.2.2.2.1, R.2.2.2.2.2.2.1, R.2.2.2.2.2.2.2.1, R.2.2.2.2.2.2.2.2.1, R.2.2.2.2.2.2.2.2.2.1, R.2.2.2.2.2.2.2.2.2.2.1, x, R.2.2.2.2.2.2.2.2.2.2.2.2)
abbrev Rv.wLd (R : Rv) (x : Int32) : Rv := (R.1, R.2.1, R.2.2.1, R.2.2.2.1, R.2.2.2.2.1, R.2.2.2.2.2.1, R.2.2.2.2.2.2.1, R.2.2.2.2.2.2.2.1, R.2.2.2.2.2.2.2.2.1, R.2.2.2.2.2.2.2.2.2.1, R.2.2.2.2.2.2.2.2.2.2.1, R.2.2.2.2.2.2.2.2.2.2.2.1, x, R.2.2.2.2.2.2.2.2.2.2.2.2.2)
abbrev Rv.wPd (R : Rv) (x : Int32) : Rv := (R.1, R.2.1, R.2.2.1, R.2.2.2.1, R.2.2.2.2.1, R.2.2.2.2.2.1, R.2.2.2.2.2.2.1, R.2.2.2.2.2.2.2.1, R.2.2.2.2.2.2.2.2.1, R.2.2.2.2.2.2.2.2.2.1, R.2.2.2.2.2.2.2.2.2.2.1, R.2.2.2.2.2.2.2.2.2.2.2.1, R.2.2.2.2.2.2.2.2.2.2.2.2.1, x, R.2.2.2.2.2.2.2.2.2.2.2.2.2.2)
abbrev Rv.wCr (R : Rv) (x : Int32) : Rv := (R.1, R.2.1, R.2.2.1, R.2.2.2.1, R.2.2.2.2.1, R.2.2.2.2.2.1, R.2.2.2.2.2.2.1, R.2.2.2.2.2.2.2.1, R.2.2.2.2.2.2.2.2.1, R.2.2.2.2.2.2.2.2.2.1, R.2.2.2.2.2.2.2.2.2.2.1, R.2.2.2.2.2.2.2.2.2.2.2.1, R.2.2.2.2.2.2.2.2.2.2.2.2.1, R.2.2.2.2.2.2.2.2.2.2.2.2.2.1, x)
def RA : Type := Nat × Nat × Nat × Nat × Nat × Nat × Nat × Int32 × Int32 × Int32 × (List Nat) × (List Nat) × (List Nat) × (Nat → Int32)
abbrev RA.a0 (R : RA) : Nat := R.1
abbrev RA.a1 (R : RA) : Nat := R.2.1
abbrev RA.a2 (R : RA) : Nat := R.2.2.1
abbrev RA.a3 (R : RA) : Nat := R.2.2.2.1
abbrev RA.a4 (R : RA) : Nat := R.2.2.2.2.1
abbrev RA.a5 (R : RA) : Nat := R.2.2.2.2.2.1
abbrev RA.a6 (R : RA) : Nat := R.2.2.2.2.2.2.1
abbrev RA.m0 (R : RA) : Int32 := R.2.2.2.2.2.2.2.1
abbrev RA.m1 (R : RA) : Int32 := R.2.2.2.2.2.2.2.2.1
abbrev RA.m2 (R : RA) : Int32 := R.2.2.2.2.2.2.2.2.2.1
abbrev RA.xs (R : RA) : List Nat := R.2.2.2.2.2.2.2.2.2.2.1
abbrev RA.ys (R : RA) : List Nat := R.2.2.2.2.2.2.2.2.2.2.2.1
abbrev RA.zs (R : RA) : List Nat := R.2.2.2.2.2.2.2.2.2.2.2.2.1
abbrev RA.g (R : RA) : Nat → Int32 := R.2.2.2.2.2.2.2.2.2.2.2.2.2
abbrev RA.wA0 (R : RA) (x : Nat) : RA := (x, R.2)
abbrev RA.wA1 (R : RA) (x : Nat) : RA := (R.1, x, R.2.2)
abbrev RA.wA2 (R : RA) (x : Nat) : RA := (R.1, R.2.1, x, R.2.2.2)
abbrev RA.wA3 (R : RA) (x : Nat) : RA := (R.1, R.2.1, R.2.2.1, x, R.2.2.2.2)
abbrev RA.wA4 (R : RA) (x : Nat) : RA := (R.1, R.2.1, R.2.2.1, R.2.2.2.1, x, R.2.2.2.2.2)
abbrev RA.wA5 (R : RA) (x : Nat) : RA := (R.1, R.2.1, R.2.2.1, R.2.2.2.1, R.2.2.2.2.1, x, R.2.2.2.2.2.2)
abbrev RA.wA6 (R : RA) (x : Nat) : RA := (R.1, R.2.1, R.2.2.1, R.2.2.2.1, R.2.2.2.2.1, R.2.2.2.2.2.1, x, R.2.2.2.2.2.2.2)
abbrev RA.wM0 (R : RA) (x : Int32) : RA := (R.1, R.2.1, R.2.2.1, R.2.2.2.1, R.2.2.2.2.1, R.2.2.2.2.2.1, R.2.2.2.2.2.2.1, x, R.2.2.2.2.2.2.2.2)
abbrev RA.wM1 (R : RA) (x : Int32) : RA := (R.1, R.2.1, R.2.2.1, R.2.2.2.1, R.2.2.2.2.1, R.2.2.2.2.2.1, R.2.2.2.2.2.2.1, R.2.2.2.2.2.2.2.1, x, R.2.2.2.2.2.2.2.2.2)
abbrev RA.wM2 (R : RA) (x : Int32) : RA := (R.1, R.2.1, R.2.2.1, R.2.2.2.1, R.2.2.2.2.1, R.2.2.2.2.2.1, R.2.2.2.2.2.2.1, R.2.2.2.2.2.2.2.1, R.2.2.2.2.2.2.2.2.1, x, R.2.2.2.2.2.2.2.2.2.2)
abbrev RA.wXs (R : RA) (x : List Nat) : RA := (R.1, R.2.1, R.2.2.1, R.2.2.2.1, R.2.2.2.2.1, R.2.2.2.2.2.1, R.2.2.2.2.2.2.1, R.2.2.2.2.2.2.2.1, R.2.2.2.2.2.2.2.2.1, R.2.2.2.2.2.2.2.2.2.1, x, R.2.2.2.2.2.2.2.2.2.2.2)
abbrev RA.wYs (R : RA) (x : List Nat) : RA := (R.1, R.2.1, R.2.2.1, R.2.2.2.1, R.2.2.2.2.1, R.2.2.2.2.2.1, R.2.2.2.2.2.2.1, R.2.2.2.2.2.2.2.1, R.2.2.2.2.2.2.2.2.1, R.2.2.2.2.2.2.2.2.2.1, R.2.2.2.2.2.2.2.2.2.2.1, x, R.2.2.2.2.2.2.2.2.2.2.2.2)
abbrev RA.wZs (R : RA) (x : List Nat) : RA := (R.1, R.2.1, R.2.2.1, R.2.2.2.1, R.2.2.2.2.1, R.2.2.2.2.2.1, R.2.2.2.2.2.2.1, R.2.2.2.2.2.2.2.1, R.2.2.2.2.2.2.2.2.1, R.2.2.2.2.2.2.2.2.2.1, R.2.2.2.2.2.2.2.2.2.2.1, R.2.2.2.2.2.2.2.2.2.2.2.1, x, R.2.2.2.2.2.2.2.2.2.2.2.2.2)
abbrev RA.wG (R : RA) (x : Nat → Int32) : RA := (R.1, R.2.1, R.2.2.1, R.2.2.2.1, R.2.2.2.2.1, R.2.2.2.2.2.1, R.2.2.2.2.2.2.1, R.2.2.2.2.2.2.2.1, R.2.2.2.2.2.2.2.2.1, R.2.2.2.2.2.2.2.2.2.1, R.2.2.2.2.2.2.2.2.2.2.1, R.2.2.2.2.2.2.2.2.2.2.2.1, R.2.2.2.2.2.2.2.2.2.2.2.2.1, x)
abbrev rvF (R : Rv) (A : RA) : List Value := [.ref A.a0, .ref A.a1, .ref A.a2, .ref A.a3, .ref A.a4, .ref A.a5, .ref A.a6, .int R.hr, .int R.st, .int R.rp, .int R.ld, .int R.pd, .int R.cr]
abbrev RN (r : Nat) (A : RA) : List Nat := [r, A.a0, A.a1, A.a2, A.a3, A.a4, A.a5, A.a6]
def RvO (dE : Nat) (I : AI) (S : AL) (r : Nat) (R : Rv) (A : RA) : Prop :=
  (S r = some (obC ciX2 (rvF R A))) ∧ (S A.a0 = some (liC dE A.m0 A.xs)) ∧ (S A.a1 = some (liC dE A.m1 A.ys)) ∧ (S A.a2 = some (liC dE A.m2 A.zs)) ∧ (S A.a3 = some (taC R.wa)) ∧ (S A.a4 = some (taC R.fo)) ∧ (S A.a5 = some (taC R.af)) ∧ (S A.a6 = some (.inl (arI 3 A.g))) ∧ (A.g 0 = R.f0) ∧ (A.g 1 = R.f1) ∧ (A.g 2 = R.f2) ∧ (Els I ciX6 A.xs R.ch) ∧ (Els I ciX11 A.ys R.fl) ∧ (Els I ciX8 A.zs R.an) ∧ (A.a0 ≠ A.a1) ∧ (A.a0 ≠ A.a2) ∧ (A.a1 ≠ A.a2) ∧ (A.a3 ≠ A.a4) ∧ (A.a3 ≠ A.a5) ∧ (A.a4 ≠ A.a5)
theorem RvO.h {dE : Nat} {I : AI} {S : AL} {r : Nat} {R : Rv} {A : RA} (h : RvO dE I S r R A) : S r = some (obC ciX2 (rvF R A)) := h.1
theorem RvO.h0 {dE : Nat} {I : AI} {S : AL} {r : Nat} {R : Rv} {A : RA} (h : RvO dE I S r R A) : S A.a0 = some (liC dE A.m0 A.xs) := h.2.1
theorem RvO.h1 {dE : Nat} {I : AI} {S : AL} {r : Nat} {R : Rv} {A : RA} (h : RvO dE I S r R A) : S A.a1 = some (liC dE A.m1 A.ys) := h.2.2.1
theorem RvO.h2 {dE : Nat} {I : AI} {S : AL} {r : Nat} {R : Rv} {A : RA} (h : RvO dE I S r R A) : S A.a2 = some (liC dE A.m2 A.zs) := h.2.2.2.1
theorem RvO.h3 {dE : Nat} {I : AI} {S : AL} {r : Nat} {R : Rv} {A : RA} (h : RvO dE I S r R A) : S A.a3 = some (taC R.wa) := h.2.2.2.2.1
theorem RvO.h4 {dE : Nat} {I : AI} {S : AL} {r : Nat} {R : Rv} {A : RA} (h : RvO dE I S r R A) : S A.a4 = some (taC R.fo) := h.2.2.2.2.2.1
theorem RvO.h5 {dE : Nat} {I : AI} {S : AL} {r : Nat} {R : Rv} {A : RA} (h : RvO dE I S r R A) : S A.a5 = some (taC R.af) := h.2.2.2.2.2.2.1
theorem RvO.h6 {dE : Nat} {I : AI} {S : AL} {r : Nat} {R : Rv} {A : RA} (h : RvO dE I S r R A) : S A.a6 = some (.inl (arI 3 A.g)) := h.2.2.2.2.2.2.2.1
theorem RvO.g0 {dE : Nat} {I : AI} {S : AL} {r : Nat} {R : Rv} {A : RA} (h : RvO dE I S r R A) : A.g 0 = R.f0 := h.2.2.2.2.2.2.2.2.1
theorem RvO.g1 {dE : Nat} {I : AI} {S : AL} {r : Nat} {R : Rv} {A : RA} (h : RvO dE I S r R A) : A.g 1 = R.f1 := h.2.2.2.2.2.2.2.2.2.1
theorem RvO.g2 {dE : Nat} {I : AI} {S : AL} {r : Nat} {R : Rv} {A : RA} (h : RvO dE I S r R A) : A.g 2 = R.f2 := h.2.2.2.2.2.2.2.2.2.2.1
theorem RvO.e0 {dE : Nat} {I : AI} {S : AL} {r : Nat} {R : Rv} {A : RA} (h : RvO dE I S r R A) : Els I ciX6 A.xs R.ch := h.2.2.2.2.2.2.2.2.2.2.2.1
theorem RvO.e1 {dE : Nat} {I : AI} {S : AL} {r : Nat} {R : Rv} {A : RA} (h : RvO dE I S r R A) : Els I ciX11 A.ys R.fl := h.2.2.2.2.2.2.2.2.2.2.2.2.1
theorem RvO.e2 {dE : Nat} {I : AI} {S : AL} {r : Nat} {R : Rv} {A : RA} (h : RvO dE I S r R A) : Els I ciX8 A.zs R.an := h.2.2.2.2.2.2.2.2.2.2.2.2.2.1
theorem RvO.n01 {dE : Nat} {I : AI} {S : AL} {r : Nat} {R : Rv} {A : RA} (h : RvO dE I S r R A) : A.a0 ≠ A.a1 := h.2.2.2.2.2.2.2.2.2.2.2.2.2.2.1
theorem RvO.n02 {dE : Nat} {I : AI} {S : AL} {r : Nat} {R : Rv} {A : RA} (h : RvO dE I S r R A) : A.a0 ≠ A.a2 := h.2.2.2.2.2.2.2.2.2.2.2.2.2.2.2.1
theorem RvO.n12 {dE : Nat} {I : AI} {S : AL} {r : Nat} {R : Rv} {A : RA} (h : RvO dE I S r R A) : A.a1 ≠ A.a2 := h.2.2.2.2.2.2.2.2.2.2.2.2.2.2.2.2.1
theorem RvO.n34 {dE : Nat} {I : AI} {S : AL} {r : Nat} {R : Rv} {A : RA} (h : RvO dE I S r R A) : A.a3 ≠ A.a4 := h.2.2.2.2.2.2.2.2.2.2.2.2.2.2.2.2.2.1
theorem RvO.n35 {dE : Nat} {I : AI} {S : AL} {r : Nat} {R : Rv} {A : RA} (h : RvO dE I S r R A) : A.a3 ≠ A.a5 := h.2.2.2.2.2.2.2.2.2.2.2.2.2.2.2.2.2.2.1
theorem RvO.n45 {dE : Nat} {I : AI} {S : AL} {r : Nat} {R : Rv} {A : RA} (h : RvO dE I S r R A) : A.a4 ≠ A.a5 := h.2.2.2.2.2.2.2.2.2.2.2.2.2.2.2.2.2.2.2
abbrev rvC (dE : Nat) (R : Rv) : Cel := cel 6 (fun J r S => ∃ A : RA, RvO dE J S r R A)
theorem RvO.mono {dE : Nat} {I J : AI} {S S' : AL} {r : Nat} {R : Rv} {A : RA} (h : RvO dE I S r R A) (hI : ile I J) (hS : ∀ q ∈ RN r A, ∀ x, S q = some x → S' q = some x) : RvO dE J S' r R A :=
  ⟨hS _ (by simp) _ h.h, hS _ (by simp) _ h.h0, hS _ (by simp) _ h.h1, hS _ (by simp) _ h.h2, hS _ (by simp) _ h.h3, hS _ (by simp) _ h.h4, hS _ (by simp) _ h.h5, hS _ (by simp) _ h.h6, h.g0, h.g1, h.g2, h.e0.mono hI, h.e1.mono hI, h.e2.mono hI, h.n01, h.n02, h.n12, h.n34, h.n35, h.n45⟩
theorem RvO.dom {dE : Nat} {I : AI} {S : AL} {r : Nat} {R : Rv} {A : RA} (h : RvO dE I S r R A) : ∀ q ∈ RN r A, S q ≠ none := by
  intro q hq
  simp only [RN, List.mem_cons, List.not_mem_nil, or_false] at hq
  rcases hq with e | e | e | e | e | e | e | e
  · rw [e, h.h]; exact (fun h => nomatch h)
  · rw [e, h.h0]; exact (fun h => nomatch h)
  · rw [e, h.h1]; exact (fun h => nomatch h)
  · rw [e, h.h2]; exact (fun h => nomatch h)
  · rw [e, h.h3]; exact (fun h => nomatch h)
  · rw [e, h.h4]; exact (fun h => nomatch h)
  · rw [e, h.h5]; exact (fun h => nomatch h)
  · rw [e, h.h6]; exact (fun h => nomatch h)
section RV
variable {l : Launch} {s0 : State} {D : va_G} {own nm : String} {cc : ByteArray} {nL : Nat} {ret : Option FieldType} {tab : List ExceptionTableEntry} {d mc ms : Nat} {Ib : AI} {post : Option Value → AI → AL → Prop} {xp : String → Nat → AI → AL → Prop} {md : Prop} {G : Gt} {GX : GXt}
variable {pc : Nat} {ls : List (Nat × Value)} {st : List Value} {I : AI} {L : AL} {k n : Nat}
theorem IsG.opR (hG : IsG l s0 D own nm cc nL ret tab d mc ms Ib post xp md G GX) {dE r : Nat} {R : Rv} (h0 : L r = some (rvC dE R)) (kk : ∀ (A : RA) (M : AL), RvO dE I M r R A → Frm L r (RN r A) M → G pc ls st I M k n) : G pc ls st I L k n := by
  refine hG.opn h0 (fun J S M hJ hΦ h1 h2 => ?_)
  obtain ⟨A, h⟩ := hΦ
  exact kk A M (h.mono hJ (fun q _ x hx => h1 q x hx)) (frm_of _ (fun q hq _ => h.dom q hq) h2)
theorem IsG.clR (hG : IsG l s0 D own nm cc nL ret tab d mc ms Ib post xp md G GX) {dE r : Nat} {R : Rv} {A : RA} {M : AL} (L : AL) (h : RvO dE I M r R A) (hf : Frm L r (RN r A) M) (kk : G pc ls st I (up1 L r (some (rvC dE R))) k n) : G pc ls st I M k n :=
  hG.clz 6 L _ hf (by simp) (h.dom r (by simp)) ⟨A, h.mono ile_rf (fun q hq x hx => rst_at hq hx)⟩ kk
theorem IsG.clRs (hG : IsG l s0 D own nm cc nL ret tab d mc ms Ib post xp md G GX) {dE r : Nat} {R : Rv} {A : RA} {M : AL} (L : AL) (h0 : L r = some (rvC dE R)) (h : RvO dE I M r R A) (hf : Frm L r (RN r A) M) (kk : G pc ls st I L k n) : G pc ls st I M k n :=
  hG.clR L h hf (by rw [← h0, up1_self]; exact kk)
end RV
theorem Rcv.rv {s0 : State} {D : va_G} {I : AI} {L : AL} {dE r : Nat} {R : Rv} (h : L r = some (rvC dE R)) : Rcv s0 D I L r "BraidedFerry$River" := by
  intro H hS
  obtain ⟨J, S, h1, ⟨_, h2⟩, h3, h4, h5⟩ := hS.op h
  exact Rcv.raw (ovl_in h2.h) cl_X2 H h5
