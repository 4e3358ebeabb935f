/-! the array written -/
abbrev RpT (b : Nat) (t : Tal) (n : Nat → Int32) : Prop := ∀ c, c < 147 → n (b + c) = tof t c
abbrev RpE (b : Nat) (cs : List T3) (n : Nat → Int32) : Prop := ∀ i c, cs[i]? = some c → n (b + 3 * i) = c.1 ∧ n (b + 3 * i + 1) = c.2.1 ∧ n (b + 3 * i + 2) = c.2.2
abbrev flE (f : T3) : T3 := (f.1, f.2.2, f.2.1)
abbrev agr (n n' : Nat → Int32) (a b : Nat) : Prop := ∀ k, a ≤ k → k < b → n' k = n k
theorem RpT.cg {b : Nat} {t : Tal} {n n' : Nat → Int32} (h : RpT b t n) (e : agr n n' b (b + 147)) : RpT b t n' := fun c hc => (e _ (by omega) (by omega)).trans (h c hc)
theorem RpE.cg {b m : Nat} {cs : List T3} {n n' : Nat → Int32} (h : RpE b cs n) (hl : cs.length ≤ m) (e : agr n n' b (b + 3 * m)) : RpE b cs n' := fun i c hc => by
  have hi := (List.getElem?_eq_some_iff.mp hc).1
  obtain ⟨x, y, z⟩ := h i c hc
  exact ⟨(e _ (by omega) (by omega)).trans x, (e _ (by omega) (by omega)).trans y, (e _ (by omega) (by omega)).trans z⟩
theorem va_ne {f : Nat → Int32} {k j : Nat} {v : Int32} (h : j ≠ k) : va_up f k v j = f j := if_neg h
theorem va_eq {f : Nat → Int32} {k j : Nat} {v : Int32} (h : j = k) : va_up f k v j = v := if_pos h
theorem agr.up {n n' : Nat → Int32} {a b k : Nat} {v : Int32} (h : agr n n' a b) (hk : k < a ∨ b ≤ k) : agr n (va_up n' k v) a b := fun j h1 h2 => (va_ne (by omega)).trans (h j h1 h2)
theorem agr.rf {n : Nat → Int32} {a b : Nat} : agr n n a b := fun _ _ _ => rfl
/-- one more at the end -/
theorem RpE.snoc {b : Nat} {cs : List T3} {n n' : Nat → Int32} {c : T3} (h : RpE b cs n) (e : agr n n' b (b + 3 * cs.length)) (e1 : n' (b + 3 * cs.length) = c.1) (e2 : n' (b + 3 * cs.length + 1) = c.2.1) (e3 : n' (b + 3 * cs.length + 2) = c.2.2) : RpE b (cs ++ [c]) n' := fun i c' hc => by
  by_cases hi : i < cs.length
  · rw [List.getElem?_append_left hi] at hc
    exact (h.cg (Nat.le_refl _) e) i c' hc
  · rw [List.getElem?_append_right (by omega)] at hc
    have h0 : i - cs.length = 0 := by
      have := (List.getElem?_eq_some_iff.mp hc).1
      simp at this
      omega
    have h1 : i = cs.length := by omega
    rw [h0] at hc
    cases hc
    subst h1
    exact ⟨e1, e2, e3⟩
/-- one set -/
theorem RpE.set {b j : Nat} {cs : List T3} {n n' : Nat → Int32} {c : T3} (h : RpE b cs n) (e : ∀ k, (k < b + 3 * j ∨ b + 3 * j + 3 ≤ k) → n' k = n k) (e1 : n' (b + 3 * j) = c.1) (e2 : n' (b + 3 * j + 1) = c.2.1) (e3 : n' (b + 3 * j + 2) = c.2.2) : RpE b (cs.set j c) n' := fun i c' hc => by
  by_cases hi : i = j
  · subst hi
    rw [List.getElem?_set] at hc
    rw [if_pos rfl] at hc
    split at hc
    · cases hc; exact ⟨e1, e2, e3⟩
    · cases hc
  · rw [List.getElem?_set_ne (Ne.symm hi)] at hc
    obtain ⟨x, y, z⟩ := h i c' hc
    exact ⟨(e _ (by omega)).trans x, (e _ (by omega)).trans y, (e _ (by omega)).trans z⟩
theorem Rep.fE {N : Nat} {R : Rv} {n : Nat → Int32} (h : Rep N R n) : RpE 31 (R.fl.map flE) n := fun i c hc => by
  rw [List.getElem?_map] at hc
  cases hf : R.fl[i]? with
  | none => rw [hf] at hc; cases hc
  | some f =>
    rw [hf] at hc
    cases hc
    exact h.l hf
theorem fE_of {fs : List T3} {n : Nat → Int32} (h : RpE 31 (fs.map flE) n) : ∀ i f, fs[i]? = some f → n (31 + 3 * i) = f.1 ∧ n (31 + 3 * i + 1) = f.2.2 ∧ n (31 + 3 * i + 2) = f.2.1 := fun i f hf => h i (flE f) (by rw [List.getElem?_map, hf]; rfl)
theorem OrdA.ag {N m : Nat} {t : Tal} {n n' : Nat → Int32} (h : OrdA N t n) (hk : TOk m t) (e : agr n n' 9 10) (e2 : agr n n' 211 358) : OrdA N t n' := h.cg (e 9 (by omega) (by omega)) (fun x hx => e2 _ (by omega) (by have := (hk.2 x hx).1; omega))
/-- all parts -/
theorem Rep.mk {N : Nat} {R : Rv} {n : Nat → Int32} (a : n 0 = nI R.ch.length ∧ n 1 = nI R.fl.length ∧ n 2 = nI R.an.length) (b : n 3 = R.hr ∧ n 4 = R.st ∧ n 5 = R.rp ∧ n 6 = R.ld ∧ n 7 = R.pd ∧ n 8 = R.cr) (c : n 10 = R.f0 ∧ n 11 = R.f1 ∧ n 12 = R.f2) (d : RpE 13 R.ch n) (e : RpE 31 (R.fl.map flE) n) (f : RpE 46 R.an n) (w : RpT 64 R.wa n) (x : RpT 358 R.fo n) (y : RpT 505 R.af n) (o : OrdA N R.wa n) : Rep N R n := ⟨a, b, c, d, fE_of e, f, w, x, y, o⟩
theorem Rep.cE {N : Nat} {R : Rv} {n : Nat → Int32} (h : Rep N R n) : RpE 13 R.ch n := h.2.2.2.1
theorem Rep.aE {N : Nat} {R : Rv} {n : Nat → Int32} (h : Rep N R n) : RpE 46 R.an n := h.2.2.2.2.2.1
theorem Rep.wT {N : Nat} {R : Rv} {n : Nat → Int32} (h : Rep N R n) : RpT 64 R.wa n := h.2.2.2.2.2.2.1
theorem Rep.foT {N : Nat} {R : Rv} {n : Nat → Int32} (h : Rep N R n) : RpT 358 R.fo n := h.2.2.2.2.2.2.2.1
theorem Rep.afT {N : Nat} {R : Rv} {n : Nat → Int32} (h : Rep N R n) : RpT 505 R.af n := h.2.2.2.2.2.2.2.2.1
theorem Rep.sc {N : Nat} {R : Rv} {n : Nat → Int32} (h : Rep N R n) : n 3 = R.hr ∧ n 4 = R.st ∧ n 5 = R.rp ∧ n 6 = R.ld ∧ n 7 = R.pd ∧ n 8 = R.cr := h.2.1
theorem Rep.fa {N : Nat} {R : Rv} {n : Nat → Int32} (h : Rep N R n) : n 10 = R.f0 ∧ n 11 = R.f1 ∧ n 12 = R.f2 := h.2.2.1
/-- a cell of the first ten places (not 9), or a fare: nothing else sees it -/
theorem Rep.lo {N M : Nat} {R : Rv} {n n' : Nat → Int32} (h : Rep N R n) (hw : Wf M R) {R' : Rv} (hR : R'.ch = R.ch ∧ R'.fl = R.fl ∧ R'.an = R.an ∧ R'.wa = R.wa ∧ R'.fo = R.fo ∧ R'.af = R.af) (h0 : agr n n' 0 3) (hs : n' 3 = R'.hr ∧ n' 4 = R'.st ∧ n' 5 = R'.rp ∧ n' 6 = R'.ld ∧ n' 7 = R'.pd ∧ n' 8 = R'.cr) (h9 : n' 9 = n 9) (hf : n' 10 = R'.f0 ∧ n' 11 = R'.f1 ∧ n' 12 = R'.f2) (hx : agr n n' 13 652) : Rep N R' n' := by
  obtain ⟨q1, q2, q3, q4, q5, q6⟩ := hR
  have w1 := hw.ch6
  have w2 := hw.fl5
  have w3 := hw.an6
  refine Rep.mk ⟨?_, ?_, ?_⟩ hs hf ?_ ?_ ?_ ?_ ?_ ?_ ?_
  · rw [q1]; exact (h0 0 (by omega) (by omega)).trans h.k0
  · rw [q2]; exact (h0 1 (by omega) (by omega)).trans h.k1
  · rw [q3]; exact (h0 2 (by omega) (by omega)).trans h.k2
  · rw [q1]; exact h.cE.cg w1 (fun k a b => hx k (by omega) (by omega))
  · rw [q2]; exact h.fE.cg (m := 5) (by rw [List.length_map]; exact w2) (fun k a b => hx k (by omega) (by omega))
  · rw [q3]; exact h.aE.cg w3 (fun k a b => hx k (by omega) (by omega))
  · rw [q4]; exact h.wT.cg (fun k a b => hx k (by omega) (by omega))
  · rw [q5]; exact h.foT.cg (fun k a b => hx k (by omega) (by omega))
  · rw [q6]; exact h.afT.cg (fun k a b => hx k (by omega) (by omega))
  · rw [q4]; exact h.or.ag hw.wa (fun k a b => by rw [show k = 9 by omega]; exact h9) (fun k a b => hx k (by omega) (by omega))
