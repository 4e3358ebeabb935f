/-! the model's read: plain -/
theorem Mr.txm {N : Nat} {F : Fy} {V : MV} {t : List Nat} (h : Mr N F V) (ht : F.ip = t.map nI) (h60 : t.length ≤ 60) (hc : ∀ c ∈ t, c < 65536) : TxM V t := by
  refine ⟨by rw [h.2.2.2.1, ht, List.length_map], fun i c hi => h.2.2.2.2.1 i (nI c) (by rw [ht, List.getElem?_map, hi]; rfl), h60, hc⟩
theorem bd_i {α β : Type} {x : PR α} {F : α → Nat → PR β} {v : β} {q : Nat} (h : bd x F = .inr (v, q)) : ∃ w z, x = .inr (w, z) ∧ F w z = .inr (v, q) := by
  cases x with
  | inl z => cases h
  | inr y => exact ⟨y.1, y.2, rfl, h⟩
theorem dg_9 {t : List Nat} {p v q : Nat} (h : dgF t p = .inr (v, q)) : v < 10 := by
  obtain ⟨c, z, h1, h2⟩ := bd_i h
  obtain ⟨-, -, h3, h4, -⟩ := tk_i h1
  cases h2
  omega
theorem bk_9 {t : List Nat} {p v q : Nat} (h : bkF t (dgF t) p = .inr (v, q)) : v < 10 := by
  obtain ⟨c, z, -, h2⟩ := bd_i h
  exact dg_9 h2
/-- a command's number and its last digit -/
theorem cm_bd {t : List Nat} {p q : Nat} {cm : Cm} (h : cmdF t p = .inr (cm, q)) : cm.1 ≤ 6 ∧ cm.2.2.2.2 < 1000 := by
  obtain ⟨w, z, -, h2⟩ := bd_i h
  unfold c1F at h2
  split at h2
  · obtain ⟨a, b, -, e⟩ := bd_i h2
    cases e
    exact ⟨(by decide : (0 : Nat) ≤ 6), (by decide : (0 : Nat) < 1000)⟩
  · split at h2
    · obtain ⟨a, b, -, e⟩ := bd_i h2
      cases e
      exact ⟨(by decide : (1 : Nat) ≤ 6), (by decide : (0 : Nat) < 1000)⟩
    · split at h2
      · cases h2
        exact ⟨(by decide : (2 : Nat) ≤ 6), (by decide : (0 : Nat) < 1000)⟩
      · split at h2
        · obtain ⟨k, b, -, e⟩ := bd_i h2
          obtain ⟨f, b, -, e⟩ := bd_i e
          obtain ⟨g, b, -, e⟩ := bd_i e
          obtain ⟨n, b, e1, e⟩ := bd_i e
          cases e
          refine ⟨(by decide : (3 : Nat) ≤ 6), ?_⟩
          obtain ⟨x, y, -, e2⟩ := bd_i e1
          exact Nat.lt_of_lt_of_le (nm_i (m := 2) e2) (by decide)
        · split at h2
          · obtain ⟨k, b, -, e⟩ := bd_i h2
            obtain ⟨f, b, -, e⟩ := bd_i e
            obtain ⟨g, b, -, e⟩ := bd_i e
            obtain ⟨n, b, e1, e⟩ := bd_i e
            cases e
            exact ⟨(by decide : (4 : Nat) ≤ 6), Nat.lt_of_lt_of_le (bk_9 e1) (by decide)⟩
          · split at h2
            · obtain ⟨k, b, -, e⟩ := bd_i h2
              obtain ⟨f, b, -, e⟩ := bd_i e
              cases e
              exact ⟨(by decide : (5 : Nat) ≤ 6), (by decide : (0 : Nat) < 1000)⟩
            · obtain ⟨k, b, -, e⟩ := bd_i h2
              cases e
              exact ⟨(by decide : (6 : Nat) ≤ 6), (by decide : (0 : Nat) < 1000)⟩
/-- a text that holds these commands, from a place on -/
def PrL (t : List Nat) : Nat → List Cm → Prop
  | _, [] => False
  | q, c :: cs => ∃ z, cmdF t q = .inr (c, z) ∧ z ≤ t.length ∧ ((z = t.length ∧ cs = []) ∨ (t[z]? = some 59 ∧ PrL t (z + 1) cs))
/-- what may follow a command that ends at a place -/
def PrR (t : List Nat) (z : Nat) (cs : List Cm) : Prop := (z = t.length ∧ cs = []) ∨ (t[z]? = some 59 ∧ PrL t (z + 1) cs)
theorem PrR.cons {t : List Nat} {q z : Nat} {c : Cm} {cs : List Cm} (h : cmdF t q = .inr (c, z)) (hz : z ≤ t.length) (hr : PrR t z cs) : PrL t q (c :: cs) := ⟨z, h, hz, hr⟩
theorem PrR.semi {t : List Nat} {q z : Nat} {c : Cm} {cs : List Cm} (hs : t[q]? = some 59) (h : cmdF t (q + 1) = .inr (c, z)) (hz : z ≤ t.length) (hr : PrR t z cs) : PrR t q (c :: cs) := Or.inr ⟨hs, z, h, hz, hr⟩
theorem tk_sc {t : List Nat} {p : Nat} : tkF t 59 59 p = (if (wdM t [59] p).1 = true then .inr (59, (wdM t [59] p).2) else .inl (wdM t [59] p).2) := by
  cases hq : t[p]? with
  | none => rw [tk_e (List.getElem?_eq_none_iff.mp hq), wm_e (List.getElem?_eq_none_iff.mp hq)]; rfl
  | some d =>
    by_cases h : d = 59
    · subst h
      rw [tk_s hq (by decide), wm_s hq]
      rfl
    · rw [tk_n hq (by omega), wm_n hq h]
      rfl
