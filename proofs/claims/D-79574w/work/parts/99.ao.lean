/-! the text of commands, read: what the class does, in plain words -/
abbrev PR (α : Type) : Type := Nat ⊕ (α × Nat)
def bd {α β : Type} (x : PR α) (F : α → Nat → PR β) : PR β := match x with
  | .inl q => .inl q
  | .inr (v, q) => F v q
theorem bd_f {α β : Type} {x : PR α} {F : α → Nat → PR β} {q : Nat} (h : x = .inl q) : bd x F = .inl q := by rw [h]; rfl
theorem bd_s {α β : Type} {x : PR α} {F : α → Nat → PR β} {v : α} {q : Nat} (h : x = .inr (v, q)) : bd x F = F v q := by rw [h]; rfl
def tkF (t : List Nat) (lo hi p : Nat) : PR Nat := match t[p]? with
  | some c => if lo ≤ c ∧ c ≤ hi then .inr (c, p + 1) else .inl p
  | none => .inl p
theorem tk_s {t : List Nat} {lo hi p c : Nat} (h : t[p]? = some c) (h2 : lo ≤ c ∧ c ≤ hi) : tkF t lo hi p = .inr (c, p + 1) := by
  unfold tkF
  rw [h]
  exact if_pos h2
theorem tk_n {t : List Nat} {lo hi p c : Nat} (h : t[p]? = some c) (h2 : ¬ (lo ≤ c ∧ c ≤ hi)) : tkF t lo hi p = .inl p := by
  unfold tkF
  rw [h]
  exact if_neg h2
theorem tk_e {t : List Nat} {lo hi p : Nat} (h : t.length ≤ p) : tkF t lo hi p = .inl p := by
  unfold tkF
  rw [List.getElem?_eq_none h]
theorem tk_i {t : List Nat} {lo hi p c q : Nat} (h : tkF t lo hi p = .inr (c, q)) : q = p + 1 ∧ t[p]? = some c ∧ lo ≤ c ∧ c ≤ hi ∧ p + 1 ≤ t.length := by
  unfold tkF at h
  cases ht : t[p]? with
  | none => rw [ht] at h; cases h
  | some d =>
    rw [ht] at h
    have hp := (List.getElem?_eq_some_iff.mp ht).1
    by_cases h9 : lo ≤ d ∧ d ≤ hi
    · have e : (Sum.inr (d, p + 1) : PR Nat) = .inr (c, q) := (if_pos h9).symm.trans h
      cases e
      exact ⟨rfl, rfl, h9.1, h9.2, hp⟩
    · have e : (Sum.inl p : PR Nat) = .inr (c, q) := (if_neg h9).symm.trans h
      cases e
def dgF (t : List Nat) (p : Nat) : PR Nat := bd (tkF t 48 57 p) (fun c q => .inr (c - 48, q))
def moF (t : List Nat) : Nat → Nat → Nat → Nat × Nat
  | 0, n, q => (n, q)
  | j + 1, n, q => match t[q]? with
    | some c => if 48 ≤ c ∧ c ≤ 57 then moF t j (10 * n + (c - 48)) (q + 1) else (n, q)
    | none => (n, q)
def nmF (t : List Nat) (m p : Nat) : PR Nat := bd (dgF t p) (fun n q => .inr (moF t m n q))
def bkF {α : Type} (t : List Nat) (F : Nat → PR α) (p : Nat) : PR α := bd (tkF t 32 32 p) (fun _ q => F q)
/-- the letters that go on a beginning of some words -/
def nxW (ws : List (List Nat)) (told : List Nat) : List Nat := ws.filterMap (fun w => if told.isPrefixOf w then w[told.length]? else none)
def wdG (ws : List (List Nat)) (t : List Nat) : Nat → List Nat → Nat → PR (List Nat)
  | 0, _, p => .inl p
  | j + 1, told, p => if told ∈ ws then .inr (told, p) else match t[p]? with
    | some c => if c ∈ nxW ws told then wdG ws t j (told ++ [c]) (p + 1) else .inl p
    | none => .inl p
def wdF (ws : List (List Nat)) (t : List Nat) (p : Nat) : PR (List Nat) := wdG ws t 8 [] p
theorem wg_s {ws : List (List Nat)} {t told : List Nat} {j p : Nat} (h : told ∈ ws) : wdG ws t (j + 1) told p = .inr (told, p) := if_pos h
theorem wg_e {ws : List (List Nat)} {t told : List Nat} {j p : Nat} (h : ¬ told ∈ ws) (h2 : t.length ≤ p) : wdG ws t (j + 1) told p = .inl p := by
  unfold wdG
  rw [if_neg h, List.getElem?_eq_none h2]
theorem wg_n {ws : List (List Nat)} {t told : List Nat} {j p c : Nat} (h : ¬ told ∈ ws) (h2 : t[p]? = some c) (h3 : ¬ c ∈ nxW ws told) : wdG ws t (j + 1) told p = .inl p := by
  unfold wdG
  rw [if_neg h, h2]
  exact if_neg h3
theorem wg_g {ws : List (List Nat)} {t told : List Nat} {j p c : Nat} (h : ¬ told ∈ ws) (h2 : t[p]? = some c) (h3 : c ∈ nxW ws told) : wdG ws t (j + 1) told p = wdG ws t j (told ++ [c]) (p + 1) := by
  rw [show wdG ws t (j + 1) told p = (if told ∈ ws then .inr (told, p) else match t[p]? with
    | some c => if c ∈ nxW ws told then wdG ws t j (told ++ [c]) (p + 1) else .inl p
    | none => .inl p) from rfl, if_neg h, h2]
  exact if_pos h3
abbrev wF : List Nat := [102, 111, 114, 116, 104]
abbrev W3 : List (List Nat) := [[102, 111, 111, 116], [104, 111, 111, 102], [119, 104, 101, 101, 108]]
abbrev W2 : List (List Nat) := [[102, 111, 114, 116, 104], [98, 97, 99, 107]]
abbrev W7 : List (List Nat) := [[99, 114, 111, 115, 115], [119, 97, 105, 116], [108, 97, 110, 100], [99, 111, 109, 101], [98, 111, 97, 114, 100], [97, 110, 99, 104, 111, 114], [119, 101, 105, 103, 104]]
/-- a command: its number, and what it is told -/
abbrev Cm : Type := Nat × Nat × Nat × Nat × Nat
def kdN (w : List Nat) : Nat := if w = [102, 111, 111, 116] then 0 else if w = [104, 111, 111, 102] then 1 else 2
def kdF (t : List Nat) (p : Nat) : PR Nat := bd (bkF t (wdF W3 t) p) (fun w q => .inr (kdN w, q))
def comF (t : List Nat) (p : Nat) : PR Cm := bd (kdF t p) fun k p => bd (bkF t (dgF t) p) fun f p => bd (bkF t (dgF t) p) fun g p => bd (bkF t (nmF t 2) p) fun n p => .inr ((3, k, f, g, n), p)
def boaF (t : List Nat) (p : Nat) : PR Cm := bd (kdF t p) fun k p => bd (bkF t (dgF t) p) fun g p => bd (bkF t (nmF t 2) p) fun n p => bd (bkF t (dgF t) p) fun s p => .inr ((4, k, g, n, s), p)
def crsF (t : List Nat) (p : Nat) : PR Cm := bd (bkF t (wdF W2 t) p) fun w p => .inr ((0, if w = wF then 1 else 0, 0, 0, 0), p)
def anrF (t : List Nat) (p : Nat) : PR Cm := bd (bkF t (dgF t) p) fun a p => bd (bkF t (dgF t) p) fun s p => .inr ((5, a, s, 0, 0), p)
def waiF (t : List Nat) (p : Nat) : PR Cm := bd (bkF t (nmF t 2) p) fun n p => .inr ((1, n, 0, 0, 0), p)
def weiF (t : List Nat) (p : Nat) : PR Cm := bd (bkF t (dgF t) p) fun n p => .inr ((6, n, 0, 0, 0), p)
def c1F (t : List Nat) (w : List Nat) (p : Nat) : PR Cm := if w = [99, 114, 111, 115, 115] then crsF t p else if w = [119, 97, 105, 116] then waiF t p else if w = [108, 97, 110, 100] then .inr ((2, 0, 0, 0, 0), p) else if w = [99, 111, 109, 101] then comF t p else if w = [98, 111, 97, 114, 100] then boaF t p else if w = [97, 110, 99, 104, 111, 114] then anrF t p else weiF t p
def cmdF (t : List Nat) (p : Nat) : PR Cm := bd (wdF W7 t p) (c1F t)
/-- the commands behind the first -/
def mrF (t : List Nat) : Nat → List Cm → Nat → Nat ⊕ List Cm
  | 0, _, p => .inl p
  | j + 1, cs, p => if p < t.length then (match tkF t 59 59 p with
    | .inl q => .inl q
    | .inr (_, q) => match cmdF t q with
      | .inl q => .inl q
      | .inr (c, q) => mrF t j (cs ++ [c]) q) else .inr cs
def txF (t : List Nat) : Nat ⊕ List Cm := match cmdF t 0 with
  | .inl q => .inl q
  | .inr (c, q) => mrF t 30 [c] q
/-! how far it reads -/
def Go {α : Type} (t : List Nat) (m p : Nat) (x : PR α) : Prop := ∀ v q, x = .inr (v, q) → p + m ≤ q ∧ q ≤ t.length
theorem Go.bdd {α β : Type} {t : List Nat} {m m2 p : Nat} {x : PR α} {F : α → Nat → PR β} (h : Go t m p x) (h2 : ∀ v q, x = .inr (v, q) → q ≤ t.length → Go t m2 q (F v q)) : Go t (m + m2) p (bd x F) := fun v q hx => by
  unfold bd at hx
  cases x with
  | inl z => cases hx
  | inr y =>
    obtain ⟨w, z⟩ := y
    have a := h w z rfl
    have b := h2 w z rfl a.2 v q hx
    omega
theorem go_tk {t : List Nat} {lo hi p : Nat} : Go t 1 p (tkF t lo hi p) := fun v q h => by
  obtain ⟨h1, -, -, -, h2⟩ := tk_i h
  omega
theorem go_i {α : Type} {t : List Nat} {p : Nat} {v : α} (h : p ≤ t.length) : Go t 0 p (.inr (v, p) : PR α) := fun w q e => by
  cases e
  exact ⟨Nat.le_refl _, h⟩
theorem go_dg {t : List Nat} {p : Nat} : Go t 1 p (dgF t p) := go_tk.bdd (m2 := 0) (fun _ _ _ h => go_i h)
theorem mo_le {t : List Nat} : ∀ (j n q : Nat), q ≤ t.length → q ≤ (moF t j n q).2 ∧ (moF t j n q).2 ≤ t.length
  | 0, _, q, h => ⟨Nat.le_refl _, h⟩
  | j + 1, n, q, h => by
    unfold moF
    cases ht : t[q]? with
    | none => exact ⟨Nat.le_refl _, h⟩
    | some c =>
      have hq := (List.getElem?_eq_some_iff.mp ht).1
      by_cases h9 : 48 ≤ c ∧ c ≤ 57
      · show q ≤ (if 48 ≤ c ∧ c ≤ 57 then _ else _ : Nat × Nat).2 ∧ (if 48 ≤ c ∧ c ≤ 57 then _ else _ : Nat × Nat).2 ≤ _
        rw [if_pos h9]
        have := mo_le (t := t) j (10 * n + (c - 48)) (q + 1) hq
        omega
      · show q ≤ (if 48 ≤ c ∧ c ≤ 57 then _ else _ : Nat × Nat).2 ∧ (if 48 ≤ c ∧ c ≤ 57 then _ else _ : Nat × Nat).2 ≤ _
        rw [if_neg h9]
        exact ⟨Nat.le_refl _, h⟩
theorem go_nm {t : List Nat} {m p : Nat} : Go t 1 p (nmF t m p) := go_dg.bdd (m2 := 0) (fun n q _ h => fun v z e => by
  have e9 : moF t m n q = (v, z) := Sum.inr.inj e
  have := mo_le m n q h
  rw [e9] at this
  exact this)
theorem Go.bkk {α : Type} {t : List Nat} {m p : Nat} {F : Nat → PR α} (h : ∀ q, q ≤ t.length → Go t m q (F q)) : Go t (1 + m) p (bkF t F p) := go_tk.bdd (fun _ q _ hq => h q hq)
theorem go_wg {ws : List (List Nat)} {t : List Nat} : ∀ (j : Nat) (told : List Nat) (p : Nat), p ≤ t.length → ∀ w q, wdG ws t j told p = .inr (w, q) → w ∈ ws ∧ q + told.length = p + w.length ∧ q ≤ t.length
  | 0, _, _, _, _, _, e => by cases e
  | j + 1, told, p, hp, w, q, e => by
    by_cases h : told ∈ ws
    · rw [wg_s h] at e
      cases e
      exact ⟨h, rfl, hp⟩
    · by_cases h2 : p < t.length
      · have ht : t[p]? = some t[p] := List.getElem?_eq_getElem h2
        by_cases h3 : t[p] ∈ nxW ws told
        · rw [wg_g h ht h3] at e
          have := go_wg j _ _ (by omega) w q e
          rw [List.length_append, List.length_singleton] at this
          exact ⟨this.1, by omega, this.2.2⟩
        · rw [wg_n h ht h3] at e
          cases e
      · rw [wg_e h (by omega)] at e
        cases e
theorem wd_i {ws : List (List Nat)} {t : List Nat} {p q : Nat} {w : List Nat} (hp : p ≤ t.length) (h : wdF ws t p = .inr (w, q)) : w ∈ ws ∧ q = p + w.length ∧ q ≤ t.length := by
  have := go_wg 8 [] p hp w q h
  exact ⟨this.1, this.2.1, this.2.2⟩
theorem go_wd {ws : List (List Nat)} {t : List Nat} {p m : Nat} (hp : p ≤ t.length) (hm : ∀ w ∈ ws, m ≤ w.length) : Go t m p (wdF ws t p) := fun w q h => by
  obtain ⟨h1, h2, h3⟩ := wd_i hp h
  have := hm w h1
  omega
theorem go_kd {t : List Nat} {p : Nat} : Go t 5 p (kdF t p) := (Go.bkk (m := 4) (fun q hq => go_wd hq (by decide))).bdd (m2 := 0) (fun _ _ _ h => go_i h)
theorem go_c1 {t : List Nat} {p : Nat} {w : List Nat} (hp : p ≤ t.length) : Go t 0 p (c1F t w p) := by
  have wk : ∀ {m : Nat} {x : PR Cm}, Go t m p x → Go t 0 p x := fun h v q e => by
    have := h v q e
    omega
  have d1 : ∀ q : Nat, Go t (1 + 1) q (bkF t (dgF t) q) := fun q => Go.bkk (fun _ _ => go_dg)
  have n1 : ∀ q : Nat, Go t (1 + 1) q (bkF t (nmF t 2) q) := fun q => Go.bkk (fun _ _ => go_nm)
  unfold c1F
  split
  · exact wk (Go.bdd (m2 := 0) (Go.bkk (m := 4) (fun q hq => go_wd hq (by decide))) (fun _ _ _ h => go_i h))
  · split
    · exact wk ((n1 p).bdd (m2 := 0) (fun _ _ _ h => go_i h))
    · split
      · exact go_i hp
      · split
        · exact wk (go_kd.bdd (fun _ q _ _ => (d1 q).bdd (fun _ q _ _ => (d1 q).bdd (fun _ q _ _ => (n1 q).bdd (m2 := 0) (fun _ _ _ h => go_i h)))))
        · split
          · exact wk (go_kd.bdd (fun _ q _ _ => (d1 q).bdd (fun _ q _ _ => (n1 q).bdd (fun _ q _ _ => (d1 q).bdd (m2 := 0) (fun _ _ _ h => go_i h)))))
          · split
            · exact wk ((d1 p).bdd (fun _ q _ _ => (d1 q).bdd (m2 := 0) (fun _ _ _ h => go_i h)))
            · exact wk ((d1 p).bdd (m2 := 0) (fun _ _ _ h => go_i h))
theorem go_cmd {t : List Nat} {p : Nat} (hp : p ≤ t.length) : Go t 4 p (cmdF t p) := (go_wd hp (m := 4) (by decide)).bdd (m2 := 0) (fun _ _ _ h => go_c1 h)
theorem dg_i {t : List Nat} {p q n : Nat} (h : dgF t p = .inr (n, q)) : n < 10 ∧ q = p + 1 := by
  unfold dgF at h
  cases ht : tkF t 48 57 p with
  | inl z => rw [bd_f ht] at h; cases h
  | inr y =>
    obtain ⟨c, z⟩ := y
    rw [bd_s ht] at h
    cases h
    have := tk_i ht
    omega
theorem mo_lt {t : List Nat} : ∀ (j n q m : Nat), n < m → (moF t j n q).1 < m * 10 ^ j
  | 0, n, q, m, h => by
    show n < m * 10 ^ 0
    omega
  | j + 1, n, q, m, h => by
    have hp : m * 1 ≤ m * 10 ^ (j + 1) := Nat.mul_le_mul_left m (Nat.pow_pos (by decide))
    unfold moF
    cases ht : t[q]? with
    | none => show n < _; omega
    | some c =>
      by_cases h9 : 48 ≤ c ∧ c ≤ 57
      · show (if 48 ≤ c ∧ c ≤ 57 then _ else _ : Nat × Nat).1 < _
        rw [if_pos h9]
        have := mo_lt (t := t) j (10 * n + (c - 48)) (q + 1) (10 * m) (by omega)
        have e : 10 * m * 10 ^ j = m * 10 ^ (j + 1) := by rw [Nat.pow_succ, Nat.mul_comm 10 m, Nat.mul_assoc, Nat.mul_comm 10]
        rw [e] at this
        exact this
      · show (if 48 ≤ c ∧ c ≤ 57 then _ else _ : Nat × Nat).1 < _
        rw [if_neg h9]
        show n < _
        omega
theorem nm_i {t : List Nat} {m p q n : Nat} (h : nmF t m p = .inr (n, q)) : n < 10 * 10 ^ m := by
  unfold nmF at h
  cases ht : dgF t p with
  | inl z => rw [bd_f ht] at h; cases h
  | inr y =>
    obtain ⟨c, z⟩ := y
    rw [bd_s ht] at h
    have e : moF t m c z = (n, q) := Sum.inr.inj h
    have := mo_lt (t := t) m c z 10 (dg_i ht).1
    rw [e] at this
    exact this
/-! words: where they stand in a text of words -/
def prefs (ws : List (List Nat)) : List (List Nat) := ws.flatMap (fun w => (List.range (w.length + 1)).map (fun i => w.take i))
/-- the letters behind p, where p stands in w -/
def cnd (p w : List Nat) : List Nat := (if pfx p w then w[p.length]?.toList else []) ++ (List.range (w.length + 1)).filterMap (fun i => if pfx (32 :: p) (w.drop i) then w[i + (p.length + 1)]? else none)
theorem pfx_app {p w : List Nat} {c : Nat} : pfx (p ++ [c]) w = true ↔ pfx p w = true ∧ w[p.length]? = some c := by
  rw [pfx_iff, pfx_iff, List.length_append, List.length_singleton]
  constructor
  · rintro ⟨h1, h2⟩
    refine ⟨⟨by omega, fun t ht => ?_⟩, ?_⟩
    · have := h2 t (by omega)
      rw [List.getElem?_append_left ht] at this
      exact this
    · have := h2 p.length (by omega)
      rw [List.getElem?_append_right (Nat.le_refl _), Nat.sub_self] at this
      exact this
  · rintro ⟨⟨h1, h2⟩, h3⟩
    have h4 := (List.getElem?_eq_some_iff.mp h3).1
    refine ⟨by omega, fun t ht => ?_⟩
    by_cases e : t < p.length
    · rw [List.getElem?_append_left e]
      exact h2 t e
    · have e9 : t = p.length := by omega
      subst e9
      rw [List.getElem?_append_right (Nat.le_refl _), Nat.sub_self]
      exact h3
theorem cnd_iff {p w : List Nat} {c : Nat} : (pfx (p ++ [c]) w || inf (32 :: (p ++ [c])) w) = true ↔ c ∈ cnd p w := by
  unfold cnd
  rw [Bool.or_eq_true, List.mem_append, pfx_app]
  refine or_congr ?_ ?_
  · by_cases h : pfx p w = true
    · rw [if_pos h, Option.mem_toList]
      exact ⟨fun q => q.2, fun q => ⟨h, q⟩⟩
    · rw [if_neg h]
      exact ⟨fun q => absurd q.1 h, fun q => (nomatch q)⟩
  · unfold inf
    rw [List.any_eq_true, List.mem_filterMap]
    refine exists_congr fun i => and_congr Iff.rfl ?_
    rw [← List.cons_append, pfx_app]
    by_cases h : pfx (32 :: p) (w.drop i) = true
    · rw [if_pos h, List.getElem?_drop]
      exact ⟨fun q => q.2, fun q => ⟨h, q⟩⟩
    · rw [if_neg h]
      exact ⟨fun q => absurd q.1 h, fun q => (nomatch q)⟩
/-- W tells the words ws -/
def WdOk (ws : List (List Nat)) (W : List Nat) : Prop := (∀ p ∈ prefs ws, (32 ∈ cnd p W ↔ p ∈ ws) ∧ (∀ c ∈ cnd p W, c = 32 ∨ c ∈ nxW ws p) ∧ (∀ c ∈ nxW ws p, c ∈ cnd p W ∧ c ≠ 32 ∧ p ++ [c] ∈ prefs ws) ∧ p.length ≤ 6 ∧ (∀ c ∈ p, c < 256)) ∧ [] ∈ prefs ws ∧ [] ∉ ws ∧ 9 ≤ W.length ∧ W.length ≤ 100
abbrev X3 : List Nat := [102, 111, 111, 116, 32, 104, 111, 111, 102, 32, 119, 104, 101, 101, 108, 32]
abbrev X2 : List Nat := [102, 111, 114, 116, 104, 32, 98, 97, 99, 107, 32]
abbrev X7 : List Nat := [99, 114, 111, 115, 115, 32, 119, 97, 105, 116, 32, 108, 97, 110, 100, 32, 99, 111, 109, 101, 32, 98, 111, 97, 114, 100, 32, 97, 110, 99, 104, 111, 114, 32, 119, 101, 105, 103, 104, 32]
set_option maxRecDepth 100000 in
theorem wok3 : WdOk W3 X3 := by unfold WdOk; decide +kernel
set_option maxRecDepth 100000 in
theorem wok2 : WdOk W2 X2 := by unfold WdOk; decide +kernel
set_option maxRecDepth 100000 in
theorem wok7 : WdOk W7 X7 := by unfold WdOk; decide +kernel
