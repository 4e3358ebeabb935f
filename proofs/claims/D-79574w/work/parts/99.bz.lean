/-! the model reads: a command -/
theorem st_if {α β : Type} {Z : PR α → PR β} (hZ : ∀ z, Z (.inl z) = .inl z) {x x2 : PR α} {b : Bool} {z : Nat} (hx : x = if b = true then x2 else .inl z) : Z x = if b = true then Z x2 else .inl z := by
  rw [hx]
  cases b
  · exact hZ z
  · rfl
theorem bk_wm {α : Type} {t : List Nat} {X : Nat → PR α} {q : Nat} : bkF t X q = if (wdM t [32] q).1 = true then X (wdM t [32] q).2 else .inl (wdM t [32] q).2 := by
  unfold bkF
  rw [tk_wm]
  cases (wdM t [32] q).1 <;> rfl
theorem wm_app {t : List Nat} : ∀ (w v : List Nat) (p : Nat), wdM t (w ++ v) p = if (wdM t w p).1 = true then wdM t v (wdM t w p).2 else (false, (wdM t w p).2)
  | [], v, p => rfl
  | e :: w, v, p => by
    cases hq : t[p]? with
    | none =>
      rw [wm_e (List.getElem?_eq_none_iff.mp hq), show (e :: w) ++ v = e :: (w ++ v) from rfl, wm_e (List.getElem?_eq_none_iff.mp hq)]
      rfl
    | some d =>
      by_cases q : d = e
      · subst q
        rw [wm_s hq, show (d :: w) ++ v = d :: (w ++ v) from rfl, wm_s hq]
        exact wm_app w v (p + 1)
      · rw [wm_n hq q, show (e :: w) ++ v = e :: (w ++ v) from rfl, wm_n hq q]
        rfl
theorem cm_w {β : Type} {t w : List Nat} {p : Nat} {Z : PR β → PR Cm} {X : Nat → PR β} (hZ : ∀ z, Z (.inl z) = .inl z) (h : wdF W7 t p = prW w (wdM t w p)) (hF : ∀ q, c1F t w q = Z (bkF t X q)) : cmdF t p = if (wdM t (w ++ [32]) p).1 = true then Z (X (wdM t (w ++ [32]) p).2) else .inl (wdM t (w ++ [32]) p).2 := by
  unfold cmdF
  rw [h, wm_app]
  cases h1 : (wdM t w p).1 with
  | false =>
    show bd (if (wdM t w p).1 = true then _ else _) _ = _
    rw [h1]
    rfl
  | true =>
    show bd (if (wdM t w p).1 = true then _ else _) _ = _
    rw [h1]
    show c1F t w (wdM t w p).2 = _
    rw [hF, bk_wm]
    show Z (if (wdM t [32] (wdM t w p).2).1 = true then _ else _) = if (wdM t [32] (wdM t w p).2).1 = true then _ else _
    cases (wdM t [32] (wdM t w p).2).1 with
    | false => exact hZ _
    | true => rfl
theorem cm_l {t : List Nat} {p : Nat} (h : t[p]? = some 108) : cmdF t p = if (wdM t [108, 97, 110, 100] p).1 = true then .inr ((2, 0, 0, 0, 0), (wdM t [108, 97, 110, 100] p).2) else .inl (wdM t [108, 97, 110, 100] p).2 := by
  unfold cmdF
  rw [w7_land h]
  show bd (if (wdM t [108, 97, 110, 100] p).1 = true then _ else _) _ = _
  cases (wdM t [108, 97, 110, 100] p).1 <;> rfl
theorem dg_b {t : List Nat} {p : Nat} : dgF t p = (if decide (p < (moF t 1 0 p).2) = true then .inr (moF t 1 0 p) else .inl (moF t 1 0 p).2) := by
  rw [dg_mo]
  by_cases h : p < (moF t 1 0 p).2
  · rw [if_pos h, if_pos (decide_eq_true h)]
  · rw [if_neg h, if_neg (by rw [decide_eq_false h]; decide)]
theorem nm_b {t : List Nat} {p : Nat} : nmF t 2 p = (if decide (p < (moF t 3 0 p).2) = true then .inr (moF t 3 0 p) else .inl (moF t 3 0 p).2) := by
  rw [nm_mo]
  by_cases h : p < (moF t 3 0 p).2
  · rw [if_pos h, if_pos (decide_eq_true h)]
  · rw [if_neg h, if_neg (by rw [decide_eq_false h]; decide)]
theorem kd_nm {i : Nat} (h : i < 3) : kdN (nmN i) = i := by
  rcases (by omega : i = 0 ∨ i = 1 ∨ i = 2) with rfl | rfl | rfl <;> decide
/-- what the model is told of a command -/
def TdM (cm : Cm) (c : Int32) (g : Nat → Int32) : Prop := c = nI cm.1 ∧ match cm with
  | (0, a, _) => ∃ i, i < 2 ∧ g 0 = nI i ∧ a = if i = 0 then 1 else 0
  | (1, n, _) => g 0 = nI n
  | (2, _) => True
  | (3, k, f, w, n) => g 0 = nI k ∧ g 1 = nI f ∧ g 2 = nI w ∧ g 3 = nI n
  | (4, k, w, n, s) => g 0 = nI k ∧ g 1 = nI w ∧ g 2 = nI n ∧ g 3 = nI s
  | (5, a, s, _) => g 0 = nI a ∧ g 1 = nI s
  | (_, n, _) => g 0 = nI n
def CmP (t : List Nat) (p : Nat) (V0 V : MV) (b : Bool) : Prop := ∃ (q : Nat) (c : Int32) (g : Nat → Int32), q ≤ t.length ∧ V = VP V0 (nI q) c g ∧ (b = true → ∃ cm, cmdF t p = .inr (cm, q) ∧ TdM cm c g) ∧ (b = false → cmdF t p = .inl q)
