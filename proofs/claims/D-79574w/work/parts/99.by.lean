/-! what the model reads is what the class reads -/
def chW (ws : List (List Nat)) : List Nat → List Nat → Bool
  | told, [] => decide (told ∈ ws)
  | told, c :: r => decide (¬ told ∈ ws) && decide (nxW ws told = [c]) && chW ws (told ++ [c]) r
abbrev prW (w : List Nat) (b : Bool × Nat) : PR (List Nat) := if b.1 = true then .inr (w, b.2) else .inl b.2
theorem wd_ch {ws : List (List Nat)} {t : List Nat} : ∀ (rest told : List Nat) (j p : Nat), chW ws told rest = true → rest.length < j → wdG ws t j told p = prW (told ++ rest) (wdM t rest p)
  | [], told, 0, p, _, hj => absurd hj (by simp)
  | [], told, j + 1, p, h, _ => by
    have h1 : told ∈ ws := of_decide_eq_true h
    rw [wg_s h1, List.append_nil]
    exact (if_pos rfl).symm
  | c :: r, told, 0, p, _, hj => absurd hj (by simp)
  | c :: r, told, j + 1, p, h, hj => by
    unfold chW at h
    rw [Bool.and_eq_true, Bool.and_eq_true] at h
    obtain ⟨⟨h1, h2⟩, h3⟩ := h
    have h1 : ¬ told ∈ ws := of_decide_eq_true h1
    have h2 : nxW ws told = [c] := of_decide_eq_true h2
    cases hq : t[p]? with
    | none =>
      rw [wg_e h1 (List.getElem?_eq_none_iff.mp hq), wm_e (List.getElem?_eq_none_iff.mp hq)]
      rfl
    | some d =>
      by_cases q : d = c
      · subst q
        rw [wg_g h1 hq (by rw [h2]; simp), wm_s hq, wd_ch r (told ++ [d]) j (p + 1) h3 (by simp at hj; omega), List.append_assoc]
        rfl
      · rw [wg_n h1 hq (by rw [h2]; simpa using q), wm_n hq q]
        rfl
/-- one letter first, then a way that has no branch -/
theorem wd_1 {ws : List (List Nat)} {t r : List Nat} {p d : Nat} (h : t[p]? = some d) (h0 : ¬ [] ∈ ws) (hd : d ∈ nxW ws []) (hc : chW ws [d] r = true) (hr : r.length < 7) : wdF ws t p = prW (d :: r) (wdM t (d :: r) p) := by
  unfold wdF
  rw [wg_g h0 h hd, wm_s h]
  exact wd_ch r [d] 7 (p + 1) hc hr
theorem wd_0 {ws : List (List Nat)} {t : List Nat} {p d : Nat} (h : t[p]? = some d) (h0 : ¬ [] ∈ ws) (hd : ¬ d ∈ nxW ws []) : wdF ws t p = .inl p := wg_n h0 h hd
theorem wd_2 {ws : List (List Nat)} {t r : List Nat} {p d e : Nat} (h : t[p]? = some d) (h0 : ¬ [] ∈ ws) (hd : d ∈ nxW ws []) (h1 : ¬ [d] ∈ ws) (h2 : t[p + 1]? = some e) (he : e ∈ nxW ws [d]) (hc : chW ws [d, e] r = true) (hr : r.length < 6) : wdF ws t p = prW (d :: e :: r) (wdM t (d :: e :: r) p) := by
  unfold wdF
  rw [wg_g h0 h hd, wm_s h, wm_s h2]
  show wdG ws t 7 [d] (p + 1) = _
  rw [wg_g h1 h2 he]
  exact wd_ch r [d, e] 6 (p + 1 + 1) hc hr
theorem wd_2n {ws : List (List Nat)} {t r : List Nat} {p d e : Nat} (h : t[p]? = some d) (h0 : ¬ [] ∈ ws) (hd : d ∈ nxW ws []) (h1 : ¬ [d] ∈ ws) (h2 : ∀ z, t[p + 1]? = some z → ¬ z ∈ nxW ws [d]) (he : e ∈ nxW ws [d]) : wdF ws t p = prW (d :: e :: r) (wdM t (d :: e :: r) p) := by
  unfold wdF
  rw [wg_g h0 h hd, wm_s h]
  show wdG ws t 7 [d] (p + 1) = _
  cases hq : t[p + 1]? with
  | none =>
    rw [wg_e h1 (List.getElem?_eq_none_iff.mp hq), wm_e (List.getElem?_eq_none_iff.mp hq)]
    rfl
  | some z =>
    rw [wg_n h1 hq (h2 z hq), wm_n hq (fun q => h2 z hq (q ▸ he))]
    rfl
/-- the seven words -/
theorem w7_come {t : List Nat} {p : Nat} (h : t[p]? = some 99) (h2 : t[p + 1]? = some 111) : wdF W7 t p = prW [99, 111, 109, 101] (wdM t [99, 111, 109, 101] p) := wd_2 h (by decide) (by decide) (by decide) h2 (by decide) (by decide) (by decide)
theorem w7_cross {t : List Nat} {p : Nat} (h : t[p]? = some 99) (h2 : ¬ t[p + 1]? = some 111) : wdF W7 t p = prW [99, 114, 111, 115, 115] (wdM t [99, 114, 111, 115, 115] p) := by
  by_cases h3 : t[p + 1]? = some 114
  · exact wd_2 h (by decide) (by decide) (by decide) h3 (by decide) (by decide) (by decide)
  · refine wd_2n h (by decide) (by decide) (by decide) (fun z hz hm => ?_) (by decide)
    have hm2 : z = 114 ∨ z = 111 := by simpa [show nxW W7 [99] = [114, 111] from by decide] using hm
    rcases hm2 with rfl | rfl
    · exact h3 hz
    · exact h2 hz
theorem w7_weigh {t : List Nat} {p : Nat} (h : t[p]? = some 119) (h2 : t[p + 1]? = some 101) : wdF W7 t p = prW [119, 101, 105, 103, 104] (wdM t [119, 101, 105, 103, 104] p) := wd_2 h (by decide) (by decide) (by decide) h2 (by decide) (by decide) (by decide)
theorem w7_wait {t : List Nat} {p : Nat} (h : t[p]? = some 119) (h2 : ¬ t[p + 1]? = some 101) : wdF W7 t p = prW [119, 97, 105, 116] (wdM t [119, 97, 105, 116] p) := by
  by_cases h3 : t[p + 1]? = some 97
  · exact wd_2 h (by decide) (by decide) (by decide) h3 (by decide) (by decide) (by decide)
  · refine wd_2n h (by decide) (by decide) (by decide) (fun z hz hm => ?_) (by decide)
    have hm2 : z = 97 ∨ z = 101 := by simpa [show nxW W7 [119] = [97, 101] from by decide] using hm
    rcases hm2 with rfl | rfl
    · exact h3 hz
    · exact h2 hz
theorem w7_land {t : List Nat} {p : Nat} (h : t[p]? = some 108) : wdF W7 t p = prW [108, 97, 110, 100] (wdM t [108, 97, 110, 100] p) := wd_1 h (by decide) (by decide) (by decide) (by decide)
theorem w7_board {t : List Nat} {p : Nat} (h : t[p]? = some 98) : wdF W7 t p = prW [98, 111, 97, 114, 100] (wdM t [98, 111, 97, 114, 100] p) := wd_1 h (by decide) (by decide) (by decide) (by decide)
theorem w7_anchor {t : List Nat} {p : Nat} (h : t[p]? = some 97) : wdF W7 t p = prW [97, 110, 99, 104, 111, 114] (wdM t [97, 110, 99, 104, 111, 114] p) := wd_1 h (by decide) (by decide) (by decide) (by decide)
theorem w7_none {t : List Nat} {p d : Nat} (h : t[p]? = some d) (hd : ¬ (d = 97 ∨ d = 98 ∨ d = 99 ∨ d = 108 ∨ d = 119)) : wdF W7 t p = .inl p := by
  refine wd_0 h (by decide) (fun hm => hd ?_)
  have hm2 : d ∈ [99, 119, 108, 99, 98, 97, 119] := by simpa [show nxW W7 [] = [99, 119, 108, 99, 98, 97, 119] from by decide] using hm
  simp only [List.mem_cons, List.not_mem_nil, or_false] at hm2
  omega
theorem wf_end {ws : List (List Nat)} {t : List Nat} {p : Nat} (h0 : ¬ [] ∈ ws) (h : t.length ≤ p) : wdF ws t p = .inl p := wg_e h0 h
/-- kinds and ways -/
theorem on_w3 {t : List Nat} {p : Nat} : wdF W3 t p = (if (onM t W3 p).1 = true then .inr (nmN (onM t W3 p).2.2, (onM t W3 p).2.1) else .inl (onM t W3 p).2.1) ∧ ((onM t W3 p).1 = true → (onM t W3 p).2.2 < 3) := by
  cases hq : t[p]? with
  | none =>
    rw [on_e (List.getElem?_eq_none_iff.mp hq), wf_end (by decide) (List.getElem?_eq_none_iff.mp hq)]
    exact ⟨rfl, fun e => by cases e⟩
  | some d =>
    by_cases h1 : d = 102
    · subst h1
      rw [on_s hq (show onI 102 W3 0 = some (0, [102, 111, 111, 116]) from by decide), wd_1 (r := [111, 111, 116]) hq (by decide) (by decide) (by decide) (by decide)]
      exact ⟨rfl, fun _ => (by decide : 0 < 3)⟩
    · by_cases h2 : d = 104
      · subst h2
        rw [on_s hq (show onI 104 W3 0 = some (1, [104, 111, 111, 102]) from by decide), wd_1 (r := [111, 111, 102]) hq (by decide) (by decide) (by decide) (by decide)]
        exact ⟨rfl, fun _ => (by decide : 1 < 3)⟩
      · by_cases h3 : d = 119
        · subst h3
          rw [on_s hq (show onI 119 W3 0 = some (2, [119, 104, 101, 101, 108]) from by decide), wd_1 (r := [104, 101, 101, 108]) hq (by decide) (by decide) (by decide) (by decide)]
          exact ⟨rfl, fun _ => (by decide : 2 < 3)⟩
        · have hn : onI d W3 0 = none := by
            unfold onI onI onI onI
            exact (if_neg (fun e => h1 (Option.some.inj e).symm)).trans ((if_neg (fun e => h2 (Option.some.inj e).symm)).trans (if_neg (fun e => h3 (Option.some.inj e).symm)))
          rw [on_n hq hn, wd_0 hq (by decide) (fun hm => by
            have hm2 : d = 102 ∨ d = 104 ∨ d = 119 := by simpa [show nxW W3 [] = [102, 104, 119] from by decide] using hm
            omega)]
          exact ⟨rfl, fun e => by cases e⟩
theorem on_w2 {t : List Nat} {p : Nat} : wdF W2 t p = (if (onM t W2 p).1 = true then .inr (wyN (onM t W2 p).2.2, (onM t W2 p).2.1) else .inl (onM t W2 p).2.1) ∧ ((onM t W2 p).1 = true → (onM t W2 p).2.2 < 2) := by
  cases hq : t[p]? with
  | none =>
    rw [on_e (List.getElem?_eq_none_iff.mp hq), wf_end (by decide) (List.getElem?_eq_none_iff.mp hq)]
    exact ⟨rfl, fun e => by cases e⟩
  | some d =>
    by_cases h1 : d = 102
    · subst h1
      rw [on_s hq (show onI 102 W2 0 = some (0, [102, 111, 114, 116, 104]) from by decide), wd_1 (r := [111, 114, 116, 104]) hq (by decide) (by decide) (by decide) (by decide)]
      exact ⟨rfl, fun _ => (by decide : 0 < 2)⟩
    · by_cases h2 : d = 98
      · subst h2
        rw [on_s hq (show onI 98 W2 0 = some (1, [98, 97, 99, 107]) from by decide), wd_1 (r := [97, 99, 107]) hq (by decide) (by decide) (by decide) (by decide)]
        exact ⟨rfl, fun _ => (by decide : 1 < 2)⟩
      · have hn : onI d W2 0 = none := by
          unfold onI onI onI
          exact (if_neg (fun e => h1 (Option.some.inj e).symm)).trans (if_neg (fun e => h2 (Option.some.inj e).symm))
        rw [on_n hq hn, wd_0 hq (by decide) (fun hm => by
          have hm2 : d = 102 ∨ d = 98 := by simpa [show nxW W2 [] = [102, 98] from by decide] using hm
          omega)]
        exact ⟨rfl, fun e => by cases e⟩
theorem tk_wm {t : List Nat} {p : Nat} : tkF t 32 32 p = (if (wdM t [32] p).1 = true then .inr (32, (wdM t [32] p).2) else .inl (wdM t [32] p).2) := by
  cases hq : t[p]? with
  | none => rw [tk_e (List.getElem?_eq_none_iff.mp hq), wm_e (List.getElem?_eq_none_iff.mp hq)]; rfl
  | some d =>
    by_cases h : d = 32
    · subst h
      rw [tk_s hq (by decide), wm_s hq]
      rfl
    · rw [tk_n hq (by omega), wm_n hq h]
      rfl
theorem dg_mo {t : List Nat} {p : Nat} : dgF t p = (if p < (moF t 1 0 p).2 then .inr (moF t 1 0 p) else .inl (moF t 1 0 p).2) := by
  unfold dgF
  cases hq : t[p]? with
  | none => rw [tk_e (List.getElem?_eq_none_iff.mp hq), mq_e (List.getElem?_eq_none_iff.mp hq), if_neg (Nat.lt_irrefl _)]; rfl
  | some d =>
    by_cases h : 48 ≤ d ∧ d ≤ 57
    · rw [tk_s hq h, mo_s hq h]
      show (.inr (d - 48, p + 1) : PR Nat) = if p < p + 1 then .inr (10 * 0 + (d - 48), p + 1) else _
      rw [if_pos (Nat.lt_succ_self p), Nat.mul_zero, Nat.zero_add]
    · rw [tk_n hq h, mq_n hq h, if_neg (Nat.lt_irrefl _)]
      rfl
theorem nm_mo {t : List Nat} {p : Nat} : nmF t 2 p = (if p < (moF t 3 0 p).2 then .inr (moF t 3 0 p) else .inl (moF t 3 0 p).2) := by
  unfold nmF dgF
  cases hq : t[p]? with
  | none => rw [tk_e (List.getElem?_eq_none_iff.mp hq), mq_e (List.getElem?_eq_none_iff.mp hq), if_neg (Nat.lt_irrefl _)]; rfl
  | some d =>
    by_cases h : 48 ≤ d ∧ d ≤ 57
    · have hp := (List.getElem?_eq_some_iff.mp hq).1
      have hm := (mo_le (t := t) 2 (10 * 0 + (d - 48)) (p + 1) hp).1
      rw [tk_s hq h, mo_s hq h, if_pos (by omega), Nat.mul_zero, Nat.zero_add]
      rfl
    · rw [tk_n hq h, mq_n hq h, if_neg (Nat.lt_irrefl _)]
      rfl
