/-! the model renumbers the groups behind a split channel -/
abbrev ubh (j s : Nat) : Nat := if j < s then s - 1 else s
abbrev ugs (j e : Nat) : Nat := 49 * (e / 49) + 7 * ubh j (e / 7 % 7) + ubh j (e % 7)
abbrev pix (j e : Nat) : Nat := 36 * (e / 49) + 6 * ubh j (e / 7 % 7) + ubh j (e % 7)
def good (j e : Nat) : Prop := e / 7 % 7 ≠ j + 1 ∧ e % 7 ≠ j + 1
theorem ubh_bh {j s : Nat} : ubh j (bh j s) = s := by
  unfold ubh bh
  by_cases h : j < s
  · rw [if_pos h, if_pos (by omega)]; omega
  · rw [if_neg h, if_neg h]
theorem bh_ne {j s : Nat} : bh j s ≠ j + 1 := by
  unfold bh
  split <;> omega
theorem bh_ubh {j s : Nat} (h : s ≠ j + 1) : bh j (ubh j s) = s := by
  unfold ubh bh
  by_cases h1 : j < s
  · rw [if_pos h1, if_pos (by omega)]; omega
  · rw [if_neg h1, if_neg h1]
theorem ubh_le {j s : Nat} (hj : j ≤ 5) (hs : s ≤ 6) (h : s ≠ j + 1) : ubh j s ≤ 5 := by
  unfold ubh
  split <;> omega
theorem ugs_p {j e : Nat} (hj : j ≤ 5) (hg : good j e) : ugs j e / 49 = e / 49 ∧ ugs j e / 7 % 7 = ubh j (e / 7 % 7) ∧ ugs j e % 7 = ubh j (e % 7) := by
  have h1 := ubh_le hj (show e / 7 % 7 ≤ 6 by omega) hg.1
  have h2 := ubh_le hj (show e % 7 ≤ 6 by omega) hg.2
  unfold ugs
  generalize ubh j (e / 7 % 7) = x at *
  generalize ubh j (e % 7) = y at *
  omega
theorem gsp_ugs {j e : Nat} (hj : j ≤ 5) (he : e < 147) (hg : good j e) : gsp j (ugs j e) = e := by
  obtain ⟨a1, a2, a3⟩ := ugs_p hj hg
  unfold gsp
  rw [a1, a2, a3, bh_ubh hg.1, bh_ubh hg.2]
  omega
theorem ugs_lt {j e : Nat} (hj : j ≤ 5) (he : e < 147) (hg : good j e) : ugs j e < 147 := by
  have h1 := ubh_le hj (show e / 7 % 7 ≤ 6 by omega) hg.1
  have h2 := ubh_le hj (show e % 7 ≤ 6 by omega) hg.2
  unfold ugs
  generalize ubh j (e / 7 % 7) = x at *
  generalize ubh j (e % 7) = y at *
  omega
theorem good_gsp {j c : Nat} (h1 : c / 7 % 7 ≤ 5) (h2 : c % 7 ≤ 5) : good j (gsp j c) ∧ ugs j (gsp j c) = c := by
  obtain ⟨a1, a2, a3⟩ := gsp_k (j := j) h1 h2
  refine ⟨⟨by rw [a2]; exact bh_ne, by rw [a3]; exact bh_ne⟩, ?_⟩
  unfold ugs
  rw [a1, a2, a3, ubh_bh, ubh_bh]
  omega
/-- one row of the groups renumbered -/
def RnR (row j : Nat) (n0 n : Nat → Int32) : Prop := (∀ k, (k < row ∨ row + 147 ≤ k) → n k = n0 k) ∧ ∀ e, e < 147 → (good j e → n (row + e) = n0 (row + ugs j e)) ∧ (¬ good j e → n (row + e) = 0)
theorem tof_tsp {j : Nat} {t : Tal} (hs : ∀ x ∈ t, x.1 / 7 % 7 ≤ 5 ∧ x.1 % 7 ≤ 5) (e : Nat) : (good j e → j ≤ 5 → e < 147 → tof (tsp j t) e = tof t (ugs j e)) ∧ (¬ good j e → tof (tsp j t) e = 0) := by
  refine ⟨fun hg hj he => ?_, fun hg => tof_no (fun x hx => ?_)⟩
  · induction t with
    | nil => rfl
    | cons x t ih =>
      show (if gsp j x.1 = e then x.2 else tof (tsp j t) e) = if x.1 = ugs j e then x.2 else tof t (ugs j e)
      rw [ih (fun y hy => hs y (by simp [hy]))]
      obtain ⟨h1, h2⟩ := hs x (by simp)
      by_cases hx : x.1 = ugs j e
      · rw [if_pos hx, if_pos (by rw [hx]; exact gsp_ugs hj he hg)]
      · rw [if_neg hx, if_neg (fun q => hx (by rw [← q]; exact (good_gsp h1 h2).2.symm))]
  · obtain ⟨y, hy, rfl⟩ := List.mem_map.mp hx
    obtain ⟨h1, h2⟩ := hs y hy
    exact fun q => hg (q ▸ (good_gsp h1 h2).1)
theorem RnR.T {row j : Nat} {t : Tal} {n0 n : Nat → Int32} (h : RnR row j n0 n) (hT : RpT row t n0) (hj : j ≤ 5) (hs : ∀ x ∈ t, x.1 / 7 % 7 ≤ 5 ∧ x.1 % 7 ≤ 5) : RpT row (tsp j t) n := fun e he => by
  obtain ⟨a, b⟩ := tof_tsp (j := j) hs e
  by_cases hg : good j e
  · rw [(h.2 e he).1 hg, a hg hj he, hT _ (ugs_lt hj he hg)]
  · rw [(h.2 e he).2 hg, b hg]
theorem OrdA.sp {N j m : Nat} {t : Tal} {n0 n : Nat → Int32} (h : OrdA N t n0) (hr : RnR 211 j n0 n) (hk : TOk m t) (hj : j ≤ 5) (hm : m ≤ 5) : OrdA N (tsp j t) n := by
  obtain ⟨cm, rk, a1, a2, a3, a4⟩ := h
  have hs := hk.sp hm
  refine ⟨cm, fun e => rk (ugs j e), (hr.1 9 (by omega)).trans a1, a2, ?_, fun x hx => ?_⟩
  · rw [List.pairwise_map]
    refine List.Pairwise.imp_of_mem (fun {x y} hx hy q => ?_) a3
    show rk (ugs j (gsp j x.1)) < rk (ugs j (gsp j y.1))
    rw [(good_gsp (hs x hx).1 (hs x hx).2).2, (good_gsp (hs y hy).1 (hs y hy).2).2]
    exact q
  · obtain ⟨y, hy, rfl⟩ := List.mem_map.mp hx
    obtain ⟨g1, g2⟩ := good_gsp (j := j) (hs y hy).1 (hs y hy).2
    obtain ⟨b1, b2, b3⟩ := a4 y hy
    have hl : gsp j y.1 < 147 := gsp_lt (hk.2 y hy).1 (hs y hy).1 (hs y hy).2
    show 0 < rk (ugs j (gsp j y.1)) ∧ rk (ugs j (gsp j y.1)) ≤ cm ∧ n (211 + gsp j y.1) = nI (rk (ugs j (gsp j y.1)))
    rw [(hr.2 _ hl).1 g1, g2]
    exact ⟨b1, b2, b3⟩
/-- while it is under way -/
def RnI (row j : Nat) (n0 mv n : Nat → Int32) (P : Nat) : Prop := (∀ c, c < 147 → mv c = n0 (row + c)) ∧ (∀ k, (k < row ∨ row + 147 ≤ k) → n k = n0 k) ∧ ∀ e, e < 147 → (good j e ∧ pix j e < P → n (row + e) = n0 (row + ugs j e)) ∧ (¬ (good j e ∧ pix j e < P) → n (row + e) = 0)
theorem RnI.next {row j k f t : Nat} {n0 mv n : Nat → Int32} (h : RnI row j n0 mv n (36 * k + 6 * f + t)) (hj : j ≤ 5) (hk : k < 3) (hf : f ≤ 5) (ht : t ≤ 5) : RnI row j n0 mv (va_up n (row + gco k (bh j f) (bh j t)) (mv (gco k f t))) (36 * k + 6 * f + t + 1) := by
  obtain ⟨h1, h2, h3⟩ := h
  have b1 := bh_le (j := j) hf
  have b2 := bh_le (j := j) ht
  have hl := gco_lt hk b1 b2
  obtain ⟨c1, c2, c3⟩ := gco_p (k := k) (f := f) (t := t) (by omega) (by omega)
  have e0 : gco k (bh j f) (bh j t) = gsp j (gco k f t) := by unfold gsp; rw [c1, c2, c3]
  obtain ⟨g1, g2⟩ := good_gsp (j := j) (c := gco k f t) (by omega) (by omega)
  obtain ⟨d1, d2, d3⟩ := gco_p (k := k) (f := bh j f) (t := bh j t) b1 b2
  have hp : pix j (gco k (bh j f) (bh j t)) = 36 * k + 6 * f + t := by unfold pix; rw [d1, d2, d3, ubh_bh, ubh_bh]
  refine ⟨h1, fun q hq => (va_ne (by omega)).trans (h2 q hq), fun e he => ?_⟩
  by_cases ee : e = gco k (bh j f) (bh j t)
  · subst ee
    refine ⟨fun _ => ?_, fun q => absurd ⟨e0 ▸ g1, by rw [hp]; omega⟩ q⟩
    rw [va_eq rfl, h1 _ (gco_lt hk (by omega) (by omega)), e0, g2]
  · rw [va_ne (by omega)]
    have hne : good j e → pix j e ≠ 36 * k + 6 * f + t := fun hg q => ee (by
      have u1 := ubh_le hj (show e / 7 % 7 ≤ 6 by omega) hg.1
      have u2 := ubh_le hj (show e % 7 ≤ 6 by omega) hg.2
      have q2 : 36 * (e / 49) + 6 * ubh j (e / 7 % 7) + ubh j (e % 7) = 36 * k + 6 * f + t := q
      have r1 := bh_ubh hg.1
      have r2 := bh_ubh hg.2
      generalize ubh j (e / 7 % 7) = x at *
      generalize ubh j (e % 7) = y at *
      have hx : x = f := by omega
      have hy : y = t := by omega
      have hk2 : e / 49 = k := by omega
      subst hx
      subst hy
      unfold gco
      rw [r1, r2]
      omega)
    obtain ⟨x, y⟩ := h3 e he
    refine ⟨fun q => x ⟨q.1, by have := hne q.1; omega⟩, fun q => y (fun z => q ⟨z.1, by omega⟩)⟩
theorem RnI.done {row j : Nat} {n0 mv n : Nat → Int32} (h : RnI row j n0 mv n 108) (hj : j ≤ 5) : RnR row j n0 n := ⟨h.2.1, fun e he => ⟨fun hg => (h.2.2 e he).1 ⟨hg, by
  have u1 := ubh_le hj (show e / 7 % 7 ≤ 6 by omega) hg.1
  have u2 := ubh_le hj (show e % 7 ≤ 6 by omega) hg.2
  unfold pix
  generalize ubh j (e / 7 % 7) = x at *
  generalize ubh j (e % 7) = y at *
  omega⟩, fun hg => (h.2.2 e he).2 (fun q => hg q.1)⟩⟩
