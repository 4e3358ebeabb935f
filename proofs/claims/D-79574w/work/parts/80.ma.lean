/-! small numbers; an hour keeps a river well -/
theorem i_le {x y : Int32} : x ≤ y ↔ x.toInt ≤ y.toInt := Int32.le_iff_toInt_le
theorem i_lt {x y : Int32} : x < y ↔ x.toInt < y.toInt := Int32.lt_iff_toInt_lt
theorem bm {z : Int} (h1 : -100000000 ≤ z) (h2 : z ≤ 100000000) : z.bmod (2 ^ 32) = z := Int.bmod_eq_of_le (by omega) (by omega)
theorem t_add {x y : Int32} (h1 : -100000000 ≤ x.toInt + y.toInt) (h2 : x.toInt + y.toInt ≤ 100000000) : (x + y).toInt = x.toInt + y.toInt := by
  rw [Int32.toInt_add]; exact bm h1 h2
theorem t_sub {x y : Int32} (h1 : -100000000 ≤ x.toInt - y.toInt) (h2 : x.toInt - y.toInt ≤ 100000000) : (x - y).toInt = x.toInt - y.toInt := by
  rw [Int32.toInt_sub]; exact bm h1 h2
theorem t_mul {x y : Int32} (h1 : -100000000 ≤ x.toInt * y.toInt) (h2 : x.toInt * y.toInt ≤ 100000000) : (x * y).toInt = x.toInt * y.toInt := by
  rw [Int32.toInt_mul]; exact bm h1 h2
theorem t_div {x : Int32} (h1 : 0 ≤ x.toInt) (h2 : x.toInt ≤ 100000000) : (x / 10).toInt = x.toInt / 10 := by
  have e : (10 : Int32).toInt = 10 := rfl
  rw [Int32.toInt_div, e, Int.tdiv_eq_ediv_of_nonneg h1]
  exact bm (by omega) (by omega)
theorem t_min {a b : Int32} : (minI a b).toInt = min a.toInt b.toInt := by
  unfold minI
  by_cases h : b < a
  · rw [if_pos h]; have := i_lt.mp h; omega
  · rw [if_neg h]; have := i_le.mp (Int32.not_lt.mp h); omega
theorem t_max {a b : Int32} : (maxI a b).toInt = max a.toInt b.toInt := by
  unfold maxI
  by_cases h : a < b
  · rw [if_pos h]; have := i_lt.mp h; omega
  · rw [if_neg h]; have := i_le.mp (Int32.not_lt.mp h); omega
theorem tlt0 : (0 : Int32).toInt = 0 := rfl
theorem tlt1 : (1 : Int32).toInt = 1 := rfl
theorem tlt2 : (2 : Int32).toInt = 2 := rfl
theorem tlt9 : (9 : Int32).toInt = 9 := rfl
theorem tlt10 : (10 : Int32).toInt = 10 := rfl
theorem tlt30 : (30 : Int32).toInt = 30 := rfl
theorem tlt50 : (50 : Int32).toInt = 50 := rfl
theorem tlt60 : (60 : Int32).toInt = 60 := rfl
theorem tlt99 : (99 : Int32).toInt = 99 := rfl
theorem flow_bd {at_ : Int32} : ∀ {fl : List T3} {acc : Int32} {b : Nat}, (∀ f ∈ fl, FlOk f) → 0 ≤ acc.toInt → acc.toInt ≤ b → b + 9 * fl.length ≤ 1000 → 0 ≤ (flowS fl at_ acc).toInt ∧ (flowS fl at_ acc).toInt ≤ b + 9 * fl.length
  | [], acc, b, _, h1, h2, _ => ⟨h1, by simpa using h2⟩
  | f :: fl, acc, b, hf, h1, h2, h3 => by
    obtain ⟨-, -, -, o4, o5⟩ := hf f (by simp)
    have p4 := i_le.mp o4
    have p5 := i_le.mp o5
    rw [tlt1] at p4
    rw [tlt9] at p5
    rw [List.length_cons] at h3
    have hr : 0 ≤ (rise f at_).toInt ∧ (rise f at_).toInt ≤ 9 := by
      unfold rise
      split
      · exact ⟨by omega, p5⟩
      · rw [tlt0]; omega
    have e := t_add (x := acc) (y := rise f at_) (by omega) (by omega)
    have := flow_bd (at_ := at_) (fl := fl) (acc := acc + rise f at_) (b := b + 9) (fun g hg => hf g (by simp [hg])) (by omega) (by omega) (by omega)
    rw [List.length_cons]
    show 0 ≤ (flowS fl at_ (acc + rise f at_)).toInt ∧ (flowS fl at_ (acc + rise f at_)).toInt ≤ _
    omega
/-- by how much an anchor drags: from 0 to 36 -/
theorem drg_bd {N : Nat} {R : Rv} (hw : Wf N R) {a c0 : T3} {j : Nat} (ha : AnOk1 a) (hj : R.ch[j]? = some c0) (at_ : Int32) : 0 ≤ (drgV R a c0 at_).toInt ∧ (drgV R a c0 at_).toInt ≤ 36 := by
  obtain ⟨k1, k2, k3, k4, k5, k6⟩ := hw.cs c0 (List.mem_of_getElem? hj)
  obtain ⟨l1, l2⟩ := hw.ld
  obtain ⟨a1, a2, -, -⟩ := ha
  have hfl := hw.fl5
  have z3 := i_le.mp k3; have z4 := i_le.mp k4; have z5 := i_le.mp k5; have z6 := i_le.mp k6
  have y1 := i_le.mp l1; have y2 := i_le.mp l2; have x1 := i_le.mp a1; have x2 := i_le.mp a2
  rw [tlt0] at z3 y1; rw [tlt9] at z4 z6 x2; rw [tlt1] at z5 x1; rw [tlt60] at y2
  obtain ⟨f1, f2⟩ := flow_bd (at_ := at_) (acc := c0.2.1) (b := 9) hw.fs z3 (by omega) (by omega)
  have hF : 0 ≤ (flowV R c0 at_).toInt ∧ (flowV R c0 at_).toInt ≤ 30 := by
    unfold flowV
    rw [t_min, tlt30]; omega
  have e10 : (10 * flowV R c0 at_).toInt = 10 * (flowV R c0 at_).toInt := t_mul (by rw [tlt10]; omega) (by rw [tlt10]; omega)
  have hP : 0 ≤ (pullV R a c0 at_).toInt ∧ (pullV R a c0 at_).toInt ≤ 360 := by
    unfold pullV
    split
    · rw [t_add (by omega) (by omega), e10]; omega
    · rw [Int32.add_zero, e10]; omega
  have h2b : (2 * c0.2.2).toInt = 2 * c0.2.2.toInt := t_mul (by rw [tlt2]; omega) (by rw [tlt2]; omega)
  have hm : 0 ≤ 2 * c0.2.2.toInt * a.2.1.toInt ∧ 2 * c0.2.2.toInt * a.2.1.toInt ≤ 18 * 9 := ⟨Int.mul_nonneg (by omega) (by omega), Int.mul_le_mul (by omega) x2 (by omega) (by omega)⟩
  have hH : (holdV a c0).toInt = 2 * c0.2.2.toInt * a.2.1.toInt := by
    show (2 * c0.2.2 * a.2.1).toInt = _
    rw [t_mul (by rw [h2b]; omega) (by rw [h2b]; omega), h2b]
  have hS : (pullV R a c0 at_ - holdV a c0).toInt = (pullV R a c0 at_).toInt - (holdV a c0).toInt := t_sub (by omega) (by omega)
  have hM : 0 ≤ (maxI 0 (pullV R a c0 at_ - holdV a c0)).toInt ∧ (maxI 0 (pullV R a c0 at_ - holdV a c0)).toInt ≤ 360 := by
    rw [t_max, tlt0]; omega
  have hA : (maxI 0 (pullV R a c0 at_ - holdV a c0) + 9).toInt = (maxI 0 (pullV R a c0 at_ - holdV a c0)).toInt + 9 := t_add (by rw [tlt9]; omega) (by rw [tlt9]; omega)
  show 0 ≤ ((maxI 0 (pullV R a c0 at_ - holdV a c0) + 9) / 10).toInt ∧ ((maxI 0 (pullV R a c0 at_ - holdV a c0) + 9) / 10).toInt ≤ 36
  rw [t_div (by omega) (by omega)]
  omega
theorem Wf.wAn {N : Nat} {R : Rv} (h : Wf N R) {as : List T3} (hl : as.length ≤ 6) (h1 : ∀ a ∈ as, ∃ j c0, a.1 = nI j ∧ R.ch[j]? = some c0) (h2 : ∀ a ∈ as, AnOk1 a) : Wf N (R.wAn as) := ⟨⟨h.1.1, h1⟩, h.fl5, hl, h.2.2.2.1, h.ln, h.st, h.hr, h.cs, h.fs, h2, h.ld⟩
/-- dragged for an hour -/
theorem dragA_ok {N : Nat} {R : Rv} (hw : Wf N R) {a : T3} (ha : a ∈ R.an) : ∃ j c0, a.1 = nI j ∧ R.ch[j]? = some c0 ∧ dragA R a = (a.1, a.2.1, minI 99 (a.2.2 + drgV R a c0 R.hr)) ∧ AnOk1 (dragA R a) ∧ (holdsA (dragA R a) = true → holdsA a = true) := by
  obtain ⟨j, c0, h1, h2⟩ := hw.ok.2 a ha
  have hk := hw.as a ha
  obtain ⟨b1, b2⟩ := drg_bd hw hk h2 R.hr
  obtain ⟨a1, a2, a3, a4⟩ := hk
  have e1 : dragA R a = (a.1, a.2.1, minI 99 (a.2.2 + drgV R a c0 R.hr)) := by
    rw [dragA_at hw.ch6 h1 h2]
    show (a.1, a.2.1, minI 99 (a.2.2 + drgV R a c0 R.hr * 1)) = _
    rw [Int32.mul_one]
  have z3 := i_le.mp a3; have z4 := i_le.mp a4
  rw [tlt0] at z3; rw [tlt99] at z4
  have eA := t_add (x := a.2.2) (y := drgV R a c0 R.hr) (by omega) (by omega)
  have eM : (minI 99 (a.2.2 + drgV R a c0 R.hr)).toInt = min 99 (a.2.2.toInt + (drgV R a c0 R.hr).toInt) := by rw [t_min, eA, tlt99]
  refine ⟨j, c0, h1, h2, e1, ?_, ?_⟩
  · rw [e1]
    exact ⟨a1, a2, i_le.mpr (by rw [tlt0, eM]; omega), i_le.mpr (by rw [tlt99, eM]; omega)⟩
  · rw [e1]
    intro h
    have h3 : minI 99 (a.2.2 + drgV R a c0 R.hr) < 50 := of_decide_eq_true h
    have h4 := i_lt.mp h3
    rw [eM, tlt50] at h4
    exact decide_eq_true (i_lt.mpr (by rw [tlt50]; omega))
theorem anK_mem {R : Rv} {i : Nat} {b : T3} (h : b ∈ anK R i) : b ∈ R.an ∨ ∃ a ∈ R.an, b = dragA R a := by
  rcases List.mem_append.mp h with h | h
  · obtain ⟨a, ha, e⟩ := List.mem_map.mp h
    exact Or.inr ⟨a, List.mem_of_mem_take ha, e.symm⟩
  · exact Or.inl (List.mem_of_mem_drop h)
theorem Wf.anK {N : Nat} {R : Rv} (hw : Wf N R) (i : Nat) : Wf N (R.wAn (anK R i)) := by
  refine hw.wAn (by rw [anK_len]; exact hw.an6) (fun b hb => ?_) (fun b hb => ?_)
  · rcases anK_mem hb with h | ⟨a, ha, rfl⟩
    · exact hw.ok.2 b h
    · obtain ⟨j, c0, h1, h2, h3, -⟩ := dragA_ok hw ha
      exact ⟨j, c0, by rw [h3]; exact h1, h2⟩
  · rcases anK_mem hb with h | ⟨a, ha, rfl⟩
    · exact hw.as b h
    · obtain ⟨j, c0, h1, h2, h3, h4, -⟩ := dragA_ok hw ha
      exact h4
theorem Wf.live {N : Nat} {R : Rv} (hw : Wf N R) (hh : R.hr + 1 ≤ 9999) : Wf N (liveR R) := by
  have h1 := hw.anK R.an.length
  rw [anK_end (Nat.le_refl _)] at h1
  obtain ⟨b1, b2⟩ := hw.hr
  have z1 := i_le.mp b1; have z2 := i_le.mp b2
  rw [tlt0] at z1
  have e9 : (9999 : Int32).toInt = 9999 := rfl
  rw [e9] at z2
  have eA := t_add (x := R.hr) (y := 1) (by rw [tlt1]; omega) (by rw [tlt1]; omega)
  exact ⟨h1.1, Nat.le_trans (List.length_filter_le _ _) hw.fl5, h1.2.2.1, hw.2.2.2.1, hw.ln, hw.st, ⟨i_le.mpr (by rw [tlt0, eA, tlt1]; omega), hh⟩, hw.cs, fun f hf => hw.fs f (List.mem_filter.mp hf).1, h1.as, hw.ld⟩
