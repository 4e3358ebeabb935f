/-! what each deed comes to keeps a river well -/
theorem flt_no {t : Tal} {c : Nat} (h : ∀ y ∈ t, y.1 ≠ c) : t.filter (fun x => x.1 != c) = t := List.filter_eq_self.mpr (fun y hy => by simpa using h y hy)
theorem map_no {t : Tal} {c : Nat} {v : Int32} (h : ∀ y ∈ t, y.1 ≠ c) : t.map (fun x => if x.1 = c then (x.1, v) else x) = t := by
  have e : t.map (fun x => if x.1 = c then (x.1, v) else x) = t.map id := List.map_congr_left (fun y hy => if_neg (h y hy))
  rw [e, List.map_id]
theorem nd_no {x : Nat × Int32} {t : Tal} (h : ((x :: t).map (·.1)).Nodup) : ∀ y ∈ t, y.1 ≠ x.1 := fun y hy e => by
  rw [List.map_cons] at h
  exact (List.nodup_cons.mp h).1 (List.mem_map.mpr ⟨y, hy, e⟩)
theorem nd_tl {x : Nat × Int32} {t : Tal} (h : ((x :: t).map (·.1)).Nodup) : (t.map (·.1)).Nodup := by
  rw [List.map_cons] at h
  exact (List.nodup_cons.mp h).2
theorem tof_c {x : Nat × Int32} {t : Tal} {c : Nat} (h : x.1 = c) : tof (x :: t) c = x.2 := if_pos h
theorem tof_n {x : Nat × Int32} {t : Tal} {c : Nat} (h : ¬ x.1 = c) : tof (x :: t) c = tof t c := if_neg h
theorem isum_out {c : Nat} : ∀ {t : Tal}, (t.map (·.1)).Nodup → isum (t.filter (fun x => x.1 != c)) = isum t - (tof t c).toInt * (wgt c).toInt
  | [], _ => by
    show (0 : Int) = 0 - (0 : Int32).toInt * _
    rw [tlt0, Int.zero_mul]
    rfl
  | x :: t, h => by
    by_cases e : x.1 = c
    · rw [List.filter_cons_of_neg (by simp [e]), flt_no (fun y hy => e ▸ nd_no h y hy), tof_c e, ← e]
      show isum t = x.2.toInt * (wgt x.1).toInt + isum t - x.2.toInt * (wgt x.1).toInt
      omega
    · rw [List.filter_cons_of_pos (by simp [e]), tof_n e]
      have h1 := isum_out (c := c) (nd_tl h)
      show x.2.toInt * (wgt x.1).toInt + isum (t.filter (fun x => x.1 != c)) = x.2.toInt * (wgt x.1).toInt + isum t - _
      rw [h1]
      omega
theorem isum_set {c : Nat} {v : Int32} : ∀ {t : Tal}, (t.map (·.1)).Nodup → (t.any (fun y => y.1 == c)) = true → isum (t.map (fun x => if x.1 = c then (x.1, v) else x)) = isum t - (tof t c).toInt * (wgt c).toInt + v.toInt * (wgt c).toInt
  | [], _, h => by cases h
  | x :: t, h, ha => by
    by_cases e : x.1 = c
    · rw [List.map_cons, if_pos e, map_no (fun y hy => e ▸ nd_no h y hy), tof_c e, ← e]
      show v.toInt * (wgt x.1).toInt + isum t = x.2.toInt * (wgt x.1).toInt + isum t - x.2.toInt * (wgt x.1).toInt + v.toInt * (wgt x.1).toInt
      omega
    · have ha2 : (t.any (fun y => y.1 == c)) = true := by simpa [e] using ha
      rw [List.map_cons, if_neg e, tof_n e]
      have h1 := isum_set (v := v) (nd_tl h) ha2
      show x.2.toInt * (wgt x.1).toInt + isum _ = x.2.toInt * (wgt x.1).toInt + isum t - _ + _
      rw [h1]
      omega
theorem isum_app {x : Nat × Int32} : ∀ {t : Tal}, isum (t ++ [x]) = isum t + x.2.toInt * (wgt x.1).toInt
  | [] => by
    show x.2.toInt * (wgt x.1).toInt + 0 = 0 + x.2.toInt * (wgt x.1).toInt
    omega
  | y :: t => by
    have h1 := isum_app (x := x) (t := t)
    show y.2.toInt * (wgt y.1).toInt + isum (t ++ [x]) = y.2.toInt * (wgt y.1).toInt + isum t + _
    rw [h1]
    omega
theorem isum_tadd {m : Nat} {t : Tal} (h : TOk m t) {c : Nat} {x : Int32} (hx : (tof t c + x).toInt = (tof t c).toInt + x.toInt) : isum (tadd t c x) = isum t + x.toInt * (wgt c).toInt := by
  unfold tadd
  by_cases h0 : tof t c + x = 0
  · rw [if_pos h0, isum_out h.1]
    rw [h0, tlt0] at hx
    have e : (tof t c).toInt = - x.toInt := by omega
    rw [e, Int.neg_mul]
    omega
  · rw [if_neg h0]
    by_cases ha : (t.any (fun y => y.1 == c)) = true
    · rw [if_pos ha, isum_set h.1 ha, hx, Int.add_mul]
      omega
    · rw [if_neg ha, isum_app]
      have hno : ∀ y ∈ t, y.1 ≠ c := fun y hy q => ha (List.any_eq_true.mpr ⟨y, hy, by simp [q]⟩)
      show isum t + (tof t c + x).toInt * (wgt c).toInt = _
      rw [hx, tof_no hno, tlt0, Int.zero_add]
theorem tof_isum {c : Nat} : ∀ {t : Tal}, (∀ x ∈ t, 0 < x.2 ∧ x.2 ≤ 999) → (tof t c).toInt ≤ isum t
  | [], _ => Int.le_refl _
  | x :: t, h => by
    have h1 := tof_isum (c := c) (t := t) (fun y hy => h y (by simp [hy]))
    obtain ⟨a, b⟩ := h x (by simp)
    have p := i_lt.mp a
    have q := i_le.mp b
    have l999 : (999 : Int32).toInt = 999 := rfl
    rw [tlt0] at p
    rw [l999] at q
    have w := wgt_bd x.1
    have m := mul_bd (by omega) q w.1 w.2
    have hb := isum_bd (t := t) (fun y hy => h y (by simp [hy]))
    have hm : x.2.toInt ≤ x.2.toInt * (wgt x.1).toInt := by
      have := Int.mul_le_mul_of_nonneg_left w.1 (show 0 ≤ x.2.toInt by omega)
      omega
    show _ ≤ x.2.toInt * (wgt x.1).toInt + isum t
    by_cases e : x.1 = c
    · rw [tof_c e]; omega
    · rw [tof_n e]; omega
theorem tneg {x : Int32} (h1 : 0 ≤ x.toInt) (h2 : x.toInt ≤ 1000) : (-x).toInt = - x.toInt := by
  rw [Int32.toInt_neg]
  exact bm (by omega) (by omega)
theorem wf_com {N : Nat} {R : Rv} {c : Nat} {n : Int32} (h : Wf N R) (hc : c < 147) (h1 : c / 7 % 7 ≤ R.ch.length) (h2 : c % 7 ≤ R.ch.length) (hn : inR n 1 99 = true) (h9 : tof R.wa c + n ≤ 999) : Wf (N + 1) (R.wWa (tadd R.wa c n)) := by
  obtain ⟨n1, n2⟩ := inR_iff.mp hn
  have p1 := i_le.mp n1
  have p2 := i_le.mp n2
  rw [tlt1] at p1
  rw [tlt99] at p2
  have l999 : (999 : Int32).toInt = 999 := rfl
  have hr := h.wa.rng c
  have hr2 : 0 ≤ (tof R.wa c).toInt ∧ (tof R.wa c).toInt ≤ 999 := by
    rcases hr with e | ⟨a, b⟩
    · rw [e, tlt0]; omega
    · have q1 := i_lt.mp a
      have q2 := i_le.mp b
      rw [tlt0] at q1
      rw [l999] at q2
      omega
  have e1 := t_add (x := tof R.wa c) (y := n) (by omega) (by omega)
  obtain ⟨t1, t2⟩ := h.wa.tadd hc h1 h2 (Or.inr ⟨i_lt.mpr (by rw [tlt0, e1]; omega), h9⟩)
  have l := h.ln
  exact ⟨h.1, h.2.1, h.2.2.1, ⟨t1, h.fo, h.af⟩, ⟨by show (tadd R.wa c n).length ≤ _; omega, by show R.fo.length ≤ _; omega, by show R.af.length ≤ _; omega⟩, h.st, h.hr, h.cs, h.fs, h.as, h.ld⟩
theorem wf_brd {N : Nat} {R : Rv} {c : Nat} {n : Int32} {w : Bool} (h : Wf N R) (hN : N ≤ 400) (hc : c < 147) (h1 : c / 7 % 7 ≤ R.ch.length) (h2 : c % 7 ≤ R.ch.length) (hn : inR n 1 99 = true) (h3 : n ≤ tof R.wa c) (h4 : ldR R + n * wgt c ≤ 60) : Wf (N + 1) (brdR R c n w) := by
  obtain ⟨n1, n2⟩ := inR_iff.mp hn
  have p1 := i_le.mp n1
  have p2 := i_le.mp n2
  have p3 := i_le.mp h3
  have p4 := i_le.mp h4
  rw [tlt1] at p1
  rw [tlt99] at p2
  rw [tlt60] at p4
  have l999 : (999 : Int32).toInt = 999 := rfl
  have rng : ∀ t : Tal, TOk R.ch.length t → 0 ≤ (tof t c).toInt ∧ (tof t c).toInt ≤ 999 := fun t ht => by
    rcases ht.rng c with e | ⟨a, b⟩
    · rw [e, tlt0]; omega
    · have q1 := i_lt.mp a
      have q2 := i_le.mp b
      rw [tlt0] at q1
      rw [l999] at q2
      omega
  have rw1 := rng _ h.wa
  have e0 := tneg (x := n) (by omega) (by omega)
  have e1 := t_add (x := tof R.wa c) (y := -n) (by omega) (by omega)
  have hv : tof R.wa c + -n = 0 ∨ (0 < tof R.wa c + -n ∧ tof R.wa c + -n ≤ 999) := by
    by_cases q : n.toInt = (tof R.wa c).toInt
    · exact Or.inl (Int32.toInt_inj.mp (by rw [e1, e0, tlt0]; omega))
    · exact Or.inr ⟨i_lt.mpr (by rw [tlt0, e1, e0]; omega), i_le.mpr (by rw [l999, e1, e0]; omega)⟩
  obtain ⟨t1, t2⟩ := h.wa.tadd hc h1 h2 hv
  have l := h.ln
  have w9 := wgt_bd c
  have m := mul_bd (x := n.toInt) (w := (wgt c).toInt) (by omega) (by omega) w9.1 w9.2
  have em := t_mul (x := n) (y := wgt c) (by omega) (by omega)
  have ld0 := ld_int h (by omega)
  have ldb := h.ld
  have q1 := i_le.mp ldb.1
  have q2 := i_le.mp ldb.2
  rw [tlt0] at q1
  rw [tlt60] at q2
  have ea := t_add (x := ldR R) (y := n * wgt c) (by omega) (by omega)
  have bf := isum_bd h.fo.ps
  have ba := isum_bd h.af.ps
  have add : ∀ t : Tal, TOk R.ch.length t → t.length ≤ N → isum t ≤ 60 → TOk R.ch.length (tadd t c n) ∧ (tadd t c n).length ≤ t.length + 1 ∧ isum (tadd t c n) = isum t + n.toInt * (wgt c).toInt := fun t ht hl hs => by
    have r2 := rng t ht
    have r3 := tof_isum (c := c) ht.ps
    have e2 := t_add (x := tof t c) (y := n) (by omega) (by omega)
    obtain ⟨a, b⟩ := ht.tadd hc h1 h2 (x := n) (Or.inr ⟨i_lt.mpr (by rw [tlt0, e2]; omega), i_le.mpr (by rw [l999, e2]; omega)⟩)
    exact ⟨a, b, isum_tadd ht e2⟩
  cases w with
  | true =>
    obtain ⟨a1, a2, a3⟩ := add R.af h.af l.2.2 (by omega)
    have s1 := tsum_int h.fo.ps (by omega)
    have s2 := tsum_int a1.ps (by omega)
    have es := t_add (x := tsum true R.fo) (y := tsum true (tadd R.af c n)) (by omega) (by omega)
    exact ⟨h.1, h.2.1, h.2.2.1, ⟨t1, h.fo, a1⟩, ⟨by show (tadd R.wa c (-n)).length ≤ _; omega, by show R.fo.length ≤ _; omega, by show (tadd R.af c n).length ≤ _; omega⟩, h.st, h.hr, h.cs, h.fs, h.as, ⟨i_le.mpr (by rw [tlt0]; show 0 ≤ (tsum true R.fo + tsum true (tadd R.af c n)).toInt; rw [es]; omega), i_le.mpr (by rw [tlt60]; show (tsum true R.fo + tsum true (tadd R.af c n)).toInt ≤ 60; rw [es]; omega)⟩⟩
  | false =>
    obtain ⟨a1, a2, a3⟩ := add R.fo h.fo l.2.1 (by omega)
    have s1 := tsum_int h.af.ps (by omega)
    have s2 := tsum_int a1.ps (by omega)
    have es := t_add (x := tsum true (tadd R.fo c n)) (y := tsum true R.af) (by omega) (by omega)
    exact ⟨h.1, h.2.1, h.2.2.1, ⟨t1, a1, h.af⟩, ⟨by show (tadd R.wa c (-n)).length ≤ _; omega, by show (tadd R.fo c n).length ≤ _; omega, by show R.af.length ≤ _; omega⟩, h.st, h.hr, h.cs, h.fs, h.as, ⟨i_le.mpr (by rw [tlt0]; show 0 ≤ (tsum true (tadd R.fo c n) + tsum true R.af).toInt; rw [es]; omega), i_le.mpr (by rw [tlt60]; show (tsum true (tadd R.fo c n) + tsum true R.af).toInt ≤ 60; rw [es]; omega)⟩⟩
theorem tsum_tsp {i : Nat} {t : Tal} (h : ∀ x ∈ t, x.1 / 7 % 7 ≤ 5 ∧ x.1 % 7 ≤ 5) : tsum true (tsp i t) = tsum true t := by
  have key : ∀ (u : Tal) (a : Int32), (∀ x ∈ u, x.1 / 7 % 7 ≤ 5 ∧ x.1 % 7 ≤ 5) → (tsp i u).foldl (fun s x => s + x.2 * (if true = true then wgt x.1 else 1)) a = u.foldl (fun s x => s + x.2 * (if true = true then wgt x.1 else 1)) a := by
    intro u
    induction u with
    | nil => intro a _; rfl
    | cons x u ih =>
      intro a hu
      have e := (gsp_k (j := i) (hu x (by simp)).1 (hu x (by simp)).2).1
      show (tsp i u).foldl _ (a + x.2 * (if true = true then wgt (gsp i x.1) else 1)) = u.foldl _ (a + x.2 * (if true = true then wgt x.1 else 1))
      rw [show wgt (gsp i x.1) = wgt x.1 from by unfold wgt; rw [e]]
      exact ih _ (fun y hy => hu y (by simp [hy]))
  exact key t 0 h
theorem TOk.tsp {m i : Nat} {t : Tal} (h : TOk m t) (hm : m ≤ 5) : TOk (m + 1) (tsp i t) := by
  have hs := h.sp hm
  refine ⟨?_, fun y hy => ?_⟩
  · rw [List.map_map]
    have h1 := h.1
    clear h
    induction t with
    | nil => exact List.nodup_nil
    | cons x t ih =>
      rw [List.map_cons]
      refine List.nodup_cons.mpr ⟨fun hm2 => ?_, ih (fun y hy => hs y (by simp [hy])) (nd_tl h1)⟩
      obtain ⟨y, hy, e⟩ := List.mem_map.mp hm2
      have a := hs x (by simp)
      have b := hs y (by simp [hy])
      exact nd_no h1 y hy (gsp_inj b.1 b.2 a.1 a.2 e)
  · obtain ⟨x, hx, rfl⟩ := List.mem_map.mp hy
    obtain ⟨a, b, c, d⟩ := h.2 x hx
    have e := hs x hx
    obtain ⟨k1, k2, k3⟩ := gsp_k (j := i) e.1 e.2
    have b1 : bh i (x.1 / 7 % 7) ≤ x.1 / 7 % 7 + 1 := by unfold bh; split <;> omega
    have b2 : bh i (x.1 % 7) ≤ x.1 % 7 + 1 := by unfold bh; split <;> omega
    exact ⟨gsp_lt a e.1 e.2, by rw [k2]; omega, by rw [k3]; omega, d⟩
theorem wf_spl {N i : Nat} {R : Rv} {c : T3} {w : Int32} (h : Wf N R) (hc : R.ch[i]? = some c) (hl : R.ch.length < 6) (hw : inR w 10 99 = true) (hw2 : inR (c.1 - w) 10 99 = true) : Wf N (spR R i c w) := by
  have hi := (List.getElem?_eq_some_iff.mp hc).1
  have hlen : (spC R i c w).length = R.ch.length + 1 := by
    rw [List.length_insertIdx_of_le_length (by rw [List.length_set]; omega), List.length_set]
  have kc := h.cs c (List.mem_of_getElem? hc)
  have T := fun (t : Tal) (ht : TOk R.ch.length t) => ht.tsp (i := i) (by omega)
  have l := h.ln
  refine ⟨⟨by show (spC R i c w).length ≤ 6; rw [hlen]; omega, fun a ha => ?_⟩, h.fl5, by show (R.an.map (aSp (nI i))).length ≤ 6; rw [List.length_map]; exact h.an6, ?_, ?_, ?_, h.hr, fun d hd => ?_, h.fs, fun a ha => ?_, ?_⟩
  · obtain ⟨b, hb, rfl⟩ := List.mem_map.mp (show a ∈ R.an.map (aSp (nI i)) from ha)
    obtain ⟨j, c0, g1, g2⟩ := h.ok.2 b hb
    have hj := (List.getElem?_eq_some_iff.mp g2).1
    have ex : ∀ k, k < R.ch.length + 1 → ∃ c1, (spC R i c w)[k]? = some c1 := fun k hk => ⟨_, List.getElem?_eq_getElem (by rw [hlen]; exact hk)⟩
    by_cases q : b.1 ≤ nI i
    · obtain ⟨c1, e1⟩ := ex j (by omega)
      exact ⟨j, c1, by show (if b.1 ≤ nI i then b.1 else b.1 + 1) = nI j; rw [if_pos q, g1], e1⟩
    · obtain ⟨c1, e1⟩ := ex (j + 1) (by omega)
      exact ⟨j + 1, c1, by show (if b.1 ≤ nI i then b.1 else b.1 + 1) = nI (j + 1); rw [if_neg q, g1, nI_1], e1⟩
  · show TOk (spC R i c w).length (tsp i R.wa) ∧ TOk (spC R i c w).length (tsp i R.fo) ∧ TOk (spC R i c w).length (tsp i R.af)
    rw [hlen]
    exact ⟨T _ h.wa, T _ h.fo, T _ h.af⟩
  · show (tsp i R.wa).length ≤ N ∧ (tsp i R.fo).length ≤ N ∧ (tsp i R.af).length ≤ N
    rw [List.length_map, List.length_map, List.length_map]
    exact l
  · show ∃ j, j ≤ (spC R i c w).length ∧ R.st + b2i (!decide (R.st ≤ nI i)) = nI j
    rw [hlen]
    obtain ⟨j, g1, g2⟩ := h.st
    rw [g2]
    by_cases q : nI j ≤ nI i
    · exact ⟨j, by omega, by rw [decide_eq_true q]; exact Int32.add_zero _⟩
    · exact ⟨j + 1, by omega, by rw [decide_eq_false q]; exact nI_1 _⟩
  · rcases (List.mem_insertIdx (by rw [List.length_set]; omega)).mp (show d ∈ spC R i c w from hd) with q | q
    · rw [q]
      exact ⟨(inR_iff.mp hw2).1, (inR_iff.mp hw2).2, kc.2.2⟩
    · rcases set_mem q with q | q
      · exact h.cs d q
      · rw [q]
        exact ⟨(inR_iff.mp hw).1, (inR_iff.mp hw).2, kc.2.2⟩
  · obtain ⟨b, hb, rfl⟩ := List.mem_map.mp (show a ∈ R.an.map (aSp (nI i)) from ha)
    exact h.as b hb
  · show 0 ≤ tsum true (tsp i R.fo) + tsum true (tsp i R.af) ∧ tsum true (tsp i R.fo) + tsum true (tsp i R.af) ≤ 60
    rw [tsum_tsp (h.fo.sp (by omega)), tsum_tsp (h.af.sp (by omega))]
    exact h.ld
/-- an outcome that keeps a river well -/
def OW (N : Nat) (o : Out) : Prop := ∀ v R2, o = .inl (v, R2) → Wf (N + 1) R2
theorem ow_r {N : Nat} {y : Bool ⊕ Int32 × Int32} : OW N (.inr y) := fun _ _ h => by cases h
theorem ow_l {N : Nat} {v : Int32} {R : Rv} (h : Wf (N + 1) R) : OW N (.inl (v, R)) := fun _ _ e => by cases e; exact h
theorem idx_lt {n : Int32} {m : Nat} (hm : m < 2 ^ 31) (h : inR n 0 (nI m - 1) = true) : ∃ i, i < m ∧ n = nI i := by
  cases m with
  | zero =>
    obtain ⟨h1, h2⟩ := inR_iff.mp h
    exact absurd (Int32.le_trans h1 h2) (by decide)
  | succ m =>
    rw [show nI (m + 1) - 1 = nI m from by rw [← nI_1, Int32.add_sub_cancel]] at h
    obtain ⟨i, h1, h2⟩ := idx_le (by omega) h
    exact ⟨i, by omega, h2⟩
theorem OW.dig {N : Nat} {R : Rv} (h : Wf N R) {a b c : Int32} : OW N (digT a b c R) := by
  unfold digT
  split
  · next hc =>
    unfold digO
    split
    · next hl => exact ow_l ((wf_dig h hl ⟨(inR_iff.mp hc.1).1, (inR_iff.mp hc.1).2, (inR_iff.mp hc.2.1).1, (inR_iff.mp hc.2.1).2, (inR_iff.mp hc.2.2).1, (inR_iff.mp hc.2.2).2⟩).mono (Nat.le_succ N))
    · exact ow_r
  · exact ow_r
theorem OW.spl {N : Nat} {R : Rv} (h : Wf N R) {n w : Int32} : OW N (splO R n w) := by
  have h6 := h.ch6
  unfold splO
  split
  · next hn =>
    obtain ⟨i, hi, rfl⟩ := idx_lt (by omega) hn
    rw [nI_clamp (by omega)]
    split
    · next c hc =>
      split
      · next hl =>
        split
        · next h1 =>
          split
          · next h2 => exact ow_l ((wf_spl h hc hl h1 h2).mono (Nat.le_succ N))
          · exact ow_r
        · exact ow_r
      · exact ow_r
    · exact ow_r
  · exact ow_r
theorem OW.shf {N : Nat} {R : Rv} (h : Wf N R) {n b : Int32} : OW N (shfO R n b) := by
  unfold shfO
  split
  · split
    · split
      · next c d hc hd =>
        split
        · next h1 =>
          split
          · next h2 => exact ow_l ((wf_shf h hc hd h1 h2).mono (Nat.le_succ N))
          · exact ow_r
        · exact ow_r
      · exact ow_r
    · exact ow_r
  · exact ow_r
theorem OW.flo {N : Nat} {R : Rv} (h : Wf N R) {a b c : Int32} : OW N (floT a b c R) := by
  unfold floT
  split
  · next hc =>
    unfold floO
    split
    · next hl => exact ow_l ((wf_flo h hl hc.1 hc.2.1 hc.2.2).mono (Nat.le_succ N))
    · exact ow_r
  · exact ow_r
theorem OW.anc {N : Nat} {R : Rv} (h : Wf N R) {n s : Int32} : OW N (ancO n s R) := by
  have h6 := h.ch6
  unfold ancO
  split
  · next hn =>
    obtain ⟨i, hi, rfl⟩ := idx_lt (by omega) hn
    split
    · next hs =>
      split
      · next hl => exact ow_l ((wf_anc h hl hi hs).mono (Nat.le_succ N))
      · exact ow_r
    · exact ow_r
  · exact ow_r
theorem OW.wei {N : Nat} {R : Rv} (h : Wf N R) {n : Int32} : OW N (weiO n R) := by
  unfold weiO
  split
  · split
    · exact ow_l ((wf_wei h).mono (Nat.le_succ N))
    · exact ow_r
  · exact ow_r
theorem OW.com {N : Nat} {R : Rv} (h : Wf N R) {k f t n : Int32} : OW N (comO k f t n R) := by
  have h6 := h.ch6
  unfold comO
  split
  · next h1 =>
    split
    · next h2 =>
      split
      · next h9 =>
        obtain ⟨f9, hf, rfl⟩ := idx_le (by omega) h1.1
        obtain ⟨t9, ht, rfl⟩ := idx_le (by omega) h1.2
        obtain ⟨k9, hk, rfl⟩ := idx_le (m := 2) (by decide) h2.1
        rw [nI_clamp (by omega), nI_clamp (by omega), nI_clamp (by omega)] at h9 ⊢
        obtain ⟨e1, e2, e3⟩ := gco_p (k := k9) (f := f9) (t := t9) (by omega) (by omega)
        exact ow_l (wf_com h (gco_lt (by omega) (by omega) (by omega)) (by rw [e2]; exact hf) (by rw [e3]; exact ht) h2.2.2 h9)
      · exact ow_r
    · exact ow_r
  · exact ow_r
theorem OW.boa {N : Nat} {R : Rv} (h : Wf N R) (hN : N ≤ 400) {k t n s : Int32} : OW N (boaO k t n s R) := by
  have h6 := h.ch6
  obtain ⟨j, hj, hst⟩ := h.st
  unfold boaO
  split
  · next h1 =>
    split
    · next h2 =>
      obtain ⟨t9, ht, rfl⟩ := idx_le (by omega) h1
      obtain ⟨k9, hk, rfl⟩ := idx_le (m := 2) (by decide) h2.1
      rw [hst, nI_clamp (by omega), nI_clamp (by omega), nI_clamp (by omega)]
      obtain ⟨e1, e2, e3⟩ := gco_p (k := k9) (f := j) (t := t9) (by omega) (by omega)
      unfold brdO
      split
      · next h3 =>
        split
        · next h4 => exact ow_l (wf_brd h hN (gco_lt (by omega) (by omega) (by omega)) (by rw [e2]; exact hj) (by rw [e3]; exact ht) h2.2.1 h3 h4)
        · exact ow_r
      · exact ow_r
    · exact ow_r
  · exact ow_r
theorem OW.lnd {N : Nat} {R : Rv} (h : Wf N R) (hN : N ≤ 400) : OW N (lndO R) := ow_l ((wf_lnd h (by omega)).mono (Nat.le_succ N))
theorem OW.far {N : Nat} {R : Rv} (h : Wf N R) {k n : Int32} : OW N (fareT k n R) := by
  unfold fareT
  split
  · exact ow_l ((wf_fa h).mono (Nat.le_succ N))
  · exact ow_r
theorem OW.rop {N : Nat} {R : Rv} (h : Wf N R) {n : Int32} : OW N (ropeT n R) := by
  unfold ropeT
  split
  · exact ow_l ((wf_rp h).mono (Nat.le_succ N))
  · exact ow_r
theorem OW.crs {N : Nat} {R : Rv} (h : Wf N R) {w : Bool} : OW N (crsO R w) := by
  unfold crsO
  split
  · exact ow_r
  · next hc => exact ow_l ((wf_crs h hc).mono (Nat.le_succ N))
theorem OW.pas {N : Nat} {R : Rv} (h : Wf N R) {n : Int32} : OW N (pasO n R) := by
  unfold pasO
  split
  · next hn =>
    split
    · next hh =>
      obtain ⟨H, hH, rfl⟩ := idx_le (n := n) (m := 99) (by decide) (inR_iff.mpr ⟨Int32.le_trans (by decide) (inR_iff.mp hn).1, (inR_iff.mp hn).2⟩)
      rw [nI_clamp (by omega)]
      exact ow_l ((h.liveN hH hh H (Nat.le_refl _)).mono (Nat.le_succ N))
    · exact ow_r
  · exact ow_r
theorem OW.out {N : Nat} {R : Rv} (h : Wf N R) (hN : N ≤ 400) : ∀ {c : Cm}, OW N (outC c R)
  | (0, a, b, c, d) => OW.crs h
  | (1, a, b, c, d) => OW.pas h
  | (2, a, b, c, d) => OW.lnd h hN
  | (3, a, b, c, d) => OW.com h
  | (4, a, b, c, d) => OW.boa h hN
  | (5, a, b, c, d) => OW.anc h
  | (_ + 6, a, b, c, d) => OW.wei h
theorem WfF.mono {N M : Nat} {F : Fy} (h : WfF N F) (hN : N ≤ M) : WfF M F := ⟨h.1.mono hN, fun P hP => (h.2.1 P hP).mono hN, h.2.2.1, fun S hS => (h.2.2.2 S hS).mono hN⟩
theorem WfF.don {N : Nat} {F : Fy} {R2 : Rv} (h : WfF N F) (h2 : Wf (N + 1) R2) : WfF (N + 1) ((F.wRv R2).wPa (pushP F.rv F.pa)) := ⟨h2, fun P hP => (List.mem_cons.mp (List.mem_of_mem_take (show P ∈ (F.rv :: F.pa).take 8 from hP))).elim (fun e => e ▸ h.1.mono (Nat.le_succ N)) (fun q => (h.2.1 P q).mono (Nat.le_succ N)), by show ((F.rv :: F.pa).take 8).length ≤ 8; rw [List.length_take]; omega, fun S hS => (h.2.2.2 S hS).mono (Nat.le_succ N)⟩
theorem WfF.ch {N : Nat} {F : Fy} {o : Out} (h : WfF N F) (ho : OW N o) : WfF (N + 1) (chF F o) := by
  rcases o with ⟨v, R2⟩ | b | p
  · exact h.don (ho v R2 rfl)
  · exact h.mono (Nat.le_succ N)
  · exact (show WfF N F from h).mono (Nat.le_succ N)
