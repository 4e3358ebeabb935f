/-! every outcome keeps a river well -/
theorem TOk.mono {m m' : Nat} {t : Tal} (h : TOk m t) (hm : m ≤ m') : TOk m' t := ⟨h.1, fun x hx => ⟨(h.2 x hx).1, Nat.le_trans (h.2 x hx).2.1 hm, Nat.le_trans (h.2 x hx).2.2.1 hm, (h.2 x hx).2.2.2⟩⟩
theorem TOk.flt {m : Nat} {t : Tal} (h : TOk m t) (p : Nat × Int32 → Bool) : TOk m (t.filter p) := ⟨h.1.sublist (List.filter_sublist.map _), fun x hx => h.2 x (List.mem_filter.mp hx).1⟩
theorem TOk.tadd {m : Nat} {t : Tal} (h : TOk m t) {c : Nat} {x : Int32} (hc : c < 147) (h1 : c / 7 % 7 ≤ m) (h2 : c % 7 ≤ m) (hv : tof t c + x = 0 ∨ (0 < tof t c + x ∧ tof t c + x ≤ 999)) : TOk m (tadd t c x) ∧ (tadd t c x).length ≤ t.length + 1 := by
  unfold _root_.Jvm.Pilot.CBraidedFerryLaw_law_r9525_2cad28.tadd
  by_cases h0 : tof t c + x = 0
  · rw [if_pos h0]
    exact ⟨h.flt _, Nat.le_succ_of_le (List.length_filter_le _ _)⟩
  · rw [if_neg h0]
    obtain ⟨v1, v2⟩ := hv.resolve_left h0
    by_cases ha : (t.any (fun y => y.1 == c)) = true
    · rw [if_pos ha]
      have hf : ∀ y : Nat × Int32, (if y.1 = c then (y.1, tof t c + x) else y).1 = y.1 := fun y => by
        by_cases e : y.1 = c
        · rw [if_pos e]
        · rw [if_neg e]
      refine ⟨⟨?_, fun y hy => ?_⟩, by rw [List.length_map]; exact Nat.le_succ _⟩
      · rw [List.map_map]
        rw [show ((fun y : Nat × Int32 => y.1) ∘ fun y => if y.1 = c then (y.1, tof t c + x) else y) = (fun y => y.1) from funext hf]
        exact h.1
      · obtain ⟨z, hz, rfl⟩ := List.mem_map.mp hy
        rw [hf]
        obtain ⟨a, b, d, e, f⟩ := h.2 z hz
        by_cases ez : z.1 = c
        · rw [if_pos ez]
          exact ⟨a, b, d, v1, v2⟩
        · rw [if_neg ez]
          exact ⟨a, b, d, e, f⟩
    · rw [if_neg ha]
      have hno : ∀ y ∈ t, y.1 ≠ c := fun y hy q => ha (List.any_eq_true.mpr ⟨y, hy, by simp [q]⟩)
      refine ⟨⟨?_, fun y hy => ?_⟩, by rw [List.length_append]; exact Nat.le_refl _⟩
      · rw [List.map_append, List.nodup_append]
        refine ⟨h.1, by simp, fun a ha2 b hb => ?_⟩
        obtain ⟨y, hy, rfl⟩ := List.mem_map.mp ha2
        simp at hb
        rw [hb]
        exact hno y hy
      · rcases List.mem_append.mp hy with q | q
        · exact h.2 y q
        · rw [List.mem_singleton.mp q]
          exact ⟨hc, h1, h2, v1, v2⟩
theorem wf_rp {N : Nat} {R : Rv} {x : Int32} (h : Wf N R) : Wf N (R.wRp x) := ⟨h.1, h.2.1, h.2.2.1, h.2.2.2.1, h.2.2.2.2.1, h.2.2.2.2.2.1, h.2.2.2.2.2.2.1, h.2.2.2.2.2.2.2.1, h.2.2.2.2.2.2.2.2.1, h.2.2.2.2.2.2.2.2.2.1, h.2.2.2.2.2.2.2.2.2.2⟩
theorem wf_fa {N : Nat} {R : Rv} {k : Nat} {x : Int32} (h : Wf N R) : Wf N (faS R k x) := ⟨h.1, h.2.1, h.2.2.1, h.2.2.2.1, h.2.2.2.2.1, h.2.2.2.2.2.1, h.2.2.2.2.2.2.1, h.2.2.2.2.2.2.2.1, h.2.2.2.2.2.2.2.2.1, h.2.2.2.2.2.2.2.2.2.1, h.2.2.2.2.2.2.2.2.2.2⟩
/-- other channels, where the anchors still lie in some -/
theorem wf_ch {N : Nat} {R : Rv} {cs : List T3} (h : Wf N R) (hl : cs.length ≤ 6) (hg : R.ch.length ≤ cs.length) (hc : ∀ c ∈ cs, ChOk c) : Wf N (R.wCh cs) := by
  refine ⟨⟨hl, fun a ha => ?_⟩, h.fl5, h.an6, ⟨h.wa.mono hg, h.fo.mono hg, h.af.mono hg⟩, h.ln, ?_, h.hr, hc, h.fs, h.as, h.ld⟩
  · obtain ⟨j, c0, h1, h2⟩ := h.ok.2 a ha
    have hj := (List.getElem?_eq_some_iff.mp h2).1
    have hjc : j < cs.length := by omega
    exact ⟨j, cs[j]'hjc, h1, List.getElem?_eq_getElem hjc⟩
  · obtain ⟨j, h1, h2⟩ := h.st
    exact ⟨j, Nat.le_trans h1 hg, h2⟩
theorem wf_dig {N : Nat} {R : Rv} {c : T3} (h : Wf N R) (hl : R.ch.length < 6) (hc : ChOk c) : Wf N (R.wCh (R.ch ++ [c])) := wf_ch h (by rw [List.length_append, List.length_singleton]; omega) (by rw [List.length_append]; omega) (fun d hd => (List.mem_append.mp hd).elim (h.cs d) (fun q => List.mem_singleton.mp q ▸ hc))
theorem set_mem {l : List T3} {i : Nat} {c d : T3} (h : d ∈ l.set i c) : d ∈ l ∨ d = c := List.mem_or_eq_of_mem_set h
theorem wf_shf {N : Nat} {R : Rv} {i : Nat} {c d : T3} {x y : Int32} (h : Wf N R) (hc : R.ch[i]? = some c) (hd : R.ch[i + 1]? = some d) (hx : inR x 10 99 = true) (hy : inR y 10 99 = true) : Wf N (R.wCh ((R.ch.set i (tW c x)).set (i + 1) (tW d y))) := by
  refine wf_ch h (by rw [List.length_set, List.length_set]; exact h.ch6) (by rw [List.length_set, List.length_set]; exact Nat.le_refl _) (fun e he => ?_)
  have kc := h.cs c (List.mem_of_getElem? hc)
  have kd := h.cs d (List.mem_of_getElem? hd)
  rcases set_mem he with q | q
  · rcases set_mem q with q | q
    · exact h.cs e q
    · rw [q]
      exact ⟨(inR_iff.mp hx).1, (inR_iff.mp hx).2, kc.2.2.1, kc.2.2.2.1, kc.2.2.2.2⟩
  · rw [q]
    exact ⟨(inR_iff.mp hy).1, (inR_iff.mp hy).2, kd.2.2.1, kd.2.2.2.1, kd.2.2.2.2⟩
theorem wf_flo {N : Nat} {R : Rv} {a b c : Int32} (h : Wf N R) (hl : R.fl.length < 5) (ha : inR a 0 99 = true) (hb : inR b 1 9 = true) (hc : inR c 1 48 = true) : Wf N (R.wFl (R.fl ++ [(R.hr + a, b, R.hr + a + c)])) := by
  refine ⟨h.1, by rw [List.length_append, List.length_singleton]; omega, h.an6, h.2.2.2.1, h.ln, h.st, h.hr, h.cs, fun f hf => ?_, h.as, h.ld⟩
  rcases List.mem_append.mp hf with q | q
  · exact h.fs f q
  · rw [List.mem_singleton.mp q]
    obtain ⟨h1, h2⟩ := h.hr
    obtain ⟨a1, a2⟩ := inR_iff.mp ha
    obtain ⟨c1, c2⟩ := inR_iff.mp hc
    have p1 := i_le.mp h1; have p2 := i_le.mp h2; have q1 := i_le.mp a1; have q2 := i_le.mp a2; have r1 := i_le.mp c1; have r2 := i_le.mp c2
    have l9 : (9999 : Int32).toInt = 9999 := rfl
    have l48 : (48 : Int32).toInt = 48 := rfl
    have l10 : (10200 : Int32).toInt = 10200 := rfl
    rw [tlt0] at p1 q1; rw [l9] at p2; rw [tlt99] at q2; rw [tlt1] at r1; rw [l48] at r2
    have e1 := t_add (x := R.hr) (y := a) (by omega) (by omega)
    have e2 := t_add (x := R.hr + a) (y := c) (by omega) (by omega)
    exact ⟨i_le.mpr (by rw [tlt0, e1]; omega), i_lt.mpr (by rw [e2, e1]; omega), i_le.mpr (by rw [e2, e1, l10]; omega), (inR_iff.mp hb).1, (inR_iff.mp hb).2⟩
theorem wf_anc {N i : Nat} {R : Rv} {s : Int32} (h : Wf N R) (hl : R.an.length < 6) (hi : i < R.ch.length) (hs : inR s 1 9 = true) : Wf N (R.wAn (R.an ++ [(nI i, s, 0)])) := by
  refine h.wAn (by rw [List.length_append, List.length_singleton]; omega) (fun a ha => ?_) (fun a ha => ?_)
  · rcases List.mem_append.mp ha with q | q
    · exact h.ok.2 a q
    · rw [List.mem_singleton.mp q]
      exact ⟨i, R.ch[i]'hi, rfl, List.getElem?_eq_getElem hi⟩
  · rcases List.mem_append.mp ha with q | q
    · exact h.as a q
    · rw [List.mem_singleton.mp q]
      exact ⟨(inR_iff.mp hs).1, (inR_iff.mp hs).2, (by decide : (0 : Int32) ≤ 0), (by decide : (0 : Int32) ≤ 99)⟩
theorem wf_wei {N i : Nat} {R : Rv} (h : Wf N R) : Wf N (R.wAn (R.an.eraseIdx i)) := h.wAn (Nat.le_trans (List.length_eraseIdx_le _ _) h.an6) (fun a ha => h.ok.2 a (List.mem_of_mem_eraseIdx ha)) (fun a ha => h.as a (List.mem_of_mem_eraseIdx ha))
theorem wf_crs {N : Nat} {R : Rv} {w : Bool} {x : Int32} (h : Wf N R) (hck : chk R w = none) : Wf N (((liveR R).wSt ((liveR R).st + stepV w)).wCr x) := by
  have h6 := h.ch6
  obtain ⟨hh, i, hi, hci⟩ := chk_none (by omega) hck
  have hl := h.live hh
  refine ⟨hl.1, hl.2.1, hl.2.2.1, hl.2.2.2.1, hl.2.2.2.2.1, ?_, hl.hr, hl.cs, hl.fs, hl.as, hl.ld⟩
  cases w with
  | true => exact ⟨i + 1, hi, by show R.st + 1 = nI (i + 1); rw [show R.st = nI i from hci, nI_1]⟩
  | false => exact ⟨i, Nat.le_of_lt hi, by show R.st + -1 = nI i; rw [← Int32.sub_eq_add_neg]; exact hci⟩
/-- a tally's weight, in whole numbers -/
def isum : Tal → Int
  | [] => 0
  | x :: t => x.2.toInt * (wgt x.1).toInt + isum t
theorem wgt_bd (c : Nat) : 1 ≤ (wgt c).toInt ∧ (wgt c).toInt ≤ 20 := by
  unfold wgt wof
  split
  · exact ⟨by decide, by decide⟩
  · split
    · exact ⟨by decide, by decide⟩
    · exact ⟨by decide, by decide⟩
theorem mul_bd {x w : Int} (h1 : 0 ≤ x) (h2 : x ≤ 999) (h3 : 1 ≤ w) (h4 : w ≤ 20) : 0 ≤ x * w ∧ x * w ≤ 19980 := ⟨Int.mul_nonneg h1 (by omega), Int.le_trans (Int.mul_le_mul h2 h4 (by omega) (by omega)) (by decide)⟩
theorem isum_bd {t : Tal} (h : ∀ x ∈ t, 0 < x.2 ∧ x.2 ≤ 999) : 0 ≤ isum t ∧ isum t ≤ 19980 * t.length := by
  induction t with
  | nil => exact ⟨by decide, by decide⟩
  | cons x t ih =>
    obtain ⟨a, b⟩ := ih (fun y hy => h y (by simp [hy]))
    obtain ⟨c, d⟩ := h x (by simp)
    have p := i_lt.mp c
    have q := i_le.mp d
    have l999 : (999 : Int32).toInt = 999 := rfl
    rw [tlt0] at p
    rw [l999] at q
    have m := mul_bd (by omega) q (wgt_bd x.1).1 (wgt_bd x.1).2
    show 0 ≤ x.2.toInt * (wgt x.1).toInt + isum t ∧ x.2.toInt * (wgt x.1).toInt + isum t ≤ 19980 * ((t.length + 1 : Nat) : Int)
    omega
theorem tsum_int {t : Tal} (h : ∀ x ∈ t, 0 < x.2 ∧ x.2 ≤ 999) (hl : t.length ≤ 1000) : (tsum true t).toInt = isum t := by
  have key : ∀ (u : Tal) (a : Int32), (∀ x ∈ u, 0 < x.2 ∧ x.2 ≤ 999) → 0 ≤ a.toInt → a.toInt + 19980 * u.length ≤ 40000000 → (u.foldl (fun s x => s + x.2 * (if true = true then wgt x.1 else 1)) a).toInt = a.toInt + isum u := by
    intro u
    induction u with
    | nil => intro a _ _ _; exact (Int.add_zero _).symm
    | cons x u ih =>
      intro a hu ha hb
      obtain ⟨c, d⟩ := hu x (by simp)
      have p := i_lt.mp c
      have q := i_le.mp d
      have l999 : (999 : Int32).toInt = 999 := rfl
      rw [tlt0] at p
      rw [l999] at q
      have m := mul_bd (by omega) q (wgt_bd x.1).1 (wgt_bd x.1).2
      have em : (x.2 * wgt x.1).toInt = x.2.toInt * (wgt x.1).toInt := t_mul (by omega) (by omega)
      rw [List.length_cons] at hb
      have ea : (a + x.2 * wgt x.1).toInt = a.toInt + x.2.toInt * (wgt x.1).toInt := by
        rw [t_add (by rw [em]; omega) (by rw [em]; omega), em]
      show (u.foldl _ (a + x.2 * (if true = true then wgt x.1 else 1))).toInt = _
      rw [if_pos rfl, ih _ (fun y hy => hu y (by simp [hy])) (by rw [ea]; omega) (by rw [ea]; omega), ea]
      show _ = a.toInt + (x.2.toInt * (wgt x.1).toInt + isum u)
      omega
  have := key t 0 h (by decide) (by rw [tlt0]; omega)
  rw [tlt0, Int.zero_add] at this
  exact this
theorem isum_flt {t : Tal} (h : ∀ x ∈ t, 0 < x.2 ∧ x.2 ≤ 999) (p : Nat × Int32 → Bool) : isum (t.filter p) ≤ isum t := by
  induction t with
  | nil => exact Int.le_refl _
  | cons x t ih =>
    have h1 := ih (fun y hy => h y (by simp [hy]))
    obtain ⟨c, d⟩ := h x (by simp)
    have pp := i_lt.mp c
    have qq := i_le.mp d
    have l999 : (999 : Int32).toInt = 999 := rfl
    rw [tlt0] at pp
    rw [l999] at qq
    have m := mul_bd (by omega) qq (wgt_bd x.1).1 (wgt_bd x.1).2
    by_cases e : p x = true
    · rw [List.filter_cons_of_pos e]
      show x.2.toInt * (wgt x.1).toInt + isum (t.filter p) ≤ x.2.toInt * (wgt x.1).toInt + isum t
      omega
    · rw [List.filter_cons_of_neg e]
      show isum (t.filter p) ≤ x.2.toInt * (wgt x.1).toInt + isum t
      omega
theorem TOk.ps {m : Nat} {t : Tal} (h : TOk m t) : ∀ x ∈ t, 0 < x.2 ∧ x.2 ≤ 999 := fun x hx => (h.2 x hx).2.2.2
theorem ld_int {N : Nat} {R : Rv} (h : Wf N R) (hN : N ≤ 500) : (ldR R).toInt = isum R.fo + isum R.af := by
  have l1 := h.ln
  have e1 := tsum_int h.fo.ps (by omega)
  have e2 := tsum_int h.af.ps (by omega)
  have b1 := isum_bd h.fo.ps
  have b2 := isum_bd h.af.ps
  unfold ldR
  rw [t_add (by omega) (by omega), e1, e2]
/-- after a landing -/
theorem wf_lnd {N : Nat} {R : Rv} {f : Nat → Int32} (h : Wf N R) (hN : N ≤ 500) : Wf N (landR R f) := by
  have l1 := h.ln
  have t1 : TOk R.ch.length (lkeep R.st R.fo) := h.fo.flt _
  have t2 : TOk R.ch.length (lkeep R.st R.af) := h.af.flt _
  have g1 : (lkeep R.st R.fo).length ≤ N := Nat.le_trans (List.length_filter_le _ _) l1.2.1
  have g2 : (lkeep R.st R.af).length ≤ N := Nat.le_trans (List.length_filter_le _ _) l1.2.2
  have e0 := ld_int h hN
  have e1 := tsum_int t1.ps (by omega)
  have e2 := tsum_int t2.ps (by omega)
  have b1 := isum_bd t1.ps
  have b2 := isum_bd t2.ps
  have i1 : isum (lkeep R.st R.fo) ≤ isum R.fo := isum_flt h.fo.ps _
  have i2 : isum (lkeep R.st R.af) ≤ isum R.af := isum_flt h.af.ps _
  have hld := h.ld
  have p2 := i_le.mp hld.2
  rw [tlt60] at p2
  have eL : (tsum true (lkeep R.st R.fo) + tsum true (lkeep R.st R.af)).toInt = isum (lkeep R.st R.fo) + isum (lkeep R.st R.af) := by
    rw [t_add (by omega) (by omega), e1, e2]
  exact ⟨h.1, h.2.1, h.2.2.1, ⟨h.wa, t1, t2⟩, ⟨l1.1, g1, g2⟩, h.st, h.hr, h.cs, h.fs, h.as, ⟨i_le.mpr (by rw [tlt0]; show 0 ≤ (tsum true (lkeep R.st R.fo) + tsum true (lkeep R.st R.af)).toInt; rw [eL]; omega), i_le.mpr (by rw [tlt60]; show (tsum true (lkeep R.st R.fo) + tsum true (lkeep R.st R.af)).toInt ≤ 60; rw [eL]; omega)⟩⟩
