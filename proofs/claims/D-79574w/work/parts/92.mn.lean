/-! the model splits a channel -/
theorem wmn_a {V : MV} {a b c : Nat → Int32} : ((V.wNw a).wMv b).wNw c = (V.wMv b).wNw c := rfl
theorem wmn_b {V : MV} {a b c d : Nat → Int32} : (((V.wMv a).wNw b).wMv c).wNw d = (V.wMv c).wNw d := rfl
theorem wNN {V : MV} {a b : Nat → Int32} : (V.wNw a).wNw b = V.wNw b := rfl
theorem wmn_f {V : MV} {a n : Nat → Int32} : ((V.wMv a).wNw n).kp = V.kp ∧ ((V.wMv a).wNw n).un = V.un ∧ ((V.wMv a).wNw n).tr = V.tr := ⟨(mv_kp_wNw.trans mv_kp_wMv), (mv_un_wNw.trans mv_un_wMv), (mv_tr_wNw.trans mv_tr_wMv)⟩
theorem Mr.don3 {N : Nat} {F : Fy} {V : MV} (h : Mr N F V) {kp n mv : Nat → Int32} {v : Int32} {R2 : Rv} (hR : Rep (N + 1) R2 n) (hK : KpOk (N + 1) (pushP F.rv F.pa) kp) : Mr (N + 1) (chF F (.inl (v, R2))) ((((V.wMv mv).wNw n).wKp kp).wUn (nI (pushP F.rv F.pa).length)) := by
  have h2 := h.mono (Nat.le_succ N)
  unfold Mr
  rw [show ((((V.wMv mv).wNw n).wKp kp).wUn (nI (pushP F.rv F.pa).length)).nw = n from (mv_nw_wUn.trans (mv_nw_wKp.trans mv_nw_wNw)), show ((((V.wMv mv).wNw n).wKp kp).wUn (nI (pushP F.rv F.pa).length)).kp = kp from (mv_kp_wUn.trans mv_kp_wKp), show ((((V.wMv mv).wNw n).wKp kp).wUn (nI (pushP F.rv F.pa).length)).un = nI (pushP F.rv F.pa).length from mv_un_wUn, show ((((V.wMv mv).wNw n).wKp kp).wUn (nI (pushP F.rv F.pa).length)).le = V.le from (mv_le_wUn.trans (mv_le_wKp.trans (mv_le_wNw.trans mv_le_wMv))), show ((((V.wMv mv).wNw n).wKp kp).wUn (nI (pushP F.rv F.pa).length)).tx = V.tx from (mv_tx_wUn.trans (mv_tx_wKp.trans (mv_tx_wNw.trans mv_tx_wMv))), show ((((V.wMv mv).wNw n).wKp kp).wUn (nI (pushP F.rv F.pa).length)).ld = V.ld from (mv_ld_wUn.trans (mv_ld_wKp.trans (mv_ld_wNw.trans mv_ld_wMv))), show ((((V.wMv mv).wNw n).wKp kp).wUn (nI (pushP F.rv F.pa).length)).ln = V.ln from (mv_ln_wUn.trans (mv_ln_wKp.trans (mv_ln_wNw.trans mv_ln_wMv))), show ((((V.wMv mv).wNw n).wKp kp).wUn (nI (pushP F.rv F.pa).length)).fa = V.fa from (mv_fa_wUn.trans (mv_fa_wKp.trans (mv_fa_wNw.trans mv_fa_wMv))), show ((((V.wMv mv).wNw n).wKp kp).wUn (nI (pushP F.rv F.pa).length)).re = V.re from (mv_re_wUn.trans (mv_re_wKp.trans (mv_re_wNw.trans mv_re_wMv))), show ((((V.wMv mv).wNw n).wKp kp).wUn (nI (pushP F.rv F.pa).length)).de = V.de from (mv_de_wUn.trans (mv_de_wKp.trans (mv_de_wNw.trans mv_de_wMv))), show ((((V.wMv mv).wNw n).wKp kp).wUn (nI (pushP F.rv F.pa).length)).is = V.is from (mv_is_wUn.trans (mv_is_wKp.trans (mv_is_wNw.trans mv_is_wMv))), show ((((V.wMv mv).wNw n).wKp kp).wUn (nI (pushP F.rv F.pa).length)).sv = V.sv from (mv_sv_wUn.trans (mv_sv_wKp.trans (mv_sv_wNw.trans mv_sv_wMv)))]
  exact ⟨hR, hK, rfl, h2.2.2.2.1, h2.2.2.2.2.1, h2.2.2.2.2.2.1, h2.2.2.2.2.2.2.1, h2.efa, h2.ere, h2.ede, h2.esv⟩
def SpC1 (R : Rv) (i : Nat) (c : T3) (w : Int32) (n0 n : Nat → Int32) : Prop := n 0 = nI (R.ch.length + 1) ∧ RpE 13 (spC R i c w) n ∧ ∀ q, q ≠ 0 → (q < 13 ∨ 31 ≤ q) → n q = n0 q
def ChI (l : Nat) (n0 n : Nat → Int32) (q : Nat) : Prop := (∀ p, p ≤ q → n p = n0 p) ∧ (∀ p, q < p → p ≤ 13 + 3 * l + 2 → n p = n0 (p - 3)) ∧ ∀ p, 13 + 3 * l + 2 < p → n p = n0 p
theorem ChI.next {l q : Nat} {n0 n : Nat → Int32} (h : ChI l n0 n (q + 1)) (hq : 2 ≤ q) (hl : q + 1 ≤ 13 + 3 * l + 2) : ChI l n0 (va_up n (q + 1) (n0 (q + 1 - 3))) q := ⟨fun p hp => (va_ne (by omega)).trans (h.1 p (by omega)), fun p h1 h2 => by
  by_cases e : p = q + 1
  · rw [va_eq e, e]
  · rw [va_ne e]; exact h.2.1 p (by omega) h2, fun p hp => (va_ne (by omega)).trans (h.2.2 p hp)⟩
theorem spC_get {R : Rv} {i : Nat} {c : T3} {w : Int32} (hc : R.ch[i]? = some c) (j : Nat) : (spC R i c w)[j]? = if j < i then R.ch[j]? else if j = i then some (tW c w) else if j = i + 1 then some (tW c (c.1 - w)) else R.ch[j - 1]? := by
  have hi := (List.getElem?_eq_some_iff.mp hc).1
  unfold spC
  rw [List.getElem?_insertIdx]
  by_cases h1 : j < i
  · rw [if_pos (by omega), if_pos h1, List.getElem?_set_ne (by omega)]
  · rw [if_neg h1]
    by_cases h2 : j = i
    · subst h2
      rw [if_pos (by omega), if_pos rfl, List.getElem?_set_self hi]
    · rw [if_neg h2]
      by_cases h3 : j = i + 1
      · subst h3
        rw [if_neg (by omega), if_pos rfl, if_pos rfl, if_pos (by rw [List.length_set]; omega)]
      · rw [if_neg (by omega), if_neg h3, if_neg h3, List.getElem?_set_ne (by omega)]
theorem spC_len {R : Rv} {i : Nat} {c : T3} {w : Int32} (hi : i < R.ch.length) : (spC R i c w).length = R.ch.length + 1 := by
  unfold spC
  rw [List.length_insertIdx_of_le_length (by rw [List.length_set]; omega), List.length_set]
theorem SpC1.mk {R : Rv} {i : Nat} {c : T3} {w : Int32} {n0 n : Nat → Int32} (hc : R.ch[i]? = some c) (hl : R.ch.length ≤ 5) (h : RpE 13 R.ch n0) (hI : ChI R.ch.length n0 n (13 + 3 * i + 2)) : SpC1 R i c w n0 (va_up (va_up (va_up n 0 (nI (R.ch.length + 1))) (13 + 3 * i) w) (13 + 3 * i + 3) (c.1 - w)) := by
  have hi := (List.getElem?_eq_some_iff.mp hc).1
  refine ⟨(va_ne (by omega)).trans ((va_ne (by omega)).trans (va_eq rfl)), fun j d hd => ?_, fun q h0 hq => ?_⟩
  · have hjl : j < R.ch.length + 1 := by
      have := (List.getElem?_eq_some_iff.mp hd).1
      rw [spC_len hi] at this
      exact this
    rw [spC_get hc] at hd
    have up : ∀ q, q ≠ 0 → q ≠ 13 + 3 * i → q ≠ 13 + 3 * i + 3 → va_up (va_up (va_up n 0 (nI (R.ch.length + 1))) (13 + 3 * i) w) (13 + 3 * i + 3) (c.1 - w) q = n q := fun q a b e => (va_ne e).trans ((va_ne b).trans (va_ne a))
    by_cases h1 : j < i
    · rw [if_pos h1] at hd
      obtain ⟨x, y, z⟩ := h j d hd
      exact ⟨(up _ (by omega) (by omega) (by omega)).trans ((hI.1 _ (by omega)).trans x), (up _ (by omega) (by omega) (by omega)).trans ((hI.1 _ (by omega)).trans y), (up _ (by omega) (by omega) (by omega)).trans ((hI.1 _ (by omega)).trans z)⟩
    · rw [if_neg h1] at hd
      obtain ⟨x, y, z⟩ := h i c hc
      by_cases h2 : j = i
      · rw [if_pos h2] at hd
        cases hd
        subst h2
        exact ⟨(va_ne (by omega)).trans (va_eq rfl), (up _ (by omega) (by omega) (by omega)).trans ((hI.1 _ (by omega)).trans y), (up _ (by omega) (by omega) (by omega)).trans ((hI.1 _ (by omega)).trans z)⟩
      · rw [if_neg h2] at hd
        by_cases h3 : j = i + 1
        · rw [if_pos h3] at hd
          cases hd
          subst h3
          exact ⟨va_eq (by omega), (up _ (by omega) (by omega) (by omega)).trans ((hI.2.1 _ (by omega) (by omega)).trans (by rw [show 13 + 3 * (i + 1) + 1 - 3 = 13 + 3 * i + 1 by omega]; exact y)), (up _ (by omega) (by omega) (by omega)).trans ((hI.2.1 _ (by omega) (by omega)).trans (by rw [show 13 + 3 * (i + 1) + 2 - 3 = 13 + 3 * i + 2 by omega]; exact z))⟩
        · rw [if_neg h3] at hd
          obtain ⟨x, y, z⟩ := h (j - 1) d hd
          exact ⟨(up _ (by omega) (by omega) (by omega)).trans ((hI.2.1 _ (by omega) (by omega)).trans (by rw [show 13 + 3 * j - 3 = 13 + 3 * (j - 1) by omega]; exact x)), (up _ (by omega) (by omega) (by omega)).trans ((hI.2.1 _ (by omega) (by omega)).trans (by rw [show 13 + 3 * j + 1 - 3 = 13 + 3 * (j - 1) + 1 by omega]; exact y)), (up _ (by omega) (by omega) (by omega)).trans ((hI.2.1 _ (by omega) (by omega)).trans (by rw [show 13 + 3 * j + 2 - 3 = 13 + 3 * (j - 1) + 2 by omega]; exact z))⟩
  · rw [va_ne (by omega), va_ne (by omega), va_ne h0]
    rcases hq with a | b
    · exact hI.1 q (by omega)
    · exact hI.2.2 q (by omega)
theorem Rep.spl {N M i : Nat} {R : Rv} {c : T3} {w : Int32} {n0 n1 n2 n3 n4 n5 n6 n7 : Nat → Int32} (h : Rep N R n0) (hw : Wf M R) (hc : R.ch[i]? = some c) (hl : R.ch.length ≤ 5) (h1 : SpC1 R i c w n0 n1) (h2 : RpE 46 (R.an.map (aSp (nI i))) n2) (h2o : ∀ q, (q < 46 ∨ 64 ≤ q) → n2 q = n1 q) (h3 : n3 4 = R.st + b2i (!decide (R.st ≤ nI i))) (h3o : ∀ q, q ≠ 4 → n3 q = n2 q) (r1 : RnR 64 i n3 n4) (r2 : RnR 211 i n4 n5) (r3 : RnR 358 i n5 n6) (r4 : RnR 505 i n6 n7) : Rep N (spR R i c w) n7 := by
  have hi := (List.getElem?_eq_some_iff.mp hc).1
  have w2 := hw.fl5
  have w3 := hw.an6
  have lo : ∀ q, q < 64 → n7 q = n3 q := fun q hq => (r4.1 q (by omega)).trans ((r3.1 q (by omega)).trans ((r2.1 q (by omega)).trans (r1.1 q (by omega))))
  have z : ∀ q, q < 46 → q ≠ 4 → q ≠ 0 → (q < 13 ∨ 31 ≤ q) → n7 q = n0 q := fun q a b d e => (lo q (by omega)).trans ((h3o q b).trans ((h2o q (by omega)).trans (h1.2.2 q d e)))
  have hi3 : ∀ q, 64 ≤ q → n3 q = n0 q := fun q hq => (h3o q (by omega)).trans ((h2o q (by omega)).trans (h1.2.2 q (by omega) (by omega)))
  have hs1 := hw.wa.sp hl
  have hs2 := hw.fo.sp hl
  have hs3 := hw.af.sp hl
  refine Rep.mk ⟨?_, (z 1 (by decide) (by decide) (by decide) (by decide)).trans h.k1, ?_⟩ ⟨(z 3 (by decide) (by decide) (by decide) (by decide)).trans h.k3, (lo 4 (by decide)).trans h3, (z 5 (by decide) (by decide) (by decide) (by decide)).trans h.k5, (z 6 (by decide) (by decide) (by decide) (by decide)).trans h.k6, (z 7 (by decide) (by decide) (by decide) (by decide)).trans h.k7, (z 8 (by decide) (by decide) (by decide) (by decide)).trans h.k8⟩ ⟨(z 10 (by decide) (by decide) (by decide) (by decide)).trans h.2.2.1.1, (z 11 (by decide) (by decide) (by decide) (by decide)).trans h.2.2.1.2.1, (z 12 (by decide) (by decide) (by decide) (by decide)).trans h.2.2.1.2.2⟩ ?_ (h.fE.cg (m := 5) (by rw [List.length_map]; exact w2) (fun k a b => z k (by omega) (by omega) (by omega) (by omega))) ?_ ?_ ?_ ?_ ?_
  · rw [show (spR R i c w).ch.length = R.ch.length + 1 from spC_len hi, lo 0 (by decide), h3o 0 (by decide), h2o 0 (by decide)]
    exact h1.1
  · rw [show (spR R i c w).an.length = R.an.length from List.length_map (aSp (nI i))]
    exact (z 2 (by decide) (by decide) (by decide) (by decide)).trans h.k2
  · exact h1.2.1.cg (m := 6) (by rw [spC_len hi]; omega) (fun k a b => (lo k (by omega)).trans ((h3o k (by omega)).trans (h2o k (by omega))))
  · exact h2.cg (m := 6) (by rw [List.length_map]; exact w3) (fun k a b => (lo k (by omega)).trans (h3o k (by omega)))
  · exact (r1.T (t := R.wa) (h.wT.cg (fun k a b => hi3 k (by omega))) (by omega) hs1).cg (fun k a b => (r4.1 k (by omega)).trans ((r3.1 k (by omega)).trans (r2.1 k (by omega))))
  · exact (r3.T (t := R.fo) (h.foT.cg (fun k a b => (r2.1 k (by omega)).trans ((r1.1 k (by omega)).trans (hi3 k (by omega))))) (by omega) hs2).cg (fun k a b => r4.1 k (by omega))
  · exact r4.T (t := R.af) (h.afT.cg (fun k a b => (r3.1 k (by omega)).trans ((r2.1 k (by omega)).trans ((r1.1 k (by omega)).trans (hi3 k (by omega)))))) (by omega) hs3
  · have o4 : OrdA N R.wa n4 := h.or.ag hw.wa (fun k a b => (r1.1 k (by omega)).trans ((h3o k (by omega)).trans ((h2o k (by omega)).trans (h1.2.2 k (by omega) (by omega))))) (fun k a b => (r1.1 k (by omega)).trans (hi3 k (by omega)))
    have o5 := o4.sp r2 hw.wa (by omega) hl
    have hk5 : TOk 6 (tsp i R.wa) := ⟨?_, ?_⟩
    · exact o5.ag hk5 (fun k a b => (r4.1 k (by omega)).trans (r3.1 k (by omega))) (fun k a b => (r4.1 k (by omega)).trans (r3.1 k (by omega)))
    · have := hw.wa.1
      rw [List.map_map]
      refine List.pairwise_map.mpr (List.Pairwise.imp_of_mem (fun {x y} hx hy q e => ?_) (List.pairwise_map.mp this))
      exact q (gsp_inj (hs1 x hx).1 (hs1 x hx).2 (hs1 y hy).1 (hs1 y hy).2 e)
    · intro x hx
      obtain ⟨y, hy, rfl⟩ := List.mem_map.mp hx
      obtain ⟨a, b, d, e, f⟩ := hw.wa.2 y hy
      have g := gsp_lt (j := i) a (hs1 y hy).1 (hs1 y hy).2
      exact ⟨g, by show gsp i y.1 / 7 % 7 ≤ 6; omega, by show gsp i y.1 % 7 ≤ 6; omega, e, f⟩
