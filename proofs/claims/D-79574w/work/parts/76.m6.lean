/-! what one write makes of the river -/
theorem Rep.wRp {N M : Nat} {R : Rv} {n : Nat → Int32} (h : Rep N R n) (hw : Wf M R) {x : Int32} : Rep N (R.wRp x) (va_up n (5) x) := by
  have w1 := hw.ch6
  have w2 := hw.fl5
  have w3 := hw.an6
  exact Rep.mk ⟨((va_ne (by omega)).trans (h.k0)), ((va_ne (by omega)).trans (h.k1)), ((va_ne (by omega)).trans (h.k2))⟩ ⟨((va_ne (by omega)).trans (h.k3)), ((va_ne (by omega)).trans (h.k4)), (va_eq rfl), ((va_ne (by omega)).trans (h.k6)), ((va_ne (by omega)).trans (h.k7)), ((va_ne (by omega)).trans (h.k8))⟩ ⟨((va_ne (by omega)).trans (h.2.2.1.1)), ((va_ne (by omega)).trans (h.2.2.1.2.1)), ((va_ne (by omega)).trans (h.2.2.1.2.2))⟩ (h.cE.cg w1 (agr.up agr.rf (by omega))) (h.fE.cg (m := 5) (by rw [List.length_map]; exact w2) (agr.up agr.rf (by omega))) (h.aE.cg w3 (agr.up agr.rf (by omega))) (h.wT.cg (agr.up agr.rf (by omega))) (h.foT.cg (agr.up agr.rf (by omega))) (h.afT.cg (agr.up agr.rf (by omega))) (h.or.ag hw.wa (agr.up agr.rf (by omega)) (agr.up agr.rf (by omega)))
theorem Rep.wSt {N M : Nat} {R : Rv} {n : Nat → Int32} (h : Rep N R n) (hw : Wf M R) {x : Int32} : Rep N (R.wSt x) (va_up n (4) x) := by
  have w1 := hw.ch6
  have w2 := hw.fl5
  have w3 := hw.an6
  exact Rep.mk ⟨((va_ne (by omega)).trans (h.k0)), ((va_ne (by omega)).trans (h.k1)), ((va_ne (by omega)).trans (h.k2))⟩ ⟨((va_ne (by omega)).trans (h.k3)), (va_eq rfl), ((va_ne (by omega)).trans (h.k5)), ((va_ne (by omega)).trans (h.k6)), ((va_ne (by omega)).trans (h.k7)), ((va_ne (by omega)).trans (h.k8))⟩ ⟨((va_ne (by omega)).trans (h.2.2.1.1)), ((va_ne (by omega)).trans (h.2.2.1.2.1)), ((va_ne (by omega)).trans (h.2.2.1.2.2))⟩ (h.cE.cg w1 (agr.up agr.rf (by omega))) (h.fE.cg (m := 5) (by rw [List.length_map]; exact w2) (agr.up agr.rf (by omega))) (h.aE.cg w3 (agr.up agr.rf (by omega))) (h.wT.cg (agr.up agr.rf (by omega))) (h.foT.cg (agr.up agr.rf (by omega))) (h.afT.cg (agr.up agr.rf (by omega))) (h.or.ag hw.wa (agr.up agr.rf (by omega)) (agr.up agr.rf (by omega)))
theorem Rep.wCr {N M : Nat} {R : Rv} {n : Nat → Int32} (h : Rep N R n) (hw : Wf M R) {x : Int32} : Rep N (R.wCr x) (va_up n (8) x) := by
  have w1 := hw.ch6
  have w2 := hw.fl5
  have w3 := hw.an6
  exact Rep.mk ⟨((va_ne (by omega)).trans (h.k0)), ((va_ne (by omega)).trans (h.k1)), ((va_ne (by omega)).trans (h.k2))⟩ ⟨((va_ne (by omega)).trans (h.k3)), ((va_ne (by omega)).trans (h.k4)), ((va_ne (by omega)).trans (h.k5)), ((va_ne (by omega)).trans (h.k6)), ((va_ne (by omega)).trans (h.k7)), (va_eq rfl)⟩ ⟨((va_ne (by omega)).trans (h.2.2.1.1)), ((va_ne (by omega)).trans (h.2.2.1.2.1)), ((va_ne (by omega)).trans (h.2.2.1.2.2))⟩ (h.cE.cg w1 (agr.up agr.rf (by omega))) (h.fE.cg (m := 5) (by rw [List.length_map]; exact w2) (agr.up agr.rf (by omega))) (h.aE.cg w3 (agr.up agr.rf (by omega))) (h.wT.cg (agr.up agr.rf (by omega))) (h.foT.cg (agr.up agr.rf (by omega))) (h.afT.cg (agr.up agr.rf (by omega))) (h.or.ag hw.wa (agr.up agr.rf (by omega)) (agr.up agr.rf (by omega)))
theorem Rep.wHr {N M : Nat} {R : Rv} {n : Nat → Int32} (h : Rep N R n) (hw : Wf M R) {x : Int32} : Rep N (R.wHr x) (va_up n (3) x) := by
  have w1 := hw.ch6
  have w2 := hw.fl5
  have w3 := hw.an6
  exact Rep.mk ⟨((va_ne (by omega)).trans (h.k0)), ((va_ne (by omega)).trans (h.k1)), ((va_ne (by omega)).trans (h.k2))⟩ ⟨(va_eq rfl), ((va_ne (by omega)).trans (h.k4)), ((va_ne (by omega)).trans (h.k5)), ((va_ne (by omega)).trans (h.k6)), ((va_ne (by omega)).trans (h.k7)), ((va_ne (by omega)).trans (h.k8))⟩ ⟨((va_ne (by omega)).trans (h.2.2.1.1)), ((va_ne (by omega)).trans (h.2.2.1.2.1)), ((va_ne (by omega)).trans (h.2.2.1.2.2))⟩ (h.cE.cg w1 (agr.up agr.rf (by omega))) (h.fE.cg (m := 5) (by rw [List.length_map]; exact w2) (agr.up agr.rf (by omega))) (h.aE.cg w3 (agr.up agr.rf (by omega))) (h.wT.cg (agr.up agr.rf (by omega))) (h.foT.cg (agr.up agr.rf (by omega))) (h.afT.cg (agr.up agr.rf (by omega))) (h.or.ag hw.wa (agr.up agr.rf (by omega)) (agr.up agr.rf (by omega)))
theorem Rep.wF0 {N M : Nat} {R : Rv} {n : Nat → Int32} (h : Rep N R n) (hw : Wf M R) {x : Int32} : Rep N (R.wF0 x) (va_up n (10) x) := by
  have w1 := hw.ch6
  have w2 := hw.fl5
  have w3 := hw.an6
  exact Rep.mk ⟨((va_ne (by omega)).trans (h.k0)), ((va_ne (by omega)).trans (h.k1)), ((va_ne (by omega)).trans (h.k2))⟩ ⟨((va_ne (by omega)).trans (h.k3)), ((va_ne (by omega)).trans (h.k4)), ((va_ne (by omega)).trans (h.k5)), ((va_ne (by omega)).trans (h.k6)), ((va_ne (by omega)).trans (h.k7)), ((va_ne (by omega)).trans (h.k8))⟩ ⟨(va_eq rfl), ((va_ne (by omega)).trans (h.2.2.1.2.1)), ((va_ne (by omega)).trans (h.2.2.1.2.2))⟩ (h.cE.cg w1 (agr.up agr.rf (by omega))) (h.fE.cg (m := 5) (by rw [List.length_map]; exact w2) (agr.up agr.rf (by omega))) (h.aE.cg w3 (agr.up agr.rf (by omega))) (h.wT.cg (agr.up agr.rf (by omega))) (h.foT.cg (agr.up agr.rf (by omega))) (h.afT.cg (agr.up agr.rf (by omega))) (h.or.ag hw.wa (agr.up agr.rf (by omega)) (agr.up agr.rf (by omega)))
theorem Rep.wF1 {N M : Nat} {R : Rv} {n : Nat → Int32} (h : Rep N R n) (hw : Wf M R) {x : Int32} : Rep N (R.wF1 x) (va_up n (11) x) := by
  have w1 := hw.ch6
  have w2 := hw.fl5
  have w3 := hw.an6
  exact Rep.mk ⟨((va_ne (by omega)).trans (h.k0)), ((va_ne (by omega)).trans (h.k1)), ((va_ne (by omega)).trans (h.k2))⟩ ⟨((va_ne (by omega)).trans (h.k3)), ((va_ne (by omega)).trans (h.k4)), ((va_ne (by omega)).trans (h.k5)), ((va_ne (by omega)).trans (h.k6)), ((va_ne (by omega)).trans (h.k7)), ((va_ne (by omega)).trans (h.k8))⟩ ⟨((va_ne (by omega)).trans (h.2.2.1.1)), (va_eq rfl), ((va_ne (by omega)).trans (h.2.2.1.2.2))⟩ (h.cE.cg w1 (agr.up agr.rf (by omega))) (h.fE.cg (m := 5) (by rw [List.length_map]; exact w2) (agr.up agr.rf (by omega))) (h.aE.cg w3 (agr.up agr.rf (by omega))) (h.wT.cg (agr.up agr.rf (by omega))) (h.foT.cg (agr.up agr.rf (by omega))) (h.afT.cg (agr.up agr.rf (by omega))) (h.or.ag hw.wa (agr.up agr.rf (by omega)) (agr.up agr.rf (by omega)))
theorem Rep.wF2 {N M : Nat} {R : Rv} {n : Nat → Int32} (h : Rep N R n) (hw : Wf M R) {x : Int32} : Rep N (R.wF2 x) (va_up n (12) x) := by
  have w1 := hw.ch6
  have w2 := hw.fl5
  have w3 := hw.an6
  exact Rep.mk ⟨((va_ne (by omega)).trans (h.k0)), ((va_ne (by omega)).trans (h.k1)), ((va_ne (by omega)).trans (h.k2))⟩ ⟨((va_ne (by omega)).trans (h.k3)), ((va_ne (by omega)).trans (h.k4)), ((va_ne (by omega)).trans (h.k5)), ((va_ne (by omega)).trans (h.k6)), ((va_ne (by omega)).trans (h.k7)), ((va_ne (by omega)).trans (h.k8))⟩ ⟨((va_ne (by omega)).trans (h.2.2.1.1)), ((va_ne (by omega)).trans (h.2.2.1.2.1)), (va_eq rfl)⟩ (h.cE.cg w1 (agr.up agr.rf (by omega))) (h.fE.cg (m := 5) (by rw [List.length_map]; exact w2) (agr.up agr.rf (by omega))) (h.aE.cg w3 (agr.up agr.rf (by omega))) (h.wT.cg (agr.up agr.rf (by omega))) (h.foT.cg (agr.up agr.rf (by omega))) (h.afT.cg (agr.up agr.rf (by omega))) (h.or.ag hw.wa (agr.up agr.rf (by omega)) (agr.up agr.rf (by omega)))
theorem Rep.addC {N M : Nat} {R : Rv} {n : Nat → Int32} (h : Rep N R n) (hw : Wf M R) {c : T3} (hl : R.ch.length < 6) : Rep N (R.wCh (R.ch ++ [c])) (va_up (va_up (va_up (va_up n (0) (nI (R.ch.length + 1))) (13 + 3 * R.ch.length) c.1) (13 + 3 * R.ch.length + 1) c.2.1) (13 + 3 * R.ch.length + 2) c.2.2) := by
  have w1 := hw.ch6
  have w2 := hw.fl5
  have w3 := hw.an6
  exact Rep.mk ⟨(by rw [List.length_append, List.length_singleton]; exact ((va_ne (by omega)).trans ((va_ne (by omega)).trans ((va_ne (by omega)).trans (va_eq rfl))))), ((va_ne (by omega)).trans ((va_ne (by omega)).trans ((va_ne (by omega)).trans ((va_ne (by omega)).trans (h.k1))))), ((va_ne (by omega)).trans ((va_ne (by omega)).trans ((va_ne (by omega)).trans ((va_ne (by omega)).trans (h.k2)))))⟩ ⟨((va_ne (by omega)).trans ((va_ne (by omega)).trans ((va_ne (by omega)).trans ((va_ne (by omega)).trans (h.k3))))), ((va_ne (by omega)).trans ((va_ne (by omega)).trans ((va_ne (by omega)).trans ((va_ne (by omega)).trans (h.k4))))), ((va_ne (by omega)).trans ((va_ne (by omega)).trans ((va_ne (by omega)).trans ((va_ne (by omega)).trans (h.k5))))), ((va_ne (by omega)).trans ((va_ne (by omega)).trans ((va_ne (by omega)).trans ((va_ne (by omega)).trans (h.k6))))), ((va_ne (by omega)).trans ((va_ne (by omega)).trans ((va_ne (by omega)).trans ((va_ne (by omega)).trans (h.k7))))), ((va_ne (by omega)).trans ((va_ne (by omega)).trans ((va_ne (by omega)).trans ((va_ne (by omega)).trans (h.k8)))))⟩ ⟨((va_ne (by omega)).trans ((va_ne (by omega)).trans ((va_ne (by omega)).trans ((va_ne (by omega)).trans (h.2.2.1.1))))), ((va_ne (by omega)).trans ((va_ne (by omega)).trans ((va_ne (by omega)).trans ((va_ne (by omega)).trans (h.2.2.1.2.1))))), ((va_ne (by omega)).trans ((va_ne (by omega)).trans ((va_ne (by omega)).trans ((va_ne (by omega)).trans (h.2.2.1.2.2)))))⟩ (h.cE.snoc (agr.up (agr.up (agr.up (agr.up agr.rf (by omega)) (by omega)) (by omega)) (by omega)) ((va_ne (by omega)).trans ((va_ne (by omega)).trans (va_eq rfl))) ((va_ne (by omega)).trans (va_eq rfl)) (va_eq rfl)) (h.fE.cg (m := 5) (by rw [List.length_map]; exact w2) (agr.up (agr.up (agr.up (agr.up agr.rf (by omega)) (by omega)) (by omega)) (by omega))) (h.aE.cg w3 (agr.up (agr.up (agr.up (agr.up agr.rf (by omega)) (by omega)) (by omega)) (by omega))) (h.wT.cg (agr.up (agr.up (agr.up (agr.up agr.rf (by omega)) (by omega)) (by omega)) (by omega))) (h.foT.cg (agr.up (agr.up (agr.up (agr.up agr.rf (by omega)) (by omega)) (by omega)) (by omega))) (h.afT.cg (agr.up (agr.up (agr.up (agr.up agr.rf (by omega)) (by omega)) (by omega)) (by omega))) (h.or.ag hw.wa (agr.up (agr.up (agr.up (agr.up agr.rf (by omega)) (by omega)) (by omega)) (by omega)) (agr.up (agr.up (agr.up (agr.up agr.rf (by omega)) (by omega)) (by omega)) (by omega)))
theorem Rep.addA {N M : Nat} {R : Rv} {n : Nat → Int32} (h : Rep N R n) (hw : Wf M R) {c : T3} (hl : R.an.length < 6) : Rep N (R.wAn (R.an ++ [c])) (va_up (va_up (va_up (va_up n (2) (nI (R.an.length + 1))) (46 + 3 * R.an.length) c.1) (46 + 3 * R.an.length + 1) c.2.1) (46 + 3 * R.an.length + 2) c.2.2) := by
  have w1 := hw.ch6
  have w2 := hw.fl5
  have w3 := hw.an6
  exact Rep.mk ⟨((va_ne (by omega)).trans ((va_ne (by omega)).trans ((va_ne (by omega)).trans ((va_ne (by omega)).trans (h.k0))))), ((va_ne (by omega)).trans ((va_ne (by omega)).trans ((va_ne (by omega)).trans ((va_ne (by omega)).trans (h.k1))))), (by rw [List.length_append, List.length_singleton]; exact ((va_ne (by omega)).trans ((va_ne (by omega)).trans ((va_ne (by omega)).trans (va_eq rfl)))))⟩ ⟨((va_ne (by omega)).trans ((va_ne (by omega)).trans ((va_ne (by omega)).trans ((va_ne (by omega)).trans (h.k3))))), ((va_ne (by omega)).trans ((va_ne (by omega)).trans ((va_ne (by omega)).trans ((va_ne (by omega)).trans (h.k4))))), ((va_ne (by omega)).trans ((va_ne (by omega)).trans ((va_ne (by omega)).trans ((va_ne (by omega)).trans (h.k5))))), ((va_ne (by omega)).trans ((va_ne (by omega)).trans ((va_ne (by omega)).trans ((va_ne (by omega)).trans (h.k6))))), ((va_ne (by omega)).trans ((va_ne (by omega)).trans ((va_ne (by omega)).trans ((va_ne (by omega)).trans (h.k7))))), ((va_ne (by omega)).trans ((va_ne (by omega)).trans ((va_ne (by omega)).trans ((va_ne (by omega)).trans (h.k8)))))⟩ ⟨((va_ne (by omega)).trans ((va_ne (by omega)).trans ((va_ne (by omega)).trans ((va_ne (by omega)).trans (h.2.2.1.1))))), ((va_ne (by omega)).trans ((va_ne (by omega)).trans ((va_ne (by omega)).trans ((va_ne (by omega)).trans (h.2.2.1.2.1))))), ((va_ne (by omega)).trans ((va_ne (by omega)).trans ((va_ne (by omega)).trans ((va_ne (by omega)).trans (h.2.2.1.2.2)))))⟩ (h.cE.cg w1 (agr.up (agr.up (agr.up (agr.up agr.rf (by omega)) (by omega)) (by omega)) (by omega))) (h.fE.cg (m := 5) (by rw [List.length_map]; exact w2) (agr.up (agr.up (agr.up (agr.up agr.rf (by omega)) (by omega)) (by omega)) (by omega))) (h.aE.snoc (agr.up (agr.up (agr.up (agr.up agr.rf (by omega)) (by omega)) (by omega)) (by omega)) ((va_ne (by omega)).trans ((va_ne (by omega)).trans (va_eq rfl))) ((va_ne (by omega)).trans (va_eq rfl)) (va_eq rfl)) (h.wT.cg (agr.up (agr.up (agr.up (agr.up agr.rf (by omega)) (by omega)) (by omega)) (by omega))) (h.foT.cg (agr.up (agr.up (agr.up (agr.up agr.rf (by omega)) (by omega)) (by omega)) (by omega))) (h.afT.cg (agr.up (agr.up (agr.up (agr.up agr.rf (by omega)) (by omega)) (by omega)) (by omega))) (h.or.ag hw.wa (agr.up (agr.up (agr.up (agr.up agr.rf (by omega)) (by omega)) (by omega)) (by omega)) (agr.up (agr.up (agr.up (agr.up agr.rf (by omega)) (by omega)) (by omega)) (by omega)))
theorem Rep.addF {N M : Nat} {R : Rv} {n : Nat → Int32} (h : Rep N R n) (hw : Wf M R) {c : T3} (hl : R.fl.length < 5) : Rep N (R.wFl (R.fl ++ [c])) (va_up (va_up (va_up (va_up n (1) (nI (R.fl.length + 1))) (31 + 3 * R.fl.length) c.1) (31 + 3 * R.fl.length + 1) c.2.2) (31 + 3 * R.fl.length + 2) c.2.1) := by
  have w1 := hw.ch6
  have w2 := hw.fl5
  have w3 := hw.an6
  exact Rep.mk ⟨((va_ne (by omega)).trans ((va_ne (by omega)).trans ((va_ne (by omega)).trans ((va_ne (by omega)).trans (h.k0))))), (by rw [List.length_append, List.length_singleton]; exact ((va_ne (by omega)).trans ((va_ne (by omega)).trans ((va_ne (by omega)).trans (va_eq rfl))))), ((va_ne (by omega)).trans ((va_ne (by omega)).trans ((va_ne (by omega)).trans ((va_ne (by omega)).trans (h.k2)))))⟩ ⟨((va_ne (by omega)).trans ((va_ne (by omega)).trans ((va_ne (by omega)).trans ((va_ne (by omega)).trans (h.k3))))), ((va_ne (by omega)).trans ((va_ne (by omega)).trans ((va_ne (by omega)).trans ((va_ne (by omega)).trans (h.k4))))), ((va_ne (by omega)).trans ((va_ne (by omega)).trans ((va_ne (by omega)).trans ((va_ne (by omega)).trans (h.k5))))), ((va_ne (by omega)).trans ((va_ne (by omega)).trans ((va_ne (by omega)).trans ((va_ne (by omega)).trans (h.k6))))), ((va_ne (by omega)).trans ((va_ne (by omega)).trans ((va_ne (by omega)).trans ((va_ne (by omega)).trans (h.k7))))), ((va_ne (by omega)).trans ((va_ne (by omega)).trans ((va_ne (by omega)).trans ((va_ne (by omega)).trans (h.k8)))))⟩ ⟨((va_ne (by omega)).trans ((va_ne (by omega)).trans ((va_ne (by omega)).trans ((va_ne (by omega)).trans (h.2.2.1.1))))), ((va_ne (by omega)).trans ((va_ne (by omega)).trans ((va_ne (by omega)).trans ((va_ne (by omega)).trans (h.2.2.1.2.1))))), ((va_ne (by omega)).trans ((va_ne (by omega)).trans ((va_ne (by omega)).trans ((va_ne (by omega)).trans (h.2.2.1.2.2)))))⟩ (h.cE.cg w1 (agr.up (agr.up (agr.up (agr.up agr.rf (by omega)) (by omega)) (by omega)) (by omega))) (by
    have e9 : (R.fl.map flE).length = R.fl.length := List.length_map flE
    rw [List.map_append]
    exact h.fE.snoc (c := flE c) (by rw [e9]; exact (agr.up (agr.up (agr.up (agr.up agr.rf (by omega)) (by omega)) (by omega)) (by omega))) (by rw [e9]; exact ((va_ne (by omega)).trans ((va_ne (by omega)).trans (va_eq rfl)))) (by rw [e9]; exact ((va_ne (by omega)).trans (va_eq rfl))) (by rw [e9]; exact (va_eq rfl))) (h.aE.cg w3 (agr.up (agr.up (agr.up (agr.up agr.rf (by omega)) (by omega)) (by omega)) (by omega))) (h.wT.cg (agr.up (agr.up (agr.up (agr.up agr.rf (by omega)) (by omega)) (by omega)) (by omega))) (h.foT.cg (agr.up (agr.up (agr.up (agr.up agr.rf (by omega)) (by omega)) (by omega)) (by omega))) (h.afT.cg (agr.up (agr.up (agr.up (agr.up agr.rf (by omega)) (by omega)) (by omega)) (by omega))) (h.or.ag hw.wa (agr.up (agr.up (agr.up (agr.up agr.rf (by omega)) (by omega)) (by omega)) (by omega)) (agr.up (agr.up (agr.up (agr.up agr.rf (by omega)) (by omega)) (by omega)) (by omega)))
theorem Rep.setW {N M : Nat} {R : Rv} {n : Nat → Int32} (h : Rep N R n) (hw : Wf M R) {j : Nat} {c : T3} {x : Int32} (hc : R.ch[j]? = some c) : Rep N (R.wCh (R.ch.set j (tW c x))) (va_up n (13 + 3 * j) x) := by
  have w1 := hw.ch6
  have w2 := hw.fl5
  have w3 := hw.an6
  have hj : j < R.ch.length := (List.getElem?_eq_some_iff.mp hc).1
  obtain ⟨q1, q2, q3⟩ := h.c hc
  exact Rep.mk ⟨(by rw [List.length_set]; exact (va_ne (by omega)).trans h.k0), ((va_ne (by omega)).trans (h.k1)), ((va_ne (by omega)).trans (h.k2))⟩ ⟨((va_ne (by omega)).trans (h.k3)), ((va_ne (by omega)).trans (h.k4)), ((va_ne (by omega)).trans (h.k5)), ((va_ne (by omega)).trans (h.k6)), ((va_ne (by omega)).trans (h.k7)), ((va_ne (by omega)).trans (h.k8))⟩ ⟨((va_ne (by omega)).trans (h.2.2.1.1)), ((va_ne (by omega)).trans (h.2.2.1.2.1)), ((va_ne (by omega)).trans (h.2.2.1.2.2))⟩ (h.cE.set (fun k hk => va_ne (by omega)) (va_eq rfl) ((va_ne (by omega)).trans q2) ((va_ne (by omega)).trans q3)) (h.fE.cg (m := 5) (by rw [List.length_map]; exact w2) (agr.up agr.rf (by omega))) (h.aE.cg w3 (agr.up agr.rf (by omega))) (h.wT.cg (agr.up agr.rf (by omega))) (h.foT.cg (agr.up agr.rf (by omega))) (h.afT.cg (agr.up agr.rf (by omega))) (h.or.ag hw.wa (agr.up agr.rf (by omega)) (agr.up agr.rf (by omega)))
theorem Rep.setD {N M : Nat} {R : Rv} {n : Nat → Int32} (h : Rep N R n) (hw : Wf M R) {j : Nat} {c : T3} {x : Int32} (hc : R.an[j]? = some c) : Rep N (R.wAn (R.an.set j (c.1, c.2.1, x))) (va_up n (46 + 3 * j + 2) x) := by
  have w1 := hw.ch6
  have w2 := hw.fl5
  have w3 := hw.an6
  have hj : j < R.an.length := (List.getElem?_eq_some_iff.mp hc).1
  obtain ⟨q1, q2, q3⟩ := h.a hc
  exact Rep.mk ⟨((va_ne (by omega)).trans (h.k0)), ((va_ne (by omega)).trans (h.k1)), (by rw [List.length_set]; exact (va_ne (by omega)).trans h.k2)⟩ ⟨((va_ne (by omega)).trans (h.k3)), ((va_ne (by omega)).trans (h.k4)), ((va_ne (by omega)).trans (h.k5)), ((va_ne (by omega)).trans (h.k6)), ((va_ne (by omega)).trans (h.k7)), ((va_ne (by omega)).trans (h.k8))⟩ ⟨((va_ne (by omega)).trans (h.2.2.1.1)), ((va_ne (by omega)).trans (h.2.2.1.2.1)), ((va_ne (by omega)).trans (h.2.2.1.2.2))⟩ (h.cE.cg w1 (agr.up agr.rf (by omega))) (h.fE.cg (m := 5) (by rw [List.length_map]; exact w2) (agr.up agr.rf (by omega))) (h.aE.set (c := (c.1, c.2.1, x)) (fun k hk => va_ne (by omega)) ((va_ne (by omega)).trans q1) ((va_ne (by omega)).trans q2) (va_eq rfl)) (h.wT.cg (agr.up agr.rf (by omega))) (h.foT.cg (agr.up agr.rf (by omega))) (h.afT.cg (agr.up agr.rf (by omega))) (h.or.ag hw.wa (agr.up agr.rf (by omega)) (agr.up agr.rf (by omega)))
abbrev ropeT (n : Int32) (R : Rv) : Out := if inR n 10 200 = true then ropO n R else .inr (.inl true)
abbrev fareT (k n : Int32) (R : Rv) : Out := if inR k 0 2 = true ∧ inR n 0 99 = true then farO k.toNatClampNeg n R else .inr (.inl true)
abbrev digT (w f b : Int32) (R : Rv) : Out := if inR w 10 99 = true ∧ inR f 0 9 = true ∧ inR b 1 9 = true then digO (w, f, b) R else .inr (.inl true)
abbrev floT (a b c : Int32) (R : Rv) : Out := if inR a 0 99 = true ∧ inR b 1 9 = true ∧ inR c 1 48 = true then floO a b c R else .inr (.inl true)
theorem faS_rep {N M : Nat} {R : Rv} {n : Nat → Int32} (h : Rep N R n) (hw : Wf M R) {k : Nat} (hk : k < 3) {x : Int32} : Rep N (faS R k x) (va_up n (10 + k) x) := by
  match k, hk with
  | 0, _ => exact h.wF0 hw
  | 1, _ => exact h.wF1 hw
  | 2, _ => exact h.wF2 hw
  | _ + 3, h9 => exact absurd h9 (by omega)
theorem nw_w {V : MV} {f : Nat → Int32} : (V.wNw f).nw = f := rfl
theorem pMo.e {N : Nat} {I : AI} {L : AL} {m : Nat} {A : MA} {F : Fy} {cb : Bool → Int32} {cr w : Int32} {o : Out} {b : Bool} {V : MV} (ho : o = .inr (.inl b)) (hM : Mr N F V) (ht : V.th = cb b) : pMo N I L m A F cb cr o (some (.int w)) I (mdL L m A V) := by
  subst ho
  exact ⟨rfl, V, w, rfl, rfl, hM.mono (Nat.le_succ N), ht⟩
theorem pMo.r {N : Nat} {I : AI} {L : AL} {m : Nat} {A : MA} {F : Fy} {cb : Bool → Int32} {cr w : Int32} {o : Out} {p : Int32 × Int32} {V : MV} (ho : o = .inr (.inr p)) (hM : Mr N ((F.wRe p.1).wDe p.2) V) (ht : V.th = cr) : pMo N I L m A F cb cr o (some (.int w)) I (mdL L m A V) := by
  subst ho
  exact ⟨rfl, V, w, rfl, rfl, hM.mono (Nat.le_succ N), ht⟩
theorem pMo.d {N : Nat} {I : AI} {L : AL} {m : Nat} {A : MA} {F : Fy} {cb : Bool → Int32} {cr v : Int32} {o : Out} {R2 : Rv} {V : MV} (ho : o = .inl (v, R2)) (hM : Mr (N + 1) (chF F (.inl (v, R2))) V) (ht : V.th = 0) : pMo N I L m A F cb cr o (some (.int v)) I (mdL L m A V) := by
  subst ho
  exact ⟨rfl, V, v, rfl, rfl, hM, rfl, ht⟩
/-- the parts that the model's own cells do not touch -/
theorem Mr.rd {N : Nat} {F : Fy} {V : MV} (h : Mr N F V) {t : Nat → Int32} {a c re de : Int32} : Mr N ((F.wRe re).wDe de) ((((V.wTh 0).wTr t).wRe re).wDe de |>.wTh c) := ⟨h.1, h.2.1, h.2.2.1, h.2.2.2.1, h.2.2.2.2.1, h.2.2.2.2.2.1, h.2.2.2.2.2.2.1, h.2.2.2.2.2.2.2.1, rfl, rfl, h.2.2.2.2.2.2.2.2.2.2⟩
theorem kv_X4_84 : LkV RX4 84 yX4_tries 0 := ⟨q3343, q3345, qs34, q87, by decide +kernel, by decide +kernel, by decide +kernel⟩
set_option maxHeartbeats 4000000 in
set_option maxRecDepth 100000 in
theorem sp_X4_rope {l : Launch} {s0 : State} {D : va_G} {I : AI} {L : AL} {m : Nat} {A : MA} {V : MV} {N : Nat} {F : Fy} (hΓ : Gam l s0 D) (hA : MOk m A) (hM : Mr N F V) (hW : WfF N F) {n : Int32} : Spc l s0 D yX4_rope 3 [.ref m, .int n] I (mdL L m A V) 0 0 (pMo N I L m A F (fun _ => 1) 2 (ropeT n F.rv)) noX := by
  refine Spc.of hΓ cX4_rope 3 (some FieldType.int) q3547 (by decide +kernel) (by decide) (Nat.le_of_ble_eq_true rfl) (fun G GX hG => ?_)
  refine hG.aload_n dX4_rope_0 rfl ?_
  refine hG.callV dX4_rope_1 kv_X4_84 (Rcv.raw mdL_m cl_X4) (sp_X4_tries hΓ hA) rfl rfl (Nat.le_of_ble_eq_true rfl) (by decide) (by omega) (by omega) (fun r1 I1 L1 hI1 h1 => ?_) (fun _ _ _ _ _ h => h.elim)
  obtain ⟨rfl, rfl, t, ht, rfl⟩ := h1
  have hT : Rep N F.rv t := hM.1.cg hW.1 ht
  refine hG.iload_n dX4_rope_4 rfl ?_
  refine hG.bipush (v := 10) dX4_rope_5 rfl ?_
  refine hG.sipush (v := 200) dX4_rope_7 rfl ?_
  refine hG.callS dX4_rope_10 ks_X4_80 (sp_X4_in hΓ) rfl rfl (Nat.le_of_ble_eq_true rfl) (by decide) (by omega) (by omega) (fun r10 I10 L10 hI10 h10 => ?_) (fun _ _ _ _ _ h => h.elim)
  obtain ⟨rfl, rfl, rfl⟩ := h10
  refine hG.if_ne (tgt := 22) dX4_rope_13 rfl (fun c_13 => ?_) (fun c_13 => ?_)
  · refine hG.aload_n dX4_rope_22 rfl ?_
    refine hG.get dX4_rope_23 fg_X4_21_X4 (Or.inl mdL_m) rfl ?_
    refine hG.iconst (v := 5) dX4_rope_26 rfl ?_
    refine hG.nld hA (5) dX4_rope_27 rfl (by decide) hM.1.k5 ?_
    refine hG.istore_n dX4_rope_28 (by decide) ?_
    refine hG.aload_n dX4_rope_29 rfl ?_
    refine hG.get dX4_rope_30 fg_X4_21_X4 (Or.inl mdL_m) rfl ?_
    refine hG.iconst (v := 5) dX4_rope_33 rfl ?_
    refine hG.iload_n dX4_rope_34 rfl ?_
    refine hG.nst hA (5) dX4_rope_35 rfl (by decide) ?_
    refine hG.aload_n dX4_rope_36 rfl ?_
    refine hG.iload_n dX4_rope_37 rfl ?_
    refine hG.callV dX4_rope_38 kv_X4_73 (Rcv.raw mdL_m cl_X4) (sp_X4_keeps hΓ hA hM.2.1 hM.2.2.1 hW.2.2.1 hW.2.1 hT hW.1) rfl rfl (Nat.le_of_ble_eq_true rfl) (by decide) (by omega) (by omega) (fun r38 I38 L38 hI38 h38 => ?_) (fun _ _ _ _ _ h => h.elim)
    obtain ⟨rfl, rfl, kp, hkp, rfl⟩ := h38
    refine hG.iret dX4_rope_41 rfl ?_ (by omega) (by omega) trivial
    have ho : ropeT n F.rv = ropO n F.rv := if_pos (b2i_1 c_13)
    exact pMo.d ho (Mr.don (a := V.an) hM ((hM.1.wRp hW.1).mono (Nat.le_succ N)) hkp) rfl
  · refine hG.aload_n dX4_rope_16 rfl ?_
    refine hG.iconst (v := 1) dX4_rope_17 rfl ?_
    refine hG.callV dX4_rope_18 kv_X4_77 (Rcv.raw mdL_m cl_X4) (sp_X4_raises hΓ) rfl rfl (Nat.le_of_ble_eq_true rfl) (by decide) (by omega) (by omega) (fun r18 I18 L18 hI18 h18 => ?_) (fun _ _ _ _ _ h => h.elim)
    obtain ⟨rfl, rfl, rfl⟩ := h18
    refine hG.iret dX4_rope_21 rfl ?_ (by omega) (by omega) trivial
    first
    | exact pMo.e (b := true) (if_neg (bFT (b2i_0 c_13))) (show Mr N F _ from hM) rfl
theorem ks_X4_161 : LkS RX4 161 yX4_isKind 1 := ⟨q3486, q3487, q87, by decide +kernel, by decide +kernel, by decide +kernel⟩
set_option maxHeartbeats 4000000 in
set_option maxRecDepth 100000 in
theorem sp_X4_fare {l : Launch} {s0 : State} {D : va_G} {I : AI} {L : AL} {m : Nat} {A : MA} {V : MV} {N : Nat} {F : Fy} (hΓ : Gam l s0 D) (hA : MOk m A) (hM : Mr N F V) (hW : WfF N F) {k n : Int32} : Spc l s0 D yX4_fare 3 [.ref m, .int k, .int n] I (mdL L m A V) 0 0 (pMo N I L m A F (fun _ => 1) 2 (fareT k n F.rv)) noX := by
  refine Spc.of hΓ cX4_fare 4 (some FieldType.int) q3513 (by decide +kernel) (by decide) (Nat.le_of_ble_eq_true rfl) (fun G GX hG => ?_)
  refine hG.aload_n dX4_fare_0 rfl ?_
  refine hG.callV dX4_fare_1 kv_X4_84 (Rcv.raw mdL_m cl_X4) (sp_X4_tries hΓ hA) rfl rfl (Nat.le_of_ble_eq_true rfl) (by decide) (by omega) (by omega) (fun r1 I1 L1 hI1 h1 => ?_) (fun _ _ _ _ _ h => h.elim)
  obtain ⟨rfl, rfl, t, ht, rfl⟩ := h1
  have hT : Rep N F.rv t := hM.1.cg hW.1 ht
  refine hG.iload_n dX4_fare_4 rfl ?_
  refine hG.callS dX4_fare_5 ks_X4_161 (sp_X4_isKind hΓ) rfl rfl (Nat.le_of_ble_eq_true rfl) (by decide) (by omega) (by omega) (fun r5 I5 L5 hI5 h5 => ?_) (fun _ _ _ _ _ h => h.elim)
  obtain ⟨rfl, rfl, rfl⟩ := h5
  refine hG.if_eq (tgt := 21) dX4_fare_8 rfl (fun c_8 => ?_) (fun c_8 => ?_)
  · refine hG.aload_n dX4_fare_21 rfl ?_
    refine hG.iconst (v := 1) dX4_fare_22 rfl ?_
    refine hG.callV dX4_fare_23 kv_X4_77 (Rcv.raw mdL_m cl_X4) (sp_X4_raises hΓ) rfl rfl (Nat.le_of_ble_eq_true rfl) (by decide) (by omega) (by omega) (fun r23 I23 L23 hI23 h23 => ?_) (fun _ _ _ _ _ h => h.elim)
    obtain ⟨rfl, rfl, rfl⟩ := h23
    refine hG.iret dX4_fare_26 rfl ?_ (by omega) (by omega) trivial
    first
    | exact pMo.e (b := true) (if_neg (fun q => bFT (b2i_0 c_8) q.1)) (show Mr N F _ from hM) rfl
    | exact pMo.e (b := true) (if_neg (fun q => bFT (b2i_0 c_18) q.2)) (show Mr N F _ from hM) rfl
  · refine hG.iload_n dX4_fare_11 rfl ?_
    refine hG.iconst (v := 0) dX4_fare_12 rfl ?_
    refine hG.bipush (v := 99) dX4_fare_13 rfl ?_
    refine hG.callS dX4_fare_15 ks_X4_80 (sp_X4_in hΓ) rfl rfl (Nat.le_of_ble_eq_true rfl) (by decide) (by omega) (by omega) (fun r15 I15 L15 hI15 h15 => ?_) (fun _ _ _ _ _ h => h.elim)
    obtain ⟨rfl, rfl, rfl⟩ := h15
    refine hG.if_ne (tgt := 27) dX4_fare_18 rfl (fun c_18 => ?_) (fun c_18 => ?_)
    · obtain ⟨kk, hkk, rfl⟩ := idx_le (n := k) (m := 2) (by decide) (b2i_1 c_8)
      have hk3 : kk < 3 := by omega
      refine hG.aload_n dX4_fare_27 rfl ?_
      refine hG.get dX4_fare_28 fg_X4_21_X4 (Or.inl mdL_m) rfl ?_
      refine hG.bipush (v := 10) dX4_fare_31 rfl ?_
      refine hG.iload_n dX4_fare_33 rfl ?_
      refine hG.iadd dX4_fare_34 ?_
      refine hG.nld hA (10 + kk) dX4_fare_35 (ix1 10 kk) (by omega) (hM.1.f hk3) ?_
      refine hG.istore_n dX4_fare_36 (by decide) ?_
      refine hG.aload_n dX4_fare_37 rfl ?_
      refine hG.get dX4_fare_38 fg_X4_21_X4 (Or.inl mdL_m) rfl ?_
      refine hG.bipush (v := 10) dX4_fare_41 rfl ?_
      refine hG.iload_n dX4_fare_43 rfl ?_
      refine hG.iadd dX4_fare_44 ?_
      refine hG.iload_n dX4_fare_45 rfl ?_
      refine hG.nst hA (10 + kk) dX4_fare_46 (ix1 10 kk) (by omega) ?_
      refine hG.aload_n dX4_fare_47 rfl ?_
      refine hG.iload_n dX4_fare_48 rfl ?_
      refine hG.callV dX4_fare_49 kv_X4_73 (Rcv.raw mdL_m cl_X4) (sp_X4_keeps hΓ hA hM.2.1 hM.2.2.1 hW.2.2.1 hW.2.1 hT hW.1) rfl rfl (Nat.le_of_ble_eq_true rfl) (by decide) (by omega) (by omega) (fun r49 I49 L49 hI49 h49 => ?_) (fun _ _ _ _ _ h => h.elim)
      obtain ⟨rfl, rfl, kp, hkp, rfl⟩ := h49
      refine hG.iret dX4_fare_52 rfl ?_ (by omega) (by omega) trivial
      have ho : fareT (nI kk) n F.rv = farO kk n F.rv := by unfold fareT; rw [if_pos ⟨b2i_1 c_8, b2i_1 c_18⟩, nI_clamp (by omega)]
      exact pMo.d ho (Mr.don (a := V.an) hM ((faS_rep hM.1 hW.1 hk3).mono (Nat.le_succ N)) hkp) rfl
    · refine hG.aload_n dX4_fare_21 rfl ?_
      refine hG.iconst (v := 1) dX4_fare_22 rfl ?_
      refine hG.callV dX4_fare_23 kv_X4_77 (Rcv.raw mdL_m cl_X4) (sp_X4_raises hΓ) rfl rfl (Nat.le_of_ble_eq_true rfl) (by decide) (by omega) (by omega) (fun r23 I23 L23 hI23 h23 => ?_) (fun _ _ _ _ _ h => h.elim)
      obtain ⟨rfl, rfl, rfl⟩ := h23
      refine hG.iret dX4_fare_26 rfl ?_ (by omega) (by omega) trivial
      first
      | exact pMo.e (b := true) (if_neg (fun q => bFT (b2i_0 c_8) q.1)) (show Mr N F _ from hM) rfl
      | exact pMo.e (b := true) (if_neg (fun q => bFT (b2i_0 c_18) q.2)) (show Mr N F _ from hM) rfl
theorem kv_X4_87 : LkV RX4 87 yX4_why 2 := ⟨q3354, q3356, qs36, q87, by decide +kernel, by decide +kernel, by decide +kernel⟩
theorem kv_X4_91 : LkV RX4 91 yX4_ends 2 := ⟨q3358, q3360, qs37, q87, by decide +kernel, by decide +kernel, by decide +kernel⟩
set_option maxHeartbeats 4000000 in
set_option maxRecDepth 100000 in
theorem sp_X4_channel {l : Launch} {s0 : State} {D : va_G} {I : AI} {L : AL} {m : Nat} {A : MA} {V : MV} {N : Nat} {F : Fy} (hΓ : Gam l s0 D) (hA : MOk m A) (hM : Mr N F V) (hW : WfF N F) {w f b : Int32} : Spc l s0 D yX4_channel 4 [.ref m, .int w, .int f, .int b] I (mdL L m A V) 0 0 (pMo N I L m A F (fun _ => 1) 2 (digT w f b F.rv)) noX := by
  refine Spc.of hΓ cX4_channel 5 (some FieldType.int) q3342 (by decide +kernel) (by decide) (Nat.le_of_ble_eq_true rfl) (fun G GX hG => ?_)
  have hl6 := hW.1.ch6
  have hl5 := hW.1.fl5
  have ha6 := hW.1.an6
  refine hG.aload_n dX4_channel_0 rfl ?_
  refine hG.callV dX4_channel_1 kv_X4_84 (Rcv.raw mdL_m cl_X4) (sp_X4_tries hΓ hA) rfl rfl (Nat.le_of_ble_eq_true rfl) (by decide) (by omega) (by omega) (fun r1 I1 L1 hI1 h1 => ?_) (fun _ _ _ _ _ h => h.elim)
  obtain ⟨rfl, rfl, t, ht, rfl⟩ := h1
  have hT : Rep N F.rv t := hM.1.cg hW.1 ht
  refine hG.iload_n dX4_channel_4 rfl ?_
  refine hG.bipush (v := 10) dX4_channel_5 rfl ?_
  refine hG.bipush (v := 99) dX4_channel_7 rfl ?_
  refine hG.callS dX4_channel_9 ks_X4_80 (sp_X4_in hΓ) rfl rfl (Nat.le_of_ble_eq_true rfl) (by decide) (by omega) (by omega) (fun r9 I9 L9 hI9 h9 => ?_) (fun _ _ _ _ _ h => h.elim)
  obtain ⟨rfl, rfl, rfl⟩ := h9
  refine hG.if_eq (tgt := 35) dX4_channel_12 rfl (fun c_12 => ?_) (fun c_12 => ?_)
  · refine hG.aload_n dX4_channel_35 rfl ?_
    refine hG.iconst (v := 1) dX4_channel_36 rfl ?_
    refine hG.callV dX4_channel_37 kv_X4_77 (Rcv.raw mdL_m cl_X4) (sp_X4_raises hΓ) rfl rfl (Nat.le_of_ble_eq_true rfl) (by decide) (by omega) (by omega) (fun r37 I37 L37 hI37 h37 => ?_) (fun _ _ _ _ _ h => h.elim)
    obtain ⟨rfl, rfl, rfl⟩ := h37
    refine hG.iret dX4_channel_40 rfl ?_ (by omega) (by omega) trivial
    first
    | exact pMo.e (b := true) (if_neg (fun q => bFT (b2i_0 c_12) q.1)) (show Mr N F _ from hM) rfl
    | exact pMo.e (b := true) (if_neg (fun q => bFT (b2i_0 c_22) q.2.1)) (show Mr N F _ from hM) rfl
    | exact pMo.e (b := true) (if_neg (fun q => bFT (b2i_0 c_32) q.2.2)) (show Mr N F _ from hM) rfl
  · refine hG.iload_n dX4_channel_15 rfl ?_
    refine hG.iconst (v := 0) dX4_channel_16 rfl ?_
    refine hG.bipush (v := 9) dX4_channel_17 rfl ?_
    refine hG.callS dX4_channel_19 ks_X4_80 (sp_X4_in hΓ) rfl rfl (Nat.le_of_ble_eq_true rfl) (by decide) (by omega) (by omega) (fun r19 I19 L19 hI19 h19 => ?_) (fun _ _ _ _ _ h => h.elim)
    obtain ⟨rfl, rfl, rfl⟩ := h19
    refine hG.if_eq (tgt := 35) dX4_channel_22 rfl (fun c_22 => ?_) (fun c_22 => ?_)
    · refine hG.aload_n dX4_channel_35 rfl ?_
      refine hG.iconst (v := 1) dX4_channel_36 rfl ?_
      refine hG.callV dX4_channel_37 kv_X4_77 (Rcv.raw mdL_m cl_X4) (sp_X4_raises hΓ) rfl rfl (Nat.le_of_ble_eq_true rfl) (by decide) (by omega) (by omega) (fun r37 I37 L37 hI37 h37 => ?_) (fun _ _ _ _ _ h => h.elim)
      obtain ⟨rfl, rfl, rfl⟩ := h37
      refine hG.iret dX4_channel_40 rfl ?_ (by omega) (by omega) trivial
      first
      | exact pMo.e (b := true) (if_neg (fun q => bFT (b2i_0 c_12) q.1)) (show Mr N F _ from hM) rfl
      | exact pMo.e (b := true) (if_neg (fun q => bFT (b2i_0 c_22) q.2.1)) (show Mr N F _ from hM) rfl
      | exact pMo.e (b := true) (if_neg (fun q => bFT (b2i_0 c_32) q.2.2)) (show Mr N F _ from hM) rfl
    · refine hG.iload_n dX4_channel_25 rfl ?_
      refine hG.iconst (v := 1) dX4_channel_26 rfl ?_
      refine hG.bipush (v := 9) dX4_channel_27 rfl ?_
      refine hG.callS dX4_channel_29 ks_X4_80 (sp_X4_in hΓ) rfl rfl (Nat.le_of_ble_eq_true rfl) (by decide) (by omega) (by omega) (fun r29 I29 L29 hI29 h29 => ?_) (fun _ _ _ _ _ h => h.elim)
      obtain ⟨rfl, rfl, rfl⟩ := h29
      refine hG.if_ne (tgt := 41) dX4_channel_32 rfl (fun c_32 => ?_) (fun c_32 => ?_)
      · refine hG.aload_n dX4_channel_41 rfl ?_
        refine hG.get dX4_channel_42 fg_X4_21_X4 (Or.inl mdL_m) rfl ?_
        refine hG.iconst (v := 0) dX4_channel_45 rfl ?_
        refine hG.nld hA (0) dX4_channel_46 rfl (by decide) hM.1.k0 ?_
        refine hG.bipush (v := 6) dX4_channel_47 rfl ?_
        refine hG.icmp_ne (tgt := 65) dX4_channel_49 rfl (fun c_49 => ?_) (fun c_49 => ?_)
        · have hlt : F.rv.ch.length < 6 := Nat.lt_of_le_of_ne hl6 (fun e => c_49 (by rw [e]; rfl))
          refine hG.bipush (v := 13) dX4_channel_65 rfl ?_
          refine hG.iconst (v := 3) dX4_channel_67 rfl ?_
          refine hG.aload_n dX4_channel_68 rfl ?_
          refine hG.get dX4_channel_69 fg_X4_21_X4 (Or.inl mdL_m) rfl ?_
          refine hG.iconst (v := 0) dX4_channel_72 rfl ?_
          refine hG.dup2 dX4_channel_73 rfl rfl ?_
          refine hG.nld hA (0) dX4_channel_74 rfl (by decide) hM.1.k0 ?_
          refine hG.dup_x2 dX4_channel_75 rfl rfl rfl ?_
          refine hG.iconst (v := 1) dX4_channel_76 rfl ?_
          refine hG.iadd dX4_channel_77 ?_
          rw [nI_1]
          refine hG.nst hA (0) dX4_channel_78 rfl (by decide) ?_
          refine hG.imul dX4_channel_79 ?_
          refine hG.iadd dX4_channel_80 ?_
          rw [show (13 : Int32) + 3 * nI F.rv.ch.length = nI (13 + 3 * F.rv.ch.length) from ix3 13 _]
          refine hG.istore dX4_channel_81 (by decide) ?_
          refine hG.aload_n dX4_channel_83 rfl ?_
          refine hG.get dX4_channel_84 fg_X4_21_X4 (Or.inl mdL_m) rfl ?_
          refine hG.iload dX4_channel_87 rfl ?_
          refine hG.iload_n dX4_channel_89 rfl ?_
          refine hG.nst hA (13 + 3 * F.rv.ch.length) dX4_channel_90 rfl (by omega) ?_
          refine hG.aload_n dX4_channel_91 rfl ?_
          refine hG.get dX4_channel_92 fg_X4_21_X4 (Or.inl mdL_m) rfl ?_
          refine hG.iload dX4_channel_95 rfl ?_
          refine hG.iconst (v := 1) dX4_channel_97 rfl ?_
          refine hG.iadd dX4_channel_98 ?_
          rw [nI_1]
          refine hG.iload_n dX4_channel_99 rfl ?_
          refine hG.nst hA (13 + 3 * F.rv.ch.length + 1) dX4_channel_100 rfl (by omega) ?_
          refine hG.aload_n dX4_channel_101 rfl ?_
          refine hG.get dX4_channel_102 fg_X4_21_X4 (Or.inl mdL_m) rfl ?_
          refine hG.iload dX4_channel_105 rfl ?_
          refine hG.iconst (v := 2) dX4_channel_107 rfl ?_
          refine hG.iadd dX4_channel_108 ?_
          rw [show nI (13 + 3 * F.rv.ch.length) + 2 = nI (13 + 3 * F.rv.ch.length + 2) from ix1 _ 2]
          refine hG.iload_n dX4_channel_109 rfl ?_
          refine hG.nst hA (13 + 3 * F.rv.ch.length + 2) dX4_channel_110 rfl (by omega) ?_
          refine hG.aload_n dX4_channel_111 rfl ?_
          refine hG.aload_n dX4_channel_112 rfl ?_
          refine hG.get dX4_channel_113 fg_X4_21_X4 (Or.inl mdL_m) rfl ?_
          refine hG.iconst (v := 0) dX4_channel_116 rfl ?_
          refine hG.nld hA (0) (v := nI (F.rv.ch.length + 1)) dX4_channel_117 rfl (by decide) (by
            rw [nw_w, va_ne, nw_w, va_ne, nw_w, va_ne, nw_w, va_eq rfl]
            all_goals omega) ?_
          refine hG.iconst (v := 1) dX4_channel_118 rfl ?_
          refine hG.isub dX4_channel_119 ?_
          rw [nI_pred]
          refine hG.callV dX4_channel_120 kv_X4_73 (Rcv.raw mdL_m cl_X4) (sp_X4_keeps hΓ hA hM.2.1 hM.2.2.1 hW.2.2.1 hW.2.1 hT hW.1) rfl rfl (Nat.le_of_ble_eq_true rfl) (by decide) (by omega) (by omega) (fun r120 I120 L120 hI120 h120 => ?_) (fun _ _ _ _ _ h => h.elim)
          obtain ⟨rfl, rfl, kp, hkp, rfl⟩ := h120
          refine hG.iret dX4_channel_123 rfl ?_ (by omega) (by omega) trivial
          have ho : digT w f b F.rv = .inl (nI F.rv.ch.length, F.rv.wCh (F.rv.ch ++ [(w, f, b)])) := by
            unfold digT digO
            rw [if_pos ⟨b2i_1 c_12, b2i_1 c_22, b2i_1 c_32⟩, if_pos hlt]
          exact pMo.d ho (Mr.don (a := V.an) hM ((hM.1.addC (c := (w, f, b)) hW.1 hlt).mono (Nat.le_succ N)) hkp) rfl
        · refine hG.aload_n dX4_channel_52 rfl ?_
          refine hG.aload_n dX4_channel_53 rfl ?_
          refine hG.iconst (v := 1) dX4_channel_54 rfl ?_
          refine hG.bipush (v := 6) dX4_channel_55 rfl ?_
          refine hG.callV dX4_channel_57 kv_X4_87 (Rcv.raw mdL_m cl_X4) (sp_X4_why hΓ) rfl rfl (Nat.le_of_ble_eq_true rfl) (by decide) (by omega) (by omega) (fun r57 I57 L57 hI57 h57 => ?_) (fun _ _ _ _ _ h => h.elim)
          obtain ⟨rfl, rfl, rfl⟩ := h57
          refine hG.iconst (v := 2) dX4_channel_60 rfl ?_
          refine hG.callV dX4_channel_61 kv_X4_91 (Rcv.raw mdL_m cl_X4) (sp_X4_endsN hΓ (by decide) rfl) rfl rfl (Nat.le_of_ble_eq_true rfl) (by decide) (by omega) (by omega) (fun r61 I61 L61 hI61 h61 => ?_) (fun _ _ _ _ _ h => h.elim)
          obtain ⟨rfl, rfl, rfl⟩ := h61
          refine hG.iret dX4_channel_64 rfl ?_ (by omega) (by omega) trivial
          have ho : digT w f b F.rv = .inr (.inr (1, 6)) := by
            unfold digT digO
            rw [if_pos ⟨b2i_1 c_12, b2i_1 c_22, b2i_1 c_32⟩, if_neg (fun q => absurd ((nI_eq (by omega) (by decide)).mp (show nI F.rv.ch.length = nI 6 from c_49)) (by omega))]
          exact pMo.r ho (hM.rd (a := 0)) rfl
      · refine hG.aload_n dX4_channel_35 rfl ?_
        refine hG.iconst (v := 1) dX4_channel_36 rfl ?_
        refine hG.callV dX4_channel_37 kv_X4_77 (Rcv.raw mdL_m cl_X4) (sp_X4_raises hΓ) rfl rfl (Nat.le_of_ble_eq_true rfl) (by decide) (by omega) (by omega) (fun r37 I37 L37 hI37 h37 => ?_) (fun _ _ _ _ _ h => h.elim)
        obtain ⟨rfl, rfl, rfl⟩ := h37
        refine hG.iret dX4_channel_40 rfl ?_ (by omega) (by omega) trivial
        first
        | exact pMo.e (b := true) (if_neg (fun q => bFT (b2i_0 c_12) q.1)) (show Mr N F _ from hM) rfl
        | exact pMo.e (b := true) (if_neg (fun q => bFT (b2i_0 c_22) q.2.1)) (show Mr N F _ from hM) rfl
        | exact pMo.e (b := true) (if_neg (fun q => bFT (b2i_0 c_32) q.2.2)) (show Mr N F _ from hM) rfl
set_option maxHeartbeats 4000000 in
set_option maxRecDepth 100000 in
theorem sp_X4_flood {l : Launch} {s0 : State} {D : va_G} {I : AI} {L : AL} {m : Nat} {A : MA} {V : MV} {N : Nat} {F : Fy} (hΓ : Gam l s0 D) (hA : MOk m A) (hM : Mr N F V) (hW : WfF N F) {a b c : Int32} : Spc l s0 D yX4_flood 4 [.ref m, .int a, .int b, .int c] I (mdL L m A V) 0 0 (pMo N I L m A F (fun _ => 1) 2 (floT a b c F.rv)) noX := by
  refine Spc.of hΓ cX4_flood 5 (some FieldType.int) q3409 (by decide +kernel) (by decide) (Nat.le_of_ble_eq_true rfl) (fun G GX hG => ?_)
  have hl6 := hW.1.ch6
  have hl5 := hW.1.fl5
  have ha6 := hW.1.an6
  refine hG.aload_n dX4_flood_0 rfl ?_
  refine hG.callV dX4_flood_1 kv_X4_84 (Rcv.raw mdL_m cl_X4) (sp_X4_tries hΓ hA) rfl rfl (Nat.le_of_ble_eq_true rfl) (by decide) (by omega) (by omega) (fun r1 I1 L1 hI1 h1 => ?_) (fun _ _ _ _ _ h => h.elim)
  obtain ⟨rfl, rfl, t, ht, rfl⟩ := h1
  have hT : Rep N F.rv t := hM.1.cg hW.1 ht
  refine hG.iload_n dX4_flood_4 rfl ?_
  refine hG.iconst (v := 0) dX4_flood_5 rfl ?_
  refine hG.bipush (v := 99) dX4_flood_6 rfl ?_
  refine hG.callS dX4_flood_8 ks_X4_80 (sp_X4_in hΓ) rfl rfl (Nat.le_of_ble_eq_true rfl) (by decide) (by omega) (by omega) (fun r8 I8 L8 hI8 h8 => ?_) (fun _ _ _ _ _ h => h.elim)
  obtain ⟨rfl, rfl, rfl⟩ := h8
  refine hG.if_eq (tgt := 34) dX4_flood_11 rfl (fun c_11 => ?_) (fun c_11 => ?_)
  · refine hG.aload_n dX4_flood_34 rfl ?_
    refine hG.iconst (v := 1) dX4_flood_35 rfl ?_
    refine hG.callV dX4_flood_36 kv_X4_77 (Rcv.raw mdL_m cl_X4) (sp_X4_raises hΓ) rfl rfl (Nat.le_of_ble_eq_true rfl) (by decide) (by omega) (by omega) (fun r36 I36 L36 hI36 h36 => ?_) (fun _ _ _ _ _ h => h.elim)
    obtain ⟨rfl, rfl, rfl⟩ := h36
    refine hG.iret dX4_flood_39 rfl ?_ (by omega) (by omega) trivial
    first
    | exact pMo.e (b := true) (if_neg (fun q => bFT (b2i_0 c_11) q.1)) (show Mr N F _ from hM) rfl
    | exact pMo.e (b := true) (if_neg (fun q => bFT (b2i_0 c_21) q.2.1)) (show Mr N F _ from hM) rfl
    | exact pMo.e (b := true) (if_neg (fun q => bFT (b2i_0 c_31) q.2.2)) (show Mr N F _ from hM) rfl
  · refine hG.iload_n dX4_flood_14 rfl ?_
    refine hG.iconst (v := 1) dX4_flood_15 rfl ?_
    refine hG.bipush (v := 9) dX4_flood_16 rfl ?_
    refine hG.callS dX4_flood_18 ks_X4_80 (sp_X4_in hΓ) rfl rfl (Nat.le_of_ble_eq_true rfl) (by decide) (by omega) (by omega) (fun r18 I18 L18 hI18 h18 => ?_) (fun _ _ _ _ _ h => h.elim)
    obtain ⟨rfl, rfl, rfl⟩ := h18
    refine hG.if_eq (tgt := 34) dX4_flood_21 rfl (fun c_21 => ?_) (fun c_21 => ?_)
    · refine hG.aload_n dX4_flood_34 rfl ?_
      refine hG.iconst (v := 1) dX4_flood_35 rfl ?_
      refine hG.callV dX4_flood_36 kv_X4_77 (Rcv.raw mdL_m cl_X4) (sp_X4_raises hΓ) rfl rfl (Nat.le_of_ble_eq_true rfl) (by decide) (by omega) (by omega) (fun r36 I36 L36 hI36 h36 => ?_) (fun _ _ _ _ _ h => h.elim)
      obtain ⟨rfl, rfl, rfl⟩ := h36
      refine hG.iret dX4_flood_39 rfl ?_ (by omega) (by omega) trivial
      first
      | exact pMo.e (b := true) (if_neg (fun q => bFT (b2i_0 c_11) q.1)) (show Mr N F _ from hM) rfl
      | exact pMo.e (b := true) (if_neg (fun q => bFT (b2i_0 c_21) q.2.1)) (show Mr N F _ from hM) rfl
      | exact pMo.e (b := true) (if_neg (fun q => bFT (b2i_0 c_31) q.2.2)) (show Mr N F _ from hM) rfl
    · refine hG.iload_n dX4_flood_24 rfl ?_
      refine hG.iconst (v := 1) dX4_flood_25 rfl ?_
      refine hG.bipush (v := 48) dX4_flood_26 rfl ?_
      refine hG.callS dX4_flood_28 ks_X4_80 (sp_X4_in hΓ) rfl rfl (Nat.le_of_ble_eq_true rfl) (by decide) (by omega) (by omega) (fun r28 I28 L28 hI28 h28 => ?_) (fun _ _ _ _ _ h => h.elim)
      obtain ⟨rfl, rfl, rfl⟩ := h28
      refine hG.if_ne (tgt := 40) dX4_flood_31 rfl (fun c_31 => ?_) (fun c_31 => ?_)
      · refine hG.aload_n dX4_flood_40 rfl ?_
        refine hG.get dX4_flood_41 fg_X4_21_X4 (Or.inl mdL_m) rfl ?_
        refine hG.iconst (v := 1) dX4_flood_44 rfl ?_
        refine hG.nld hA (1) dX4_flood_45 rfl (by decide) hM.1.k1 ?_
        refine hG.iconst (v := 5) dX4_flood_46 rfl ?_
        refine hG.icmp_ne (tgt := 62) dX4_flood_47 rfl (fun c_47 => ?_) (fun c_47 => ?_)
        · have hlt : F.rv.fl.length < 5 := Nat.lt_of_le_of_ne hl5 (fun e => c_47 (by rw [e]; rfl))
          refine hG.bipush (v := 31) dX4_flood_62 rfl ?_
          refine hG.iconst (v := 3) dX4_flood_64 rfl ?_
          refine hG.aload_n dX4_flood_65 rfl ?_
          refine hG.get dX4_flood_66 fg_X4_21_X4 (Or.inl mdL_m) rfl ?_
          refine hG.iconst (v := 1) dX4_flood_69 rfl ?_
          refine hG.dup2 dX4_flood_70 rfl rfl ?_
          refine hG.nld hA (1) dX4_flood_71 rfl (by decide) hM.1.k1 ?_
          refine hG.dup_x2 dX4_flood_72 rfl rfl rfl ?_
          refine hG.iconst (v := 1) dX4_flood_73 rfl ?_
          refine hG.iadd dX4_flood_74 ?_
          rw [nI_1]
          refine hG.nst hA (1) dX4_flood_75 rfl (by decide) ?_
          refine hG.imul dX4_flood_76 ?_
          refine hG.iadd dX4_flood_77 ?_
          rw [show (31 : Int32) + 3 * nI F.rv.fl.length = nI (31 + 3 * F.rv.fl.length) from ix3 31 _]
          refine hG.istore dX4_flood_78 (by decide) ?_
          refine hG.aload_n dX4_flood_80 rfl ?_
          refine hG.get dX4_flood_81 fg_X4_21_X4 (Or.inl mdL_m) rfl ?_
          refine hG.iload dX4_flood_84 rfl ?_
          refine hG.aload_n dX4_flood_86 rfl ?_
          refine hG.get dX4_flood_87 fg_X4_21_X4 (Or.inl mdL_m) rfl ?_
          refine hG.iconst (v := 3) dX4_flood_90 rfl ?_
          refine hG.nld hA (3) (v := F.rv.hr) dX4_flood_91 rfl (by decide) (by
            rw [nw_w, va_ne]
            · exact hM.1.k3
            all_goals omega) ?_
          refine hG.iload_n dX4_flood_92 rfl ?_
          refine hG.iadd dX4_flood_93 ?_
          refine hG.nst hA (31 + 3 * F.rv.fl.length) dX4_flood_94 rfl (by omega) ?_
          refine hG.aload_n dX4_flood_95 rfl ?_
          refine hG.get dX4_flood_96 fg_X4_21_X4 (Or.inl mdL_m) rfl ?_
          refine hG.iload dX4_flood_99 rfl ?_
          refine hG.iconst (v := 1) dX4_flood_101 rfl ?_
          refine hG.iadd dX4_flood_102 ?_
          rw [nI_1]
          refine hG.aload_n dX4_flood_103 rfl ?_
          refine hG.get dX4_flood_104 fg_X4_21_X4 (Or.inl mdL_m) rfl ?_
          refine hG.iconst (v := 3) dX4_flood_107 rfl ?_
          refine hG.nld hA (3) (v := F.rv.hr) dX4_flood_108 rfl (by decide) (by
            rw [nw_w, va_ne, nw_w, va_ne]
            · exact hM.1.k3
            all_goals omega) ?_
          refine hG.iload_n dX4_flood_109 rfl ?_
          refine hG.iadd dX4_flood_110 ?_
          refine hG.iload_n dX4_flood_111 rfl ?_
          refine hG.iadd dX4_flood_112 ?_
          refine hG.nst hA (31 + 3 * F.rv.fl.length + 1) dX4_flood_113 rfl (by omega) ?_
          refine hG.aload_n dX4_flood_114 rfl ?_
          refine hG.get dX4_flood_115 fg_X4_21_X4 (Or.inl mdL_m) rfl ?_
          refine hG.iload dX4_flood_118 rfl ?_
          refine hG.iconst (v := 2) dX4_flood_120 rfl ?_
          refine hG.iadd dX4_flood_121 ?_
          rw [show nI (31 + 3 * F.rv.fl.length) + 2 = nI (31 + 3 * F.rv.fl.length + 2) from ix1 _ 2]
          refine hG.iload_n dX4_flood_122 rfl ?_
          refine hG.nst hA (31 + 3 * F.rv.fl.length + 2) dX4_flood_123 rfl (by omega) ?_
          refine hG.aload_n dX4_flood_124 rfl ?_
          refine hG.aload_n dX4_flood_125 rfl ?_
          refine hG.get dX4_flood_126 fg_X4_21_X4 (Or.inl mdL_m) rfl ?_
          refine hG.iconst (v := 1) dX4_flood_129 rfl ?_
          refine hG.nld hA (1) (v := nI (F.rv.fl.length + 1)) dX4_flood_130 rfl (by decide) (by
            rw [nw_w, va_ne, nw_w, va_ne, nw_w, va_ne, nw_w, va_eq rfl]
            all_goals omega) ?_
          refine hG.callV dX4_flood_131 kv_X4_73 (Rcv.raw mdL_m cl_X4) (sp_X4_keeps hΓ hA hM.2.1 hM.2.2.1 hW.2.2.1 hW.2.1 hT hW.1) rfl rfl (Nat.le_of_ble_eq_true rfl) (by decide) (by omega) (by omega) (fun r131 I131 L131 hI131 h131 => ?_) (fun _ _ _ _ _ h => h.elim)
          obtain ⟨rfl, rfl, kp, hkp, rfl⟩ := h131
          refine hG.iret dX4_flood_134 rfl ?_ (by omega) (by omega) trivial
          have ho : floT a b c F.rv = .inl (nI (F.rv.fl.length + 1), F.rv.wFl (F.rv.fl ++ [(F.rv.hr + a, b, F.rv.hr + a + c)])) := by
            unfold floT floO
            rw [if_pos ⟨b2i_1 c_11, b2i_1 c_21, b2i_1 c_31⟩, if_pos hlt]
          exact pMo.d ho (Mr.don (a := V.an) hM ((hM.1.addF (c := (F.rv.hr + a, b, F.rv.hr + a + c)) hW.1 hlt).mono (Nat.le_succ N)) hkp) rfl
        · refine hG.aload_n dX4_flood_50 rfl ?_
          refine hG.aload_n dX4_flood_51 rfl ?_
          refine hG.iconst (v := 1) dX4_flood_52 rfl ?_
          refine hG.iconst (v := 5) dX4_flood_53 rfl ?_
          refine hG.callV dX4_flood_54 kv_X4_87 (Rcv.raw mdL_m cl_X4) (sp_X4_why hΓ) rfl rfl (Nat.le_of_ble_eq_true rfl) (by decide) (by omega) (by omega) (fun r54 I54 L54 hI54 h54 => ?_) (fun _ _ _ _ _ h => h.elim)
          obtain ⟨rfl, rfl, rfl⟩ := h54
          refine hG.iconst (v := 2) dX4_flood_57 rfl ?_
          refine hG.callV dX4_flood_58 kv_X4_91 (Rcv.raw mdL_m cl_X4) (sp_X4_endsN hΓ (by decide) rfl) rfl rfl (Nat.le_of_ble_eq_true rfl) (by decide) (by omega) (by omega) (fun r58 I58 L58 hI58 h58 => ?_) (fun _ _ _ _ _ h => h.elim)
          obtain ⟨rfl, rfl, rfl⟩ := h58
          refine hG.iret dX4_flood_61 rfl ?_ (by omega) (by omega) trivial
          have ho : floT a b c F.rv = .inr (.inr (1, 5)) := by
            unfold floT floO
            rw [if_pos ⟨b2i_1 c_11, b2i_1 c_21, b2i_1 c_31⟩, if_neg (fun q => absurd ((nI_eq (by omega) (by decide)).mp (show nI F.rv.fl.length = nI 5 from c_47)) (by omega))]
          exact pMo.r ho (hM.rd (a := 0)) rfl
      · refine hG.aload_n dX4_flood_34 rfl ?_
        refine hG.iconst (v := 1) dX4_flood_35 rfl ?_
        refine hG.callV dX4_flood_36 kv_X4_77 (Rcv.raw mdL_m cl_X4) (sp_X4_raises hΓ) rfl rfl (Nat.le_of_ble_eq_true rfl) (by decide) (by omega) (by omega) (fun r36 I36 L36 hI36 h36 => ?_) (fun _ _ _ _ _ h => h.elim)
        obtain ⟨rfl, rfl, rfl⟩ := h36
        refine hG.iret dX4_flood_39 rfl ?_ (by omega) (by omega) trivial
        first
        | exact pMo.e (b := true) (if_neg (fun q => bFT (b2i_0 c_11) q.1)) (show Mr N F _ from hM) rfl
        | exact pMo.e (b := true) (if_neg (fun q => bFT (b2i_0 c_21) q.2.1)) (show Mr N F _ from hM) rfl
        | exact pMo.e (b := true) (if_neg (fun q => bFT (b2i_0 c_31) q.2.2)) (show Mr N F _ from hM) rfl
