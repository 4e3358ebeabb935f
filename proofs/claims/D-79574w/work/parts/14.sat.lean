/-! SAT: the store on the machine's heap -/
def Cv (tys : List (ClassId × FieldType)) (e : E1) (v : va_E) : Prop := match e with
  | .inl x => ∃ cA : ClassId, (cA, x.1) ∈ tys ∧ v = .inl (cA, x.2)
  | .inr o => v = .inr o
theorem Cv.mono {t1 t2 : List (ClassId × FieldType)} (hs : ∀ x ∈ t1, x ∈ t2) {e : E1} {v : va_E} (h : Cv t1 e v) : Cv t2 e v := by
  cases e with
  | inl x =>
    obtain ⟨cA, h1, h2⟩ := h
    exact ⟨cA, hs _ h1, h2⟩
  | inr o => exact h
/-- a cell of the start's heap -/
def Sta (s0 : State) (D : va_G) (q : Nat) (e : E1) : Prop := ∃ (v : va_E) (tys : List (ClassId × FieldType)), va_K D CL tys s0 ∧ Cv tys e v ∧ va_at D CL (q, v) s0.heap
abbrev Are (s0 : State) : Nat → Prop := fun q => s0.heap.size ≤ q
/-- the heap below the start's size is the start's -/
def Frz (s0 : State) (H : Heap) : Prop := s0.heap.size ≤ H.size ∧ ∀ q : Nat, q < s0.heap.size → H[q]? = s0.heap[q]?
def Sat (s0 : State) (D : va_G) (I : AI) (L : AL) (H : Heap) : Prop := ∃ (g : Nat → Option E1) (ws : va_W) (tys : List (ClassId × FieldType)),
  StG I L g ∧ (∀ a e, g a = some e → ∃ v, (a, v) ∈ ws ∧ Cv tys e v) ∧
  (∀ q e, I q e → Sta s0 D q e ∨ (g q = none ∧ ∃ v, (q, v) ∈ ws ∧ Cv tys e v)) ∧ (∀ q e, Sta s0 D q e → I q e) ∧
  va_P D CL ws H ∧ va_D (Are s0) ws ∧ va_K D CL tys s0 ∧ Frz s0 H
theorem Sat.frz {s0 : State} {D : va_G} {I : AI} {L : AL} {H : Heap} (h : Sat s0 D I L H) : Frz s0 H := by
  obtain ⟨_, _, _, _, _, _, _, _, _, _, h⟩ := h
  exact h
theorem Sat.sta {s0 : State} {D : va_G} {I : AI} {L : AL} {H : Heap} (h : Sat s0 D I L H) {q : Nat} {e : E1} (hq : Sta s0 D q e) : I q e := by
  obtain ⟨_, _, _, _, _, _, h, _⟩ := h
  exact h q e hq
def Rd (I : AI) (L : AL) (a : Nat) (e : E1) : Prop := L a = some (.inl e) ∨ I a e
theorem Sat.rd {s0 : State} {D : va_G} {I : AI} {L : AL} {H : Heap} (h : Sat s0 D I L H) {a : Nat} {e : E1} (hr : Rd I L a e) :
    ∃ (ws : va_W) (tys : List (ClassId × FieldType)) (v : va_E) (p : Nat), ws[p]? = some (a, v) ∧ Cv tys e v ∧ va_P D CL ws H ∧ va_K D CL tys s0 := by
  obtain ⟨g, ws, tys, hG, hg, hI, -, hP, hD, hK, hF⟩ := h
  rcases hr with hr | hr
  · obtain ⟨v, h1, h2⟩ := hg a e (hG.raw hr)
    obtain ⟨p, hp⟩ := List.getElem?_of_mem h1
    exact ⟨ws, tys, v, p, hp, h2, hP, hK⟩
  · rcases hI a e hr with ⟨v, tys', k1, k2, k3⟩ | ⟨-, v, h1, h2⟩
    · refine ⟨[(a, v)], tys', v, 0, rfl, k2, ?_, k1⟩
      have hlt : a < s0.heap.size := va_at.lt k3
      intro k q hk
      have hk0 : q = (a, v) := by
        cases k with
        | zero => exact (Option.some.inj hk).symm
        | succ k => simp at hk
      subst hk0
      exact k3.kept (hF.2 a hlt)
    · obtain ⟨p, hp⟩ := List.getElem?_of_mem h1
      exact ⟨ws, tys, v, p, hp, h2, hP, hK⟩
theorem mem_set_ne {ws : va_W} {p : Nat} {a b : Nat} {v v' w : va_E} (hp : ws[p]? = some (a, v)) (hb : b ≠ a) (h : (b, w) ∈ ws) : (b, w) ∈ ws.set p (a, v') := by
  obtain ⟨i, hi⟩ := List.getElem?_of_mem h
  have hip : i ≠ p := by
    intro h
    rw [h, hp] at hi
    cases hi
    exact hb rfl
  refine List.mem_of_getElem? (i := i) ?_
  rw [List.getElem?_set_ne (Ne.symm hip)]
  exact hi
theorem mem_set_eq {ws : va_W} {p : Nat} {a : Nat} {v v' : va_E} (hp : ws[p]? = some (a, v)) : (a, v') ∈ ws.set p (a, v') := by
  refine List.mem_of_getElem? (i := p) ?_
  rw [List.getElem?_set_self (List.getElem?_eq_some_iff.mp hp).1]
theorem Sat.wr {s0 : State} {D : va_G} {I : AI} {L : AL} {H : Heap} (h : Sat s0 D I L H) {a : Nat} {e : E1} (ha : L a = some (.inl e)) :
    ∃ (ws : va_W) (tys : List (ClassId × FieldType)) (v : va_E) (p : Nat), ws[p]? = some (a, v) ∧ Cv tys e v ∧ va_P D CL ws H ∧ va_D (Are s0) ws ∧ va_K D CL tys s0 ∧
      ∀ (e' : E1) (v' : va_E) (H1 : Heap), Cv tys e' v' → va_P D CL (ws.set p (a, v')) H1 → va_D (Are s0) (ws.set p (a, v')) → Frz s0 H1 → Sat s0 D I (up1 L a (some (.inl e'))) H1 := by
  obtain ⟨g, ws, tys, hG, hg, hI, hst, hP, hD, hK, hF⟩ := h
  obtain ⟨v, h1, h2⟩ := hg a e (hG.raw ha)
  obtain ⟨p, hp⟩ := List.getElem?_of_mem h1
  refine ⟨ws, tys, v, p, hp, h2, hP, hD, hK, fun e' v' H1 c1 c2 c3 c4 => ⟨up1 g a (some e'), ws.set p (a, v'), tys, hG.set e' ha, fun b x hb => ?_, fun q x hq => ?_, hst, c2, c3, hK, c4⟩⟩
  · by_cases hba : b = a
    · subst hba
      rw [up1_s] at hb
      cases hb
      exact ⟨v', mem_set_eq hp, c1⟩
    · rw [up1_n hba] at hb
      obtain ⟨w, k1, k2⟩ := hg b x hb
      exact ⟨w, mem_set_ne hp hba k1, k2⟩
  · rcases hI q x hq with k | ⟨k0, w, k1, k2⟩
    · exact Or.inl k
    · have hqa : q ≠ a := by
        intro h
        subst h
        rw [hG.raw ha] at k0
        cases k0
      exact Or.inr ⟨by rw [up1_n hqa]; exact k0, w, mem_set_ne hp hqa k1, k2⟩
theorem Sat.nw {s0 : State} {D : va_G} {I : AI} {L : AL} {H : Heap} (h : Sat s0 D I L H) :
    ∃ (ws : va_W) (tys : List (ClassId × FieldType)), va_P D CL ws H ∧ va_D (Are s0) ws ∧ va_K D CL tys s0 ∧
      ∀ (q : Nat) (e : E1) (v : va_E) (tys' : List (ClassId × FieldType)) (H1 : Heap), (∀ x ∈ tys, x ∈ tys') → va_K D CL tys' s0 → Cv tys' e v → va_P D CL (ws ++ [(q, v)]) H1 → va_D (Are s0) (ws ++ [(q, v)]) → Frz s0 H1 →
        L q = none ∧ (∀ x, ¬ I q x) ∧ Sat s0 D I (up1 L q (some (.inl e))) H1 := by
  obtain ⟨g, ws, tys, hG, hg, hI, hst, hP, hD, hK, hF⟩ := h
  refine ⟨ws, tys, hP, hD, hK, fun q e v tys' H1 ht hK' hc hP' hD' hF' => ?_⟩
  have hlast : (ws ++ [(q, v)])[ws.length]? = some (q, v) := by
    rw [List.getElem?_append_right (Nat.le_refl _), Nat.sub_self]
    rfl
  have hno : ∀ w, (q, w) ∉ ws := by
    intro w hw
    obtain ⟨i, hi⟩ := List.getElem?_of_mem hw
    have hil : i < ws.length := (List.getElem?_eq_some_iff.mp hi).1
    have h1 : (ws ++ [(q, v)])[i]? = some (q, w) := by rw [List.getElem?_append_left hil]; exact hi
    have := hD'.1 i ws.length _ _ h1 hlast rfl
    omega
  have hgq : g q = none := by
    cases hx : g q with
    | none => rfl
    | some x =>
      obtain ⟨w, k1, -⟩ := hg q x hx
      exact absurd k1 (hno w)
  obtain ⟨h1, h2⟩ := hG.new e hgq
  have hqs : s0.heap.size ≤ q := hD'.2 ws.length _ hlast
  refine ⟨h1, fun x hx => ?_, up1 g q (some e), ws ++ [(q, v)], tys', h2, fun b x hb => ?_, fun b x hb => ?_, hst, hP', hD', hK', hF'⟩
  · rcases hI q x hx with ⟨w, t, k1, k2, k3⟩ | ⟨-, w, k1, -⟩
    · have := va_at.lt k3
      exact absurd this (Nat.not_lt.mpr hqs)
    · exact hno w k1
  · by_cases hbq : b = q
    · subst hbq
      rw [up1_s] at hb
      cases hb
      exact ⟨v, List.mem_append_right _ (List.mem_singleton.mpr rfl), hc⟩
    · rw [up1_n hbq] at hb
      obtain ⟨w, k1, k2⟩ := hg b x hb
      exact ⟨w, List.mem_append_left _ k1, k2.mono ht⟩
  · rcases hI b x hb with k | ⟨k0, w, k1, k2⟩
    · exact Or.inl k
    · have hbq : b ≠ q := by
        intro h
        subst h
        exact hno w k1
      exact Or.inr ⟨by rw [up1_n hbq]; exact k0, w, List.mem_append_left _ k1, k2.mono ht⟩
/-- a raw cell frozen: never written again -/
abbrev frI (I : AI) (a : Nat) (e : E1) : AI := fun q x => I q x ∨ (q = a ∧ x = e)
theorem frI_le {I : AI} {a : Nat} {e : E1} : ile I (frI I a e) := fun _ _ h => Or.inl h
theorem Sat.fr {s0 : State} {D : va_G} {I : AI} {L : AL} {H : Heap} (h : Sat s0 D I L H) {a : Nat} {e : E1} (ha : L a = some (.inl e)) : Sat s0 D (frI I a e) (up1 L a none) H := by
  obtain ⟨g, ws, tys, hG, hg, hI, hst, hP, hD, hK, hF⟩ := h
  refine ⟨up1 g a none, ws, tys, (hG.drop ha).mono frI_le, fun b x hb => ?_, fun q x hq => ?_, fun q x hq => Or.inl (hst q x hq), hP, hD, hK, hF⟩
  · by_cases hba : b = a
    · subst hba
      rw [up1_s] at hb
      cases hb
    · rw [up1_n hba] at hb
      exact hg b x hb
  · rcases hq with hq | ⟨rfl, rfl⟩
    · rcases hI q x hq with k | ⟨k0, w, k1, k2⟩
      · exact Or.inl k
      · have hqa : q ≠ a := by
          intro h
          subst h
          rw [hG.raw ha] at k0
          cases k0
        exact Or.inr ⟨by rw [up1_n hqa]; exact k0, w, k1, k2⟩
    · obtain ⟨w, k1, k2⟩ := hg q x (hG.raw ha)
      exact Or.inr ⟨up1_s, w, k1, k2⟩
theorem Sat.sub {s0 : State} {D : va_G} {I : AI} {L S : AL} {H : Heap} (h : Sat s0 D I L H) (hs : ∀ q x, S q = some x → L q = some x) : Sat s0 D I S H := by
  obtain ⟨g, ws, tys, hG, r⟩ := h
  exact ⟨g, ws, tys, hG.sub hs, r⟩
theorem Sat.op {s0 : State} {D : va_G} {I : AI} {L : AL} {H : Heap} {a k : Nat} {Φ : AI → Nat → AL → Prop} (h : Sat s0 D I L H) (ha : L a = some (cel k Φ)) :
    ∃ (J : AI) (S : AL), ile J I ∧ Φ J a S ∧ (∀ q x, S q = some x → q = a ∨ L q = none) ∧ S a ≠ none ∧ Sat s0 D I (ovl L a S) H := by
  obtain ⟨g, ws, tys, hG, r⟩ := h
  obtain ⟨J, S, h1, h2, h3, h4, h5⟩ := hG.op ha
  exact ⟨J, S, h1, h2, h3, h4, g, ws, tys, h5, r⟩
theorem Sat.cl {s0 : State} {D : va_G} {I : AI} {L S : AL} {H : Heap} {a : Nat} (k : Nat) {Φ : AI → Nat → AL → Prop} (h : Sat s0 D I L H) (hs : ∀ q x, S q = some x → L q = some x) (hSa : S a ≠ none) (hΦ : Φ I a S) : Sat s0 D I (clo L a S (cel k Φ)) H := by
  obtain ⟨g, ws, tys, hG, r⟩ := h
  exact ⟨g, ws, tys, hG.cl k hs hSa hΦ, r⟩
/-- what stands at a is an object of the class C -/
def Rcv (s0 : State) (D : va_G) (I : AI) (L : AL) (a : Nat) (C : String) : Prop := ∀ H : Heap, Sat s0 D I L H → ∃ cell : Cell, H[a]? = some cell ∧ cell.vm = .none ∧ s0.vm.findClass C = some cell.cls
theorem Rd.rcv {s0 : State} {D : va_G} {I : AI} {L : AL} {a ci N : Nat} {fs : List Value} {C : String} {T : u_T} (h : Rd I L a (.inr (ci, fs))) (hc : CL[ci]? = some (C, T, N)) : Rcv s0 D I L a C := by
  intro H hS
  obtain ⟨ws, tys, v, p, hp, hv, hP, hK⟩ := hS.rd h
  have hv : v = .inr (ci, fs) := hv
  subst hv
  obtain ⟨q', h1, cell, g1, g2, g3, -⟩ := hP p _ hp
  exact ⟨cell, g1, g3, by rw [g2]; exact (hK.1 ci _ hc).2.1⟩
