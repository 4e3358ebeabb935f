/-! THE STORE: what is owned (L, a partial map: an exact frame), what is frozen (I, a growing relation), and how both stand on the machine's heap. -/
abbrev E1 : Type := (FieldType × vp_A) ⊕ (Nat × List Value)
abbrev AI : Type := Nat → E1 → Prop
abbrev Prd : Type := AI → Nat → (Nat → Option E1) → Prop
abbrev Cel : Type := E1 ⊕ (Nat × Prd)
abbrev AL : Type := Nat → Option Cel
def ile (I J : AI) : Prop := ∀ q e, I q e → J q e
theorem ile_rf {I : AI} : ile I I := fun _ _ h => h
theorem ile_tr {I J K : AI} (h : ile I J) (h2 : ile J K) : ile I K := fun q e x => h2 q e (h q e x)
def up1 {α : Type} (g : Nat → Option α) (a : Nat) (x : Option α) : Nat → Option α := fun q => if q = a then x else g q
theorem up1_s {α : Type} {g : Nat → Option α} {a : Nat} {x : Option α} : up1 g a x a = x := if_pos rfl
theorem up1_n {α : Type} {g : Nat → Option α} {a q : Nat} {x : Option α} (h : q ≠ a) : up1 g a x q = g q := if_neg h
theorem up1_up1 {α : Type} {g : Nat → Option α} {a : Nat} {x y : Option α} : up1 (up1 g a x) a y = up1 g a y := by
  funext q
  unfold up1
  split <;> rfl
theorem up1_self {α : Type} {g : Nat → Option α} {a : Nat} : up1 g a (g a) = g := by
  funext q
  unfold up1
  split
  · rename_i h; rw [h]
  · rfl
theorem up1_comm {α : Type} {g : Nat → Option α} {a b : Nat} {x y : Option α} (h : a ≠ b) : up1 (up1 g a x) b y = up1 (up1 g b y) a x := by
  funext q
  unfold up1
  by_cases h1 : q = b
  · subst h1
    rw [if_pos rfl, if_neg (Ne.symm h), if_pos rfl]
  · rw [if_neg h1]
    by_cases h2 : q = a
    · rw [if_pos h2, if_pos h2]
    · rw [if_neg h2, if_neg h2, if_neg h1]
/-- the part of g that a owns -/
def prt (ow : Nat → Option Nat) (g : Nat → Option E1) (a : Nat) : Nat → Option E1 := fun q => if ow q = some a then g q else none
theorem prt_congr {o1 o2 : Nat → Option Nat} {g1 g2 : Nat → Option E1} {a : Nat} (h : ∀ z, (o1 z = some a ↔ o2 z = some a) ∧ (o1 z = some a → g1 z = g2 z)) : prt o1 g1 a = prt o2 g2 a := by
  funext z
  unfold prt
  by_cases h1 : o1 z = some a
  · rw [if_pos h1, if_pos ((h z).1.mp h1), (h z).2 h1]
  · rw [if_neg h1, if_neg (fun q => h1 ((h z).1.mpr q))]
def owS (S : AL) (o : Option Nat) : Option Nat := match o with
  | some r => if S r = none then none else some r
  | none => none
theorem owS_some {S : AL} {o : Option Nat} {r : Nat} : owS S o = some r ↔ o = some r ∧ S r ≠ none := by
  cases o with
  | none => exact ⟨(fun h => (nomatch h)), (fun h => (nomatch h.1))⟩
  | some q =>
    unfold owS
    by_cases hq : S q = none
    · simp only [if_pos hq]
      exact ⟨(fun h => (nomatch h)), fun h => absurd (by cases h.1; exact hq) h.2⟩
    · simp only [if_neg hq]
      exact ⟨fun h => by cases h; exact ⟨rfl, hq⟩, fun h => h.1⟩
def owC (S : AL) (a : Nat) (o : Option Nat) : Option Nat := match o with
  | some r => if S r = none then some r else some a
  | none => none
theorem owC_some {S : AL} {a : Nat} {o : Option Nat} {r : Nat} : owC S a o = some r ↔ (o = some r ∧ S r = none) ∨ (r = a ∧ ∃ q, o = some q ∧ S q ≠ none) := by
  cases o with
  | none => exact ⟨(fun h => (nomatch h)), fun h => by
    rcases h with ⟨h, -⟩ | ⟨-, q, h, -⟩
    · cases h
    · cases h⟩
  | some q =>
    unfold owC
    by_cases hq : S q = none
    · simp only [if_pos hq]
      refine ⟨fun h => by cases h; exact Or.inl ⟨rfl, hq⟩, fun h => ?_⟩
      rcases h with h | ⟨-, q', h, h2⟩
      · exact h.1
      · cases h; exact absurd hq h2
    · simp only [if_neg hq]
      refine ⟨fun h => by cases h; exact Or.inr ⟨rfl, q, rfl, hq⟩, fun h => ?_⟩
      rcases h with ⟨h, h2⟩ | ⟨h, -⟩
      · cases h; exact absurd h2 hq
      · rw [h]
def Pce (I : AI) (a : Nat) (x : Cel) (g : Nat → Option E1) : Prop := match x with
  | .inl e => g a = some e
  | .inr k => ∃ J : AI, ile J I ∧ k.2 J a g
theorem Pce.mono {I J : AI} {a : Nat} {x : Cel} {g : Nat → Option E1} (hI : ile I J) (h : Pce I a x g) : Pce J a x g := by
  cases x with
  | inl e => exact h
  | inr k =>
    obtain ⟨K, h1, h2⟩ := h
    exact ⟨K, ile_tr h1 hI, h2⟩
def StG (I : AI) (L : AL) (g : Nat → Option E1) : Prop := ∃ ow : Nat → Option Nat, (∀ z r, ow z = some r → L r ≠ none) ∧ ∀ a x, L a = some x → ow a = some a ∧ g a ≠ none ∧ Pce I a x (prt ow g a)
/-- a nest of cells as one cell -/
def nst (Φ : AI → Nat → AL → Prop) : Prd := fun J a g => ∃ S : AL, StG J S g ∧ S a ≠ none ∧ Φ J a S
abbrev cel (k : Nat) (Φ : AI → Nat → AL → Prop) : Cel := .inr (k, nst Φ)
theorem StG.mono {I J : AI} {L : AL} {g : Nat → Option E1} (hI : ile I J) (h : StG I L g) : StG J L g := by
  obtain ⟨ow, h1, h2⟩ := h
  exact ⟨ow, h1, fun a x hx => ⟨(h2 a x hx).1, (h2 a x hx).2.1, (h2 a x hx).2.2.mono hI⟩⟩
theorem StG.raw {I : AI} {L : AL} {g : Nat → Option E1} (h : StG I L g) {a : Nat} {e : E1} (ha : L a = some (.inl e)) : g a = some e := by
  obtain ⟨ow, -, h2⟩ := h
  obtain ⟨h3, -, h4⟩ := h2 a _ ha
  have h5 : prt ow g a a = some e := h4
  unfold prt at h5
  rw [if_pos h3] at h5
  exact h5
theorem StG.dom {I : AI} {L : AL} {g : Nat → Option E1} (h : StG I L g) {a : Nat} {x : Cel} (ha : L a = some x) : g a ≠ none := by
  obtain ⟨ow, -, h2⟩ := h
  exact (h2 a _ ha).2.1
/-- fewer cells -/
theorem StG.sub {I : AI} {L S : AL} {g : Nat → Option E1} (h : StG I L g) (hs : ∀ q x, S q = some x → L q = some x) : StG I S g := by
  obtain ⟨ow, h1, h2⟩ := h
  refine ⟨fun z => owS S (ow z), fun z r hz => (owS_some.mp hz).2, fun a x hx => ?_⟩
  obtain ⟨k1, k2, k3⟩ := h2 a x (hs a x hx)
  have hn : ¬ S a = none := by rw [hx]; exact (fun h => (nomatch h))
  refine ⟨owS_some.mpr ⟨k1, hn⟩, k2, ?_⟩
  have e : prt (fun z => owS S (ow z)) g a = prt ow g a := prt_congr fun z => ⟨⟨fun h => (owS_some.mp h).1, fun h => owS_some.mpr ⟨h, hn⟩⟩, fun _ => rfl⟩
  rw [e]
  exact k3
theorem StG.set {I : AI} {L : AL} {g : Nat → Option E1} {a : Nat} {e : E1} (e' : E1) (h : StG I L g) (ha : L a = some (.inl e)) : StG I (up1 L a (some (.inl e'))) (up1 g a (some e')) := by
  obtain ⟨ow, h1, h2⟩ := h
  obtain ⟨k1, k2, k3⟩ := h2 a _ ha
  refine ⟨ow, fun z r hz => ?_, fun b x hx => ?_⟩
  · by_cases hr : r = a
    · subst hr
      rw [up1_s]
      exact (fun h => (nomatch h))
    · rw [up1_n hr]
      exact h1 z r hz
  · by_cases hb : b = a
    · subst hb
      rw [up1_s] at hx
      cases hx
      refine ⟨k1, by rw [up1_s]; exact (fun h => (nomatch h)), ?_⟩
      show prt ow _ b b = some e'
      unfold prt
      rw [if_pos k1, up1_s]
    · rw [up1_n hb] at hx
      obtain ⟨m1, m2, m3⟩ := h2 b x hx
      refine ⟨m1, by rw [up1_n hb]; exact m2, ?_⟩
      have e : prt ow (up1 g a (some e')) b = prt ow g b := prt_congr fun z => ⟨Iff.rfl, fun hz => up1_n (fun h => by subst h; rw [k1] at hz; cases hz; exact hb rfl)⟩
      rw [e]
      exact m3
theorem StG.new {I : AI} {L : AL} {g : Nat → Option E1} {q : Nat} (e : E1) (h : StG I L g) (hq : g q = none) : L q = none ∧ StG I (up1 L q (some (.inl e))) (up1 g q (some e)) := by
  have hL : L q = none := by
    cases hx : L q with
    | none => rfl
    | some x => exact absurd hq (h.dom hx)
  obtain ⟨ow, h1, h2⟩ := h
  refine ⟨hL, up1 ow q (some q), fun z r hz => ?_, fun b x hx => ?_⟩
  · by_cases hr : r = q
    · subst hr
      rw [up1_s]
      exact (fun h => (nomatch h))
    · rw [up1_n hr]
      by_cases hz2 : z = q
      · subst hz2
        rw [up1_s] at hz
        cases hz
        exact absurd rfl hr
      · rw [up1_n hz2] at hz
        exact h1 z r hz
  · by_cases hb : b = q
    · subst hb
      rw [up1_s] at hx
      cases hx
      refine ⟨up1_s, by rw [up1_s]; exact (fun h => (nomatch h)), ?_⟩
      show prt _ _ b b = some e
      unfold prt
      rw [if_pos up1_s, up1_s]
    · rw [up1_n hb] at hx
      obtain ⟨m1, m2, m3⟩ := h2 b x hx
      refine ⟨by rw [up1_n hb]; exact m1, by rw [up1_n hb]; exact m2, ?_⟩
      have e : prt (up1 ow q (some q)) (up1 g q (some e)) b = prt ow g b := by
        funext z
        unfold prt
        by_cases hz : z = q
        · subst hz
          rw [up1_s, up1_s, if_neg (fun h => by cases h; exact hb rfl), hq]
          split <;> rfl
        · rw [up1_n hz, up1_n hz]
      rw [e]
      exact m3
theorem if_some {c : Prop} [Decidable c] {x y : Option Nat} {r : Nat} : (if c then x else y) = some r ↔ (c ∧ x = some r) ∨ (¬ c ∧ y = some r) := by
  by_cases h : c
  · rw [if_pos h]
    exact ⟨fun q => Or.inl ⟨h, q⟩, fun q => q.elim (fun z => z.2) (fun z => absurd h z.1)⟩
  · rw [if_neg h]
    exact ⟨fun q => Or.inr ⟨h, q⟩, fun q => q.elim (fun z => absurd z.1 h) (fun z => z.2)⟩
theorem StG.drop {I : AI} {L : AL} {g : Nat → Option E1} {a : Nat} {e : E1} (h : StG I L g) (ha : L a = some (.inl e)) : StG I (up1 L a none) (up1 g a none) := by
  obtain ⟨ow, h1, h2⟩ := h
  have k1 := (h2 a _ ha).1
  refine ⟨fun z => if ow z = some a then none else ow z, fun z r hz => ?_, fun b x hx => ?_⟩
  · rcases if_some.mp hz with ⟨-, h⟩ | ⟨h0, h⟩
    · cases h
    · have hr : r ≠ a := fun q => h0 (by rw [h, q])
      rw [up1_n hr]
      exact h1 z r h
  · have hb : b ≠ a := fun h => by subst h; rw [up1_s] at hx; cases hx
    rw [up1_n hb] at hx
    obtain ⟨m1, m2, m3⟩ := h2 b x hx
    have hsb : ¬ some b = some a := fun h => hb (Option.some.inj h)
    refine ⟨if_some.mpr (Or.inr ⟨by rw [m1]; exact hsb, m1⟩), by rw [up1_n hb]; exact m2, ?_⟩
    have e : prt (fun z => if ow z = some a then none else ow z) (up1 g a none) b = prt ow g b := prt_congr fun z => ⟨⟨fun h => ?_, fun h => if_some.mpr (Or.inr ⟨by rw [h]; exact hsb, h⟩)⟩, fun h => up1_n fun q => ?_⟩
    · rw [e]
      exact m3
    · rcases if_some.mp h with ⟨-, h⟩ | ⟨-, h⟩
      · cases h
      · exact h
    · subst q
      rcases if_some.mp h with ⟨-, h⟩ | ⟨h0, -⟩
      · cases h
      · exact h0 k1
/-- a nest opened: its cells beside the others -/
def ovl (L : AL) (a : Nat) (S : AL) : AL := fun q => match S q with
  | some x => some x
  | none => if q = a then none else L q
theorem ovl_in {L S : AL} {a q : Nat} {x : Cel} (h : S q = some x) : ovl L a S q = some x := by
  unfold ovl
  rw [h]
theorem ovl_out {L S : AL} {a q : Nat} (h : S q = none) (hq : q ≠ a) : ovl L a S q = L q := by
  unfold ovl
  rw [h]
  exact if_neg hq
theorem StG.op {I : AI} {L : AL} {g : Nat → Option E1} {a k : Nat} {Φ : AI → Nat → AL → Prop} (h : StG I L g) (ha : L a = some (cel k Φ)) :
    ∃ (J : AI) (S : AL), ile J I ∧ Φ J a S ∧ (∀ q x, S q = some x → q = a ∨ L q = none) ∧ S a ≠ none ∧ StG I (ovl L a S) g := by
  obtain ⟨ow, h1, h2⟩ := h
  obtain ⟨k1, k2, J, hJ, S, hS, hSa, hΦ⟩ := h2 a _ ha
  obtain ⟨o2, g1, g2⟩ := hS.mono hJ
  have own : ∀ q x, S q = some x → ow q = some a ∧ g q ≠ none := by
    intro q x hq
    have h5 := (g2 q x hq).2.1
    unfold prt at h5
    by_cases hoq : ow q = some a
    · rw [if_pos hoq] at h5
      exact ⟨hoq, h5⟩
    · rw [if_neg hoq] at h5
      exact absurd rfl h5
  have dis : ∀ q x, S q = some x → q = a ∨ L q = none := by
    intro q x hq
    cases hL : L q with
    | none => exact Or.inr rfl
    | some y =>
      have e1 := (h2 q y hL).1
      have e2 := (own q x hq).1
      rw [e1] at e2
      exact Or.inl (Option.some.inj e2)
  refine ⟨J, S, hJ, hΦ, dis, hSa, fun z => if ow z = some a then o2 z else ow z, fun z r hz => ?_, fun q x hx => ?_⟩
  · rcases if_some.mp hz with ⟨h0, h⟩ | ⟨h0, h⟩
    · have := g1 z r h
      cases hSr : S r with
      | none => exact absurd hSr this
      | some y => rw [ovl_in hSr]; exact (fun h => (nomatch h))
    · cases hSr : S r with
      | some y => rw [ovl_in hSr]; exact (fun h => (nomatch h))
      | none =>
        rw [ovl_out hSr (fun q => h0 (by rw [h, q]))]
        exact h1 z r h
  · cases hSq : S q with
    | some y =>
      rw [ovl_in hSq] at hx
      have hxy : y = x := Option.some.inj hx
      subst hxy
      obtain ⟨e1, e2⟩ := own q y hSq
      obtain ⟨f1, f2, f3⟩ := g2 q y hSq
      refine ⟨if_some.mpr (Or.inl ⟨e1, f1⟩), e2, ?_⟩
      have e : prt (fun z => if ow z = some a then o2 z else ow z) g q = prt o2 (prt ow g a) q := by
        funext z
        by_cases hz : ow z = some a
        · unfold prt
          simp only [if_pos hz]
        · unfold prt
          simp only [if_neg hz]
          by_cases hzq : ow z = some q
          · exfalso
            have hLq := h1 z q hzq
            rcases dis q y hSq with rfl | h
            · exact hz hzq
            · exact hLq h
          · rw [if_neg hzq]
            split <;> rfl
      rw [e]
      exact f3
    | none =>
      by_cases hqa : q = a
      · subst hqa
        exact absurd hSq hSa
      · rw [ovl_out hSq hqa] at hx
        obtain ⟨m1, m2, m3⟩ := h2 q x hx
        have hqs : ¬ some q = some a := fun h => hqa (Option.some.inj h)
        refine ⟨if_some.mpr (Or.inr ⟨by rw [m1]; exact hqs, m1⟩), m2, ?_⟩
        have e : prt (fun z => if ow z = some a then o2 z else ow z) g q = prt ow g q := prt_congr fun z => ⟨⟨fun h => ?_, fun h => if_some.mpr (Or.inr ⟨by rw [h]; exact hqs, h⟩)⟩, fun _ => rfl⟩
        · rw [e]
          exact m3
        · rcases if_some.mp h with ⟨-, h⟩ | ⟨-, h⟩
          · exact absurd hSq (g1 z q h)
          · exact h
/-- cells put together to one -/
def clo (L : AL) (a : Nat) (S : AL) (c : Cel) : AL := fun q => if q = a then some c else if S q = none then L q else none
theorem clo_s {L S : AL} {a : Nat} {c : Cel} : clo L a S c a = some c := if_pos rfl
theorem clo_out {L S : AL} {a q : Nat} {c : Cel} (h : S q = none) (hq : q ≠ a) : clo L a S c q = L q := by
  unfold clo
  rw [if_neg hq, if_pos h]
theorem StG.cl {I : AI} {L S : AL} {g : Nat → Option E1} {a : Nat} (k : Nat) {Φ : AI → Nat → AL → Prop} (h : StG I L g) (hs : ∀ q x, S q = some x → L q = some x) (hSa : S a ≠ none) (hΦ : Φ I a S) : StG I (clo L a S (cel k Φ)) g := by
  obtain ⟨ow, h1, h2⟩ := h
  cases hx : S a with
  | none => exact absurd hx hSa
  | some xa =>
  have ka := (h2 a xa (hs a xa hx)).1
  refine ⟨fun z => owC S a (ow z), fun z r hz => ?_, fun q x hq => ?_⟩
  · rcases owC_some.mp hz with ⟨h, h0⟩ | ⟨rfl, -⟩
    · have hra : r ≠ a := fun h => hSa (h ▸ h0)
      rw [clo_out h0 hra]
      exact h1 z r h
    · rw [clo_s]
      exact (fun h => (nomatch h))
  · by_cases hqa : q = a
    · subst hqa
      rw [clo_s] at hq
      have hq' : x = cel k Φ := (Option.some.inj hq).symm
      subst hq'
      refine ⟨owC_some.mpr (Or.inr ⟨rfl, q, ka, hSa⟩), (h2 q xa (hs q xa hx)).2.1, I, ile_rf, S, ?_, hSa, hΦ⟩
      refine ⟨fun z => owS S (ow z), fun z r hz => (owS_some.mp hz).2, fun b y hy => ?_⟩
      obtain ⟨m1, m2, m3⟩ := h2 b y (hs b y hy)
      have hn : ¬ S b = none := by rw [hy]; exact (fun h => (nomatch h))
      refine ⟨owS_some.mpr ⟨m1, hn⟩, ?_, ?_⟩
      · unfold prt
        rw [if_pos (owC_some.mpr (Or.inr ⟨rfl, b, m1, hn⟩))]
        exact m2
      · have e : prt (fun z => owS S (ow z)) (prt (fun z => owC S q (ow z)) g q) b = prt ow g b := prt_congr fun z => ⟨⟨fun h => (owS_some.mp h).1, fun h => owS_some.mpr ⟨h, hn⟩⟩, fun h => ?_⟩
        · rw [e]
          exact m3
        · unfold prt
          rw [if_pos (owC_some.mpr (Or.inr ⟨rfl, b, (owS_some.mp h).1, hn⟩))]
    · by_cases hSq : S q = none
      · rw [clo_out hSq hqa] at hq
        obtain ⟨m1, m2, m3⟩ := h2 q x hq
        refine ⟨owC_some.mpr (Or.inl ⟨m1, hSq⟩), m2, ?_⟩
        have e : prt (fun z => owC S a (ow z)) g q = prt ow g q := prt_congr fun z => ⟨⟨fun h => ?_, fun h => owC_some.mpr (Or.inl ⟨h, hSq⟩)⟩, fun _ => rfl⟩
        · rw [e]
          exact m3
        · rcases owC_some.mp h with ⟨h, -⟩ | ⟨h, -⟩
          · exact h
          · exact absurd h hqa
      · unfold clo at hq
        rw [if_neg hqa, if_neg hSq] at hq
        cases hq
