/-! the ferry as a mathematical value -/
def Fy : Type := (Rv) × (List Rv) × (List Int32) × (List Int32) × (Int32) × (Int32) × (Int32) × (Option Rv)
abbrev Fy.rv (R : Fy) : Rv := R.1
abbrev Fy.pa (R : Fy) : List Rv := R.2.1
abbrev Fy.ip (R : Fy) : List Int32 := R.2.2.1
abbrev Fy.li (R : Fy) : List Int32 := R.2.2.2.1
abbrev Fy.fa (R : Fy) : Int32 := R.2.2.2.2.1
abbrev Fy.re (R : Fy) : Int32 := R.2.2.2.2.2.1
abbrev Fy.de (R : Fy) : Int32 := R.2.2.2.2.2.2.1
abbrev Fy.sv (R : Fy) : Option Rv := R.2.2.2.2.2.2.2
abbrev Fy.wRv (R : Fy) (x : Rv) : Fy := (x, R.2)
abbrev Fy.wPa (R : Fy) (x : List Rv) : Fy := (R.1, x, R.2.2)
abbrev Fy.wIp (R : Fy) (x : List Int32) : Fy := (R.1, R.2.1, x, R.2.2.2)
abbrev Fy.wLi (R : Fy) (x : List Int32) : Fy := (R.1, R.2.1, R.2.2.1, x, R.2.2.2.2)
abbrev Fy.wFa (R : Fy) (x : Int32) : Fy := (R.1, R.2.1, R.2.2.1, R.2.2.2.1, x, R.2.2.2.2.2)
abbrev Fy.wRe (R : Fy) (x : Int32) : Fy := (R.1, R.2.1, R.2.2.1, R.2.2.2.1, R.2.2.2.2.1, x, R.2.2.2.2.2.2)
abbrev Fy.wDe (R : Fy) (x : Int32) : Fy := (R.1, R.2.1, R.2.2.1, R.2.2.2.1, R.2.2.2.2.1, R.2.2.2.2.2.1, x, R.2.2.2.2.2.2.2)
abbrev Fy.wSv (R : Fy) (x : Option Rv) : Fy := (R.1, R.2.1, R.2.2.1, R.2.2.2.1, R.2.2.2.2.1, R.2.2.2.2.2.1, R.2.2.2.2.2.2.1, x)
def Mr (N : Nat) (F : Fy) (V : MV) : Prop := Rep N F.rv V.nw ∧ KpOk N F.pa V.kp ∧ V.un = nI F.pa.length ∧ V.le = nI F.ip.length ∧ (∀ i c, F.ip[i]? = some c → V.tx i = c) ∧ V.ld = nI F.li.length ∧ (∀ i c, F.li[i]? = some c → V.ln i = c) ∧ V.fa = F.fa ∧ V.re = F.re ∧ V.de = F.de ∧ ((F.sv = none ∧ V.is = 0) ∨ ∃ S, F.sv = some S ∧ V.is = 1 ∧ Rep N S V.sv)
def WfF (N : Nat) (F : Fy) : Prop := Wf N F.rv ∧ (∀ P ∈ F.pa, Wf N P) ∧ F.pa.length ≤ 8 ∧ (∀ S, F.sv = some S → Wf N S)
/-- what a deed's outcome makes of the ferry -/
def chF (F : Fy) (o : Out) : Fy := match o with
  | .inl (_, R2) => (F.wRv R2).wPa (pushP F.rv F.pa)
  | .inr (.inl _) => F
  | .inr (.inr p) => (F.wRe p.1).wDe p.2
abbrev wX (V : MV) (n : Nat → Int32) (a r d : Int32) : MV := (((V.wNw n).wAn a).wRe r).wDe d
/-- what a deed of the model returns -/
def pIs (N : Nat) (I : AI) (L : AL) (m : Nat) (A : MA) (V : MV) (cd : Bool → Int32) (o : Out) : Option Value → AI → AL → Prop := fun q I' L' => I = I' ∧ ∃ (n : Nat → Int32) (a r d : Int32), L' = mdL L m A (wX V n a r d) ∧ match o with
  | .inl (v, R2) => q = some (.int 0) ∧ Rep (N + 1) R2 n ∧ a = v ∧ r = V.re ∧ d = V.de
  | .inr (.inl b) => q = some (.int (cd b)) ∧ n = V.nw ∧ r = V.re ∧ d = V.de
  | .inr (.inr p) => q = some (.int p.1) ∧ 0 < p.1 ∧ n = V.nw ∧ r = p.1 ∧ d = p.2
/-- what a call of the model returns -/
def pMo (N : Nat) (I : AI) (L : AL) (m : Nat) (A : MA) (F : Fy) (cb : Bool → Int32) (cr : Int32) (o : Out) : Option Value → AI → AL → Prop := fun q I' L' => I = I' ∧ ∃ (V : MV) (w : Int32), L' = mdL L m A V ∧ q = some (.int w) ∧ Mr (N + 1) (chF F o) V ∧ match o with
  | .inl (v, _) => w = v ∧ V.th = 0
  | .inr (.inl b) => V.th = cb b
  | .inr (.inr _) => V.th = cr
theorem Mr.mono {N M : Nat} {F : Fy} {V : MV} (h : Mr N F V) (hN : N ≤ M) : Mr M F V := ⟨h.1.mono hN, h.2.1.mono hN, h.2.2.1, h.2.2.2.1, h.2.2.2.2.1, h.2.2.2.2.2.1, h.2.2.2.2.2.2.1, h.2.2.2.2.2.2.2.1, h.2.2.2.2.2.2.2.2.1, h.2.2.2.2.2.2.2.2.2.1, h.2.2.2.2.2.2.2.2.2.2.elim Or.inl (fun ⟨S, a, b, c⟩ => Or.inr ⟨S, a, b, c.mono hN⟩)⟩
/-- after a refusal or an exception -/
theorem Mr.err {N : Nat} {F : Fy} {V : MV} (h : Mr N F V) {t : Nat → Int32} {a c : Int32} (b : Bool) : Mr (N + 1) (chF F (.inr (.inl b))) ((wX ((V.wTh 0).wTr t) V.nw a V.re V.de).wTh c) := (show Mr N F ((wX ((V.wTh 0).wTr t) V.nw a V.re V.de).wTh c) from h).mono (Nat.le_succ N)
theorem Mr.ref {N : Nat} {F : Fy} {V : MV} (h : Mr N F V) {t : Nat → Int32} {a c : Int32} (p : Int32 × Int32) : Mr (N + 1) (chF F (.inr (.inr p))) ((wX ((V.wTh 0).wTr t) V.nw a p.1 p.2).wTh c) := (show Mr N ((F.wRe p.1).wDe p.2) ((wX ((V.wTh 0).wTr t) V.nw a p.1 p.2).wTh c) from ⟨h.1, h.2.1, h.2.2.1, h.2.2.2.1, h.2.2.2.2.1, h.2.2.2.2.2.1, h.2.2.2.2.2.2.1, h.2.2.2.2.2.2.2.1, rfl, rfl, h.2.2.2.2.2.2.2.2.2.2⟩).mono (Nat.le_succ N)
theorem Mr.don {N : Nat} {F : Fy} {V : MV} (h : Mr N F V) {t kp n : Nat → Int32} {a : Int32} {v : Int32} {R2 : Rv} (hR : Rep (N + 1) R2 n) (hK : KpOk N (pushP F.rv F.pa) kp) : Mr (N + 1) (chF F (.inl (v, R2))) (((wX ((V.wTh 0).wTr t) n a V.re V.de).wKp kp).wUn (nI (pushP F.rv F.pa).length)) := ⟨hR, hK.mono (Nat.le_succ N), rfl, h.2.2.2.1, h.2.2.2.2.1, h.2.2.2.2.2.1, h.2.2.2.2.2.2.1, h.2.2.2.2.2.2.2.1, h.2.2.2.2.2.2.2.2.1, h.2.2.2.2.2.2.2.2.2.1, h.2.2.2.2.2.2.2.2.2.2.elim Or.inl (fun ⟨S, a, b, c⟩ => Or.inr ⟨S, a, b, c.mono (Nat.le_succ N)⟩)⟩
