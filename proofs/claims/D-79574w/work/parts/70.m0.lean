/-! the model: its fields and arrays as one value over the rest of the heap -/
abbrev arC (n : Nat) (f : Nat → Int32) : E1 := .inl (.char, (n, .inl f))
def MV : Type := (Nat → Int32) × (Nat → Int32) × (Nat → Int32) × (Nat → Int32) × (Nat → Int32) × (Nat → Int32) × (Nat → Int32) × (Nat → Int32) × (Int32) × (Int32) × (Int32) × (Int32) × (Int32) × (Int32) × (Int32) × (Int32) × (Int32) × (Int32) × (Int32)
abbrev MV.nw (R : MV) : Nat → Int32 := R.1
abbrev MV.tr (R : MV) : Nat → Int32 := R.2.1
abbrev MV.kp (R : MV) : Nat → Int32 := R.2.2.1
abbrev MV.sv (R : MV) : Nat → Int32 := R.2.2.2.1
abbrev MV.mv (R : MV) : Nat → Int32 := R.2.2.2.2.1
abbrev MV.ln (R : MV) : Nat → Int32 := R.2.2.2.2.2.1
abbrev MV.tx (R : MV) : Nat → Int32 := R.2.2.2.2.2.2.1
abbrev MV.to (R : MV) : Nat → Int32 := R.2.2.2.2.2.2.2.1
abbrev MV.un (R : MV) : Int32 := R.2.2.2.2.2.2.2.2.1
abbrev MV.is (R : MV) : Int32 := R.2.2.2.2.2.2.2.2.2.1
abbrev MV.ld (R : MV) : Int32 := R.2.2.2.2.2.2.2.2.2.2.1
abbrev MV.le (R : MV) : Int32 := R.2.2.2.2.2.2.2.2.2.2.2.1
abbrev MV.ps (R : MV) : Int32 := R.2.2.2.2.2.2.2.2.2.2.2.2.1
abbrev MV.cm (R : MV) : Int32 := R.2.2.2.2.2.2.2.2.2.2.2.2.2.1
abbrev MV.fa (R : MV) : Int32 := R.2.2.2.2.2.2.2.2.2.2.2.2.2.2.1
abbrev MV.re (R : MV) : Int32 := R.2.2.2.2.2.2.2.2.2.2.2.2.2.2.2.1
abbrev MV.de (R : MV) : Int32 := R.2.2.2.2.2.2.2.2.2.2.2.2.2.2.2.2.1
abbrev MV.an (R : MV) : Int32 := R.2.2.2.2.2.2.2.2.2.2.2.2.2.2.2.2.2.1
abbrev MV.th (R : MV) : Int32 := R.2.2.2.2.2.2.2.2.2.2.2.2.2.2.2.2.2.2
abbrev MV.wNw (R : MV) (x : Nat → Int32) : MV := (x, R.2)
abbrev MV.wTr (R : MV) (x : Nat → Int32) : MV := (R.1, x, R.2.2)
abbrev MV.wKp (R : MV) (x : Nat → Int32) : MV := (R.1, R.2.1, x, R.2.2.2)
abbrev MV.wSv (R : MV) (x : Nat → Int32) : MV := (R.1, R.2.1, R.2.2.1, x, R.2.2.2.2)
abbrev MV.wMv (R : MV) (x : Nat → Int32) : MV := (R.1, R.2.1, R.2.2.1, R.2.2.2.1, x, R.2.2.2.2.2)
abbrev MV.wLn (R : MV) (x : Nat → Int32) : MV := (R.1, R.2.1, R.2.2.1, R.2.2.2.1, R.2.2.2.2.1, x, R.2.2.2.2.2.2)
abbrev MV.wTx (R : MV) (x : Nat → Int32) : MV := (R.1, R.2.1, R.2.2.1, R.2.2.2.1, R.2.2.2.2.1, R.2.2.2.2.2.1, x, R.2.2.2.2.2.2.2)
abbrev MV.wTo (R : MV) (x : Nat → Int32) : MV := (R.1, R.2.1, R.2.2.1, R.2.2.2.1, R.2.2.2.2.1, R.2.2.2.2.2.1, R.2.2.2.2.2.2.1, x, R.2.2.2.2.2.2.2.2)
abbrev MV.wUn (R : MV) (x : Int32) : MV := (R.1, R.2.1, R.2.2.1, R.2.2.2.1, R.2.2.2.2.1, R.2.2.2.2.2.1, R.2.2.2.2.2.2.1, R.2.2.2.2.2.2.2.1, x, R.2.2.2.2.2.2.2.2.2)
abbrev MV.wIs (R : MV) (x : Int32) : MV := (R.1, R.2.1, R.2.2.1, R.2.2.2.1, R.2.2.2.2.1, R.2.2.2.2.2.1, R.2.2.2.2.2.2.1, R.2.2.2.2.2.2.2.1, R.2.2.2.2.2.2.2.2.1, x, R.2.2.2.2.2.2.2.2.2.2)
abbrev MV.wLd (R : MV) (x : Int32) : MV := (R.1, R.2.1, R.2.2.1, R.2.2.2.1, R.2.2.2.2.1, R.2.2.2.2.2.1, R.2.2.2.2.2.2.1, R.2.2.2.2.2.2.2.1, R.2.2.2.2.2.2.2.2.1, R.2.2.2.2.2.2.2.2.2.1, x, R.2.2.2.2.2.2.2.2.2.2.2)
abbrev MV.wLe (R : MV) (x : Int32) : MV := (R.1, R.2.1, R.2.2.1, R.2.2.2.1, R.2.2.2.2.1, R.2.2.2.2.2.1, R.2.2.2.2.2.2.1, R.2.2.2.2.2.2.2.1, R.2.2.2.2.2.2.2.2.1, R.2.2.2.2.2.2.2.2.2.1, R.2.2.2.2.2.2.2.2.2.2.1, x, R.2.2.2.2.2.2.2.2.2.2.2.2)
abbrev MV.wPs (R : MV) (x : Int32) : MV := (R.1, R.2.1, R.2.2.1, R.2.2.2.1, R.2.2.2.2.1, R.2.2.2.2.2.1, R.2.2.2.2.2.2.1, R.2.2.2.2.2.2.2.1, R.2.2.2.2.2.2.2.2.1, R.2.2.2.2.2.2.2.2.2.1, R.2.2.2.2.2.2.2.2.2.2.1, R.2.2.2.2.2.2.2.2.2.2.2.1, x, R.2.2.2.2.2.2.2.2.2.2.2.2.2)
abbrev MV.wCm (R : MV) (x : Int32) : MV := (R.1, R.2.1, R.2.2.1, R.2.2.2.1, R.2.2.2.2.1, R.2.2.2.2.2.1, R.2.2.2.2.2.2.1, R.2.2.2.2.2.2.2.1, R.2.2.2.2.2.2.2.2.1, R.2.2.2.2.2.2.2.2.2.1, R.2.2.2.2.2.2.2.2.2.2.1, R.2.2.2.2.2.2.2.2.2.2.2.1, R.2.2.2.2.2.2.2.2.2.2.2.2.1, x, R.2.2.2.2.2.2.2.2.2.2.2.2.2.2)
abbrev MV.wFa (R : MV) (x : Int32) : MV := (R.1, R.2.1, R.2.2.1, R.2.2.2.1, R.2.2.2.2.1, R.2.2.2.2.2.1, R.2.2.2.2.2.2.1, R.2.2.2.2.2.2.2.1, R.2.2.2.2.2.2.2.2.1, R.2.2.2.2.2.2.2.2.2.1, R.2.2.2.2.2.2.2.2.2.2.1, R.2.2.2.2.2.2.2.2.2.2.2.1, R.2.2.2.2.2.2.2.2.2.2.2.2.1, R.2.2.2.2.2.2.2.2.2.2.2.2.2.1, x, R.2.2.2.2.2.2.2.2.2.2.2.2.2.2.2)
abbrev MV.wRe (R : MV) (x : Int32) : MV := (R.1, R.2.1, R.2.2.1, R.2.2.2.1, R.2.2.2.2.1, R.2.2.2.2.2.1, R.2.2.2.2.2.2.1, R.2.2.2.2.2.2.2.1, R.2.2.2.2.2.2.2.2.1, R.2.2.2.2.2.2.2.2.2.1, R.2.2.2.2.2.2.2.2.2.2.1, R.2.2.2.2.2.2.2.2.2.2.2.1, R.2.2.2.2.2.2.2.2.2.2.2.2.1, R.2.2.2.2.2.2.2.2.2.2.2.2.2.1, R.2.2.2.2.2.2.2.2.2.2.2.2.2.2.1, x, R.2.2.2.2.2.2.2.2.2.2.2.2.2.2.2.2)
abbrev MV.wDe (R : MV) (x : Int32) : MV := (R.1, R.2.1, R.2.2.1, R.2.2.2.1, R.2.2.2.2.1, R.2.2.2.2.2.1, R.2.2.2.2.2.2.1, R.2.2.2.2.2.2.2.1, R.2.2.2.2.2.2.2.2.1, R.2.2.2.2.2.2.2.2.2.1, R.2.2.2.2.2.2.2.2.2.2.1, R.2.2.2.2.2.2.2.2.2.2.2.1, R.2.2.2.2.2.2.2.2.2.2.2.2.1, R.2.2.2.2.2.2.2.2.2.2.2.2.2.1, R.2.2.2.2.2.2.2.2.2.2.2.2.2.2.1, R.2.2.2.2.2.2.2.2.2.2.2.2.2.2.2.1, x, R.2.2.2.2.2.2.2.2.2.2.2.2.2.2.2.2.2)
abbrev MV.wAn (R : MV) (x : Int32) : MV := (R.1, R.2.1, R.2.2.1, R.2.2.2.1, R.2.2.2.2.1, R.2.2.2.2.2.1, R.2.2.2.2.2.2.1, R.2.2.2.2.2.2.2.1, R.2.2.2.2.2.2.2.2.1, R.2.2.2.2.2.2.2.2.2.1, R.2.2.2.2.2.2.2.2.2.2.1, R.2.2.2.2.2.2.2.2.2.2.2.1, R.2.2.2.2.2.2.2.2.2.2.2.2.1, R.2.2.2.2.2.2.2.2.2.2.2.2.2.1, R.2.2.2.2.2.2.2.2.2.2.2.2.2.2.1, R.2.2.2.2.2.2.2.2.2.2.2.2.2.2.2.1, R.2.2.2.2.2.2.2.2.2.2.2.2.2.2.2.2.1, x, R.2.2.2.2.2.2.2.2.2.2.2.2.2.2.2.2.2.2)
abbrev MV.wTh (R : MV) (x : Int32) : MV := (R.1, R.2.1, R.2.2.1, R.2.2.2.1, R.2.2.2.2.1, R.2.2.2.2.2.1, R.2.2.2.2.2.2.1, R.2.2.2.2.2.2.2.1, R.2.2.2.2.2.2.2.2.1, R.2.2.2.2.2.2.2.2.2.1, R.2.2.2.2.2.2.2.2.2.2.1, R.2.2.2.2.2.2.2.2.2.2.2.1, R.2.2.2.2.2.2.2.2.2.2.2.2.1, R.2.2.2.2.2.2.2.2.2.2.2.2.2.1, R.2.2.2.2.2.2.2.2.2.2.2.2.2.2.1, R.2.2.2.2.2.2.2.2.2.2.2.2.2.2.2.1, R.2.2.2.2.2.2.2.2.2.2.2.2.2.2.2.2.1, R.2.2.2.2.2.2.2.2.2.2.2.2.2.2.2.2.2.1, x)
def MA : Type := (Nat) × (Nat) × (Nat) × (Nat) × (Nat) × (Nat) × (Nat) × (Nat) × (Nat) × (Nat)
abbrev MA.nm (R : MA) : Nat := R.1
abbrev MA.nw (R : MA) : Nat := R.2.1
abbrev MA.tr (R : MA) : Nat := R.2.2.1
abbrev MA.kp (R : MA) : Nat := R.2.2.2.1
abbrev MA.sv (R : MA) : Nat := R.2.2.2.2.1
abbrev MA.mv (R : MA) : Nat := R.2.2.2.2.2.1
abbrev MA.ln (R : MA) : Nat := R.2.2.2.2.2.2.1
abbrev MA.tx (R : MA) : Nat := R.2.2.2.2.2.2.2.1
abbrev MA.to (R : MA) : Nat := R.2.2.2.2.2.2.2.2.1
abbrev MA.wy (R : MA) : Nat := R.2.2.2.2.2.2.2.2.2
abbrev MA.wNm (R : MA) (x : Nat) : MA := (x, R.2)
abbrev MA.wNw (R : MA) (x : Nat) : MA := (R.1, x, R.2.2)
abbrev MA.wTr (R : MA) (x : Nat) : MA := (R.1, R.2.1, x, R.2.2.2)
abbrev MA.wKp (R : MA) (x : Nat) : MA := (R.1, R.2.1, R.2.2.1, x, R.2.2.2.2)
abbrev MA.wSv (R : MA) (x : Nat) : MA := (R.1, R.2.1, R.2.2.1, R.2.2.2.1, x, R.2.2.2.2.2)
abbrev MA.wMv (R : MA) (x : Nat) : MA := (R.1, R.2.1, R.2.2.1, R.2.2.2.1, R.2.2.2.2.1, x, R.2.2.2.2.2.2)
abbrev MA.wLn (R : MA) (x : Nat) : MA := (R.1, R.2.1, R.2.2.1, R.2.2.2.1, R.2.2.2.2.1, R.2.2.2.2.2.1, x, R.2.2.2.2.2.2.2)
abbrev MA.wTx (R : MA) (x : Nat) : MA := (R.1, R.2.1, R.2.2.1, R.2.2.2.1, R.2.2.2.2.1, R.2.2.2.2.2.1, R.2.2.2.2.2.2.1, x, R.2.2.2.2.2.2.2.2)
abbrev MA.wTo (R : MA) (x : Nat) : MA := (R.1, R.2.1, R.2.2.1, R.2.2.2.1, R.2.2.2.2.1, R.2.2.2.2.2.1, R.2.2.2.2.2.2.1, R.2.2.2.2.2.2.2.1, x, R.2.2.2.2.2.2.2.2.2)
abbrev MA.wWy (R : MA) (x : Nat) : MA := (R.1, R.2.1, R.2.2.1, R.2.2.2.1, R.2.2.2.2.1, R.2.2.2.2.2.1, R.2.2.2.2.2.2.1, R.2.2.2.2.2.2.2.1, R.2.2.2.2.2.2.2.2.1, x)
abbrev mdF (V : MV) (A : MA) : List Value := [.ref A.nm, .ref A.nw, .ref A.tr, .ref A.kp, .int V.un, .ref A.sv, .int V.is, .ref A.mv, .ref A.wy, .ref A.ln, .int V.ld, .ref A.tx, .int V.le, .int V.ps, .ref A.to, .int V.cm, .int V.fa, .int V.re, .int V.de, .int V.an, .int V.th]
def mdL (L : AL) (m : Nat) (A : MA) (V : MV) : AL := fun q => if q = m then some (obC ciX4 (mdF V A)) else if q = A.nw then some (.inl (arI 652 V.nw)) else if q = A.tr then some (.inl (arI 652 V.tr)) else if q = A.kp then some (.inl (arI 5216 V.kp)) else if q = A.sv then some (.inl (arI 652 V.sv)) else if q = A.mv then some (.inl (arI 147 V.mv)) else if q = A.ln then some (.inl (arC 400 V.ln)) else if q = A.tx then some (.inl (arC 60 V.tx)) else if q = A.to then some (.inl (arI 5 V.to)) else L q
/-- its nine cells are nine -/
def MOk (m : Nat) (A : MA) : Prop := [m, A.nw, A.tr, A.kp, A.sv, A.mv, A.ln, A.tx, A.to].Nodup
theorem mdL_m {L : AL} {m : Nat} {A : MA} {V : MV} : mdL L m A V m = some (obC ciX4 (mdF V A)) := if_pos rfl
theorem MOk.m_nw {m : Nat} {A : MA} (h : MOk m A) : A.nw ≠ m := fun e => by
  unfold MOk at h
  rw [e] at h
  simp at h
theorem MOk.m_tr {m : Nat} {A : MA} (h : MOk m A) : A.tr ≠ m := fun e => by
  unfold MOk at h
  rw [e] at h
  simp at h
theorem MOk.m_kp {m : Nat} {A : MA} (h : MOk m A) : A.kp ≠ m := fun e => by
  unfold MOk at h
  rw [e] at h
  simp at h
theorem MOk.m_sv {m : Nat} {A : MA} (h : MOk m A) : A.sv ≠ m := fun e => by
  unfold MOk at h
  rw [e] at h
  simp at h
theorem MOk.m_mv {m : Nat} {A : MA} (h : MOk m A) : A.mv ≠ m := fun e => by
  unfold MOk at h
  rw [e] at h
  simp at h
theorem MOk.m_ln {m : Nat} {A : MA} (h : MOk m A) : A.ln ≠ m := fun e => by
  unfold MOk at h
  rw [e] at h
  simp at h
theorem MOk.m_tx {m : Nat} {A : MA} (h : MOk m A) : A.tx ≠ m := fun e => by
  unfold MOk at h
  rw [e] at h
  simp at h
theorem MOk.m_to {m : Nat} {A : MA} (h : MOk m A) : A.to ≠ m := fun e => by
  unfold MOk at h
  rw [e] at h
  simp at h
theorem MOk.nw_tr {m : Nat} {A : MA} (h : MOk m A) : A.tr ≠ A.nw := fun e => by
  unfold MOk at h
  rw [e] at h
  simp at h
theorem MOk.nw_kp {m : Nat} {A : MA} (h : MOk m A) : A.kp ≠ A.nw := fun e => by
  unfold MOk at h
  rw [e] at h
  simp at h
theorem MOk.nw_sv {m : Nat} {A : MA} (h : MOk m A) : A.sv ≠ A.nw := fun e => by
  unfold MOk at h
  rw [e] at h
  simp at h
theorem MOk.nw_mv {m : Nat} {A : MA} (h : MOk m A) : A.mv ≠ A.nw := fun e => by
  unfold MOk at h
  rw [e] at h
  simp at h
theorem MOk.nw_ln {m : Nat} {A : MA} (h : MOk m A) : A.ln ≠ A.nw := fun e => by
  unfold MOk at h
  rw [e] at h
  simp at h
theorem MOk.nw_tx {m : Nat} {A : MA} (h : MOk m A) : A.tx ≠ A.nw := fun e => by
  unfold MOk at h
  rw [e] at h
  simp at h
theorem MOk.nw_to {m : Nat} {A : MA} (h : MOk m A) : A.to ≠ A.nw := fun e => by
  unfold MOk at h
  rw [e] at h
  simp at h
theorem MOk.tr_kp {m : Nat} {A : MA} (h : MOk m A) : A.kp ≠ A.tr := fun e => by
  unfold MOk at h
  rw [e] at h
  simp at h
theorem MOk.tr_sv {m : Nat} {A : MA} (h : MOk m A) : A.sv ≠ A.tr := fun e => by
  unfold MOk at h
  rw [e] at h
  simp at h
theorem MOk.tr_mv {m : Nat} {A : MA} (h : MOk m A) : A.mv ≠ A.tr := fun e => by
  unfold MOk at h
  rw [e] at h
  simp at h
theorem MOk.tr_ln {m : Nat} {A : MA} (h : MOk m A) : A.ln ≠ A.tr := fun e => by
  unfold MOk at h
  rw [e] at h
  simp at h
theorem MOk.tr_tx {m : Nat} {A : MA} (h : MOk m A) : A.tx ≠ A.tr := fun e => by
  unfold MOk at h
  rw [e] at h
  simp at h
theorem MOk.tr_to {m : Nat} {A : MA} (h : MOk m A) : A.to ≠ A.tr := fun e => by
  unfold MOk at h
  rw [e] at h
  simp at h
theorem MOk.kp_sv {m : Nat} {A : MA} (h : MOk m A) : A.sv ≠ A.kp := fun e => by
  unfold MOk at h
  rw [e] at h
  simp at h
theorem MOk.kp_mv {m : Nat} {A : MA} (h : MOk m A) : A.mv ≠ A.kp := fun e => by
  unfold MOk at h
  rw [e] at h
  simp at h
theorem MOk.kp_ln {m : Nat} {A : MA} (h : MOk m A) : A.ln ≠ A.kp := fun e => by
  unfold MOk at h
  rw [e] at h
  simp at h
theorem MOk.kp_tx {m : Nat} {A : MA} (h : MOk m A) : A.tx ≠ A.kp := fun e => by
  unfold MOk at h
  rw [e] at h
  simp at h
theorem MOk.kp_to {m : Nat} {A : MA} (h : MOk m A) : A.to ≠ A.kp := fun e => by
  unfold MOk at h
  rw [e] at h
  simp at h
theorem MOk.sv_mv {m : Nat} {A : MA} (h : MOk m A) : A.mv ≠ A.sv := fun e => by
  unfold MOk at h
  rw [e] at h
  simp at h
theorem MOk.sv_ln {m : Nat} {A : MA} (h : MOk m A) : A.ln ≠ A.sv := fun e => by
  unfold MOk at h
  rw [e] at h
  simp at h
theorem MOk.sv_tx {m : Nat} {A : MA} (h : MOk m A) : A.tx ≠ A.sv := fun e => by
  unfold MOk at h
  rw [e] at h
  simp at h
theorem MOk.sv_to {m : Nat} {A : MA} (h : MOk m A) : A.to ≠ A.sv := fun e => by
  unfold MOk at h
  rw [e] at h
  simp at h
theorem MOk.mv_ln {m : Nat} {A : MA} (h : MOk m A) : A.ln ≠ A.mv := fun e => by
  unfold MOk at h
  rw [e] at h
  simp at h
theorem MOk.mv_tx {m : Nat} {A : MA} (h : MOk m A) : A.tx ≠ A.mv := fun e => by
  unfold MOk at h
  rw [e] at h
  simp at h
theorem MOk.mv_to {m : Nat} {A : MA} (h : MOk m A) : A.to ≠ A.mv := fun e => by
  unfold MOk at h
  rw [e] at h
  simp at h
theorem MOk.ln_tx {m : Nat} {A : MA} (h : MOk m A) : A.tx ≠ A.ln := fun e => by
  unfold MOk at h
  rw [e] at h
  simp at h
theorem MOk.ln_to {m : Nat} {A : MA} (h : MOk m A) : A.to ≠ A.ln := fun e => by
  unfold MOk at h
  rw [e] at h
  simp at h
theorem MOk.tx_to {m : Nat} {A : MA} (h : MOk m A) : A.to ≠ A.tx := fun e => by
  unfold MOk at h
  rw [e] at h
  simp at h
theorem mdL_nw {L : AL} {m : Nat} {A : MA} {V : MV} (h : MOk m A) : mdL L m A V A.nw = some (.inl (arI 652 V.nw)) := by
  unfold mdL
  rw [if_neg (h.m_nw), if_pos rfl]
theorem mdL_tr {L : AL} {m : Nat} {A : MA} {V : MV} (h : MOk m A) : mdL L m A V A.tr = some (.inl (arI 652 V.tr)) := by
  unfold mdL
  rw [if_neg (h.m_tr), if_neg (h.nw_tr), if_pos rfl]
theorem mdL_kp {L : AL} {m : Nat} {A : MA} {V : MV} (h : MOk m A) : mdL L m A V A.kp = some (.inl (arI 5216 V.kp)) := by
  unfold mdL
  rw [if_neg (h.m_kp), if_neg (h.nw_kp), if_neg (h.tr_kp), if_pos rfl]
theorem mdL_sv {L : AL} {m : Nat} {A : MA} {V : MV} (h : MOk m A) : mdL L m A V A.sv = some (.inl (arI 652 V.sv)) := by
  unfold mdL
  rw [if_neg (h.m_sv), if_neg (h.nw_sv), if_neg (h.tr_sv), if_neg (h.kp_sv), if_pos rfl]
theorem mdL_mv {L : AL} {m : Nat} {A : MA} {V : MV} (h : MOk m A) : mdL L m A V A.mv = some (.inl (arI 147 V.mv)) := by
  unfold mdL
  rw [if_neg (h.m_mv), if_neg (h.nw_mv), if_neg (h.tr_mv), if_neg (h.kp_mv), if_neg (h.sv_mv), if_pos rfl]
theorem mdL_ln {L : AL} {m : Nat} {A : MA} {V : MV} (h : MOk m A) : mdL L m A V A.ln = some (.inl (arC 400 V.ln)) := by
  unfold mdL
  rw [if_neg (h.m_ln), if_neg (h.nw_ln), if_neg (h.tr_ln), if_neg (h.kp_ln), if_neg (h.sv_ln), if_neg (h.mv_ln), if_pos rfl]
theorem mdL_tx {L : AL} {m : Nat} {A : MA} {V : MV} (h : MOk m A) : mdL L m A V A.tx = some (.inl (arC 60 V.tx)) := by
  unfold mdL
  rw [if_neg (h.m_tx), if_neg (h.nw_tx), if_neg (h.tr_tx), if_neg (h.kp_tx), if_neg (h.sv_tx), if_neg (h.mv_tx), if_neg (h.ln_tx), if_pos rfl]
theorem mdL_to {L : AL} {m : Nat} {A : MA} {V : MV} (h : MOk m A) : mdL L m A V A.to = some (.inl (arI 5 V.to)) := by
  unfold mdL
  rw [if_neg (h.m_to), if_neg (h.nw_to), if_neg (h.tr_to), if_neg (h.kp_to), if_neg (h.sv_to), if_neg (h.mv_to), if_neg (h.ln_to), if_neg (h.tx_to), if_pos rfl]
theorem mdL_o {L : AL} {m : Nat} {A : MA} {V : MV} {q : Nat} (h : q ∉ [m, A.nw, A.tr, A.kp, A.sv, A.mv, A.ln, A.tx, A.to]) : mdL L m A V q = L q := by
  simp only [List.mem_cons, List.not_mem_nil, or_false, not_or] at h
  obtain ⟨h0, h1, h2, h3, h4, h5, h6, h7, h8⟩ := h
  unfold mdL
  rw [if_neg h0, if_neg h1, if_neg h2, if_neg h3, if_neg h4, if_neg h5, if_neg h6, if_neg h7, if_neg h8]
theorem mdp_un {L : AL} {m : Nat} {A : MA} {V : MV} {x : Int32} : up1 (mdL L m A V) m (some (obC ciX4 ((mdF V A).set 4 (.int x)))) = mdL L m A (V.wUn x) := by
  funext q
  by_cases hq : q = m
  · subst hq; rw [up1_s, mdL_m]; rfl
  · rw [up1_n hq]; unfold mdL; rw [if_neg hq, if_neg hq]
theorem mdp_is {L : AL} {m : Nat} {A : MA} {V : MV} {x : Int32} : up1 (mdL L m A V) m (some (obC ciX4 ((mdF V A).set 6 (.int x)))) = mdL L m A (V.wIs x) := by
  funext q
  by_cases hq : q = m
  · subst hq; rw [up1_s, mdL_m]; rfl
  · rw [up1_n hq]; unfold mdL; rw [if_neg hq, if_neg hq]
theorem mdp_ld {L : AL} {m : Nat} {A : MA} {V : MV} {x : Int32} : up1 (mdL L m A V) m (some (obC ciX4 ((mdF V A).set 10 (.int x)))) = mdL L m A (V.wLd x) := by
  funext q
  by_cases hq : q = m
  · subst hq; rw [up1_s, mdL_m]; rfl
  · rw [up1_n hq]; unfold mdL; rw [if_neg hq, if_neg hq]
theorem mdp_le {L : AL} {m : Nat} {A : MA} {V : MV} {x : Int32} : up1 (mdL L m A V) m (some (obC ciX4 ((mdF V A).set 12 (.int x)))) = mdL L m A (V.wLe x) := by
  funext q
  by_cases hq : q = m
  · subst hq; rw [up1_s, mdL_m]; rfl
  · rw [up1_n hq]; unfold mdL; rw [if_neg hq, if_neg hq]
theorem mdp_ps {L : AL} {m : Nat} {A : MA} {V : MV} {x : Int32} : up1 (mdL L m A V) m (some (obC ciX4 ((mdF V A).set 13 (.int x)))) = mdL L m A (V.wPs x) := by
  funext q
  by_cases hq : q = m
  · subst hq; rw [up1_s, mdL_m]; rfl
  · rw [up1_n hq]; unfold mdL; rw [if_neg hq, if_neg hq]
theorem mdp_cm {L : AL} {m : Nat} {A : MA} {V : MV} {x : Int32} : up1 (mdL L m A V) m (some (obC ciX4 ((mdF V A).set 15 (.int x)))) = mdL L m A (V.wCm x) := by
  funext q
  by_cases hq : q = m
  · subst hq; rw [up1_s, mdL_m]; rfl
  · rw [up1_n hq]; unfold mdL; rw [if_neg hq, if_neg hq]
theorem mdp_fa {L : AL} {m : Nat} {A : MA} {V : MV} {x : Int32} : up1 (mdL L m A V) m (some (obC ciX4 ((mdF V A).set 16 (.int x)))) = mdL L m A (V.wFa x) := by
  funext q
  by_cases hq : q = m
  · subst hq; rw [up1_s, mdL_m]; rfl
  · rw [up1_n hq]; unfold mdL; rw [if_neg hq, if_neg hq]
theorem mdp_re {L : AL} {m : Nat} {A : MA} {V : MV} {x : Int32} : up1 (mdL L m A V) m (some (obC ciX4 ((mdF V A).set 17 (.int x)))) = mdL L m A (V.wRe x) := by
  funext q
  by_cases hq : q = m
  · subst hq; rw [up1_s, mdL_m]; rfl
  · rw [up1_n hq]; unfold mdL; rw [if_neg hq, if_neg hq]
theorem mdp_de {L : AL} {m : Nat} {A : MA} {V : MV} {x : Int32} : up1 (mdL L m A V) m (some (obC ciX4 ((mdF V A).set 18 (.int x)))) = mdL L m A (V.wDe x) := by
  funext q
  by_cases hq : q = m
  · subst hq; rw [up1_s, mdL_m]; rfl
  · rw [up1_n hq]; unfold mdL; rw [if_neg hq, if_neg hq]
theorem mdp_an {L : AL} {m : Nat} {A : MA} {V : MV} {x : Int32} : up1 (mdL L m A V) m (some (obC ciX4 ((mdF V A).set 19 (.int x)))) = mdL L m A (V.wAn x) := by
  funext q
  by_cases hq : q = m
  · subst hq; rw [up1_s, mdL_m]; rfl
  · rw [up1_n hq]; unfold mdL; rw [if_neg hq, if_neg hq]
theorem mdp_th {L : AL} {m : Nat} {A : MA} {V : MV} {x : Int32} : up1 (mdL L m A V) m (some (obC ciX4 ((mdF V A).set 20 (.int x)))) = mdL L m A (V.wTh x) := by
  funext q
  by_cases hq : q = m
  · subst hq; rw [up1_s, mdL_m]; rfl
  · rw [up1_n hq]; unfold mdL; rw [if_neg hq, if_neg hq]
theorem mda_nw {L : AL} {m : Nat} {A : MA} {V : MV} (h : MOk m A) {f : Nat → Int32} : up1 (mdL L m A V) A.nw (some (.inl (arI 652 f))) = mdL L m A (V.wNw f) := by
  funext q
  by_cases hq : q = A.nw
  · subst hq; rw [up1_s, mdL_nw h]
  · rw [up1_n hq]
    unfold mdL
    rw [if_neg hq, if_neg hq]
theorem mda_tr {L : AL} {m : Nat} {A : MA} {V : MV} (h : MOk m A) {f : Nat → Int32} : up1 (mdL L m A V) A.tr (some (.inl (arI 652 f))) = mdL L m A (V.wTr f) := by
  funext q
  by_cases hq : q = A.tr
  · subst hq; rw [up1_s, mdL_tr h]
  · rw [up1_n hq]
    unfold mdL
    rw [if_neg hq, if_neg hq]
theorem mda_kp {L : AL} {m : Nat} {A : MA} {V : MV} (h : MOk m A) {f : Nat → Int32} : up1 (mdL L m A V) A.kp (some (.inl (arI 5216 f))) = mdL L m A (V.wKp f) := by
  funext q
  by_cases hq : q = A.kp
  · subst hq; rw [up1_s, mdL_kp h]
  · rw [up1_n hq]
    unfold mdL
    rw [if_neg hq, if_neg hq]
theorem mda_sv {L : AL} {m : Nat} {A : MA} {V : MV} (h : MOk m A) {f : Nat → Int32} : up1 (mdL L m A V) A.sv (some (.inl (arI 652 f))) = mdL L m A (V.wSv f) := by
  funext q
  by_cases hq : q = A.sv
  · subst hq; rw [up1_s, mdL_sv h]
  · rw [up1_n hq]
    unfold mdL
    rw [if_neg hq, if_neg hq]
theorem mda_mv {L : AL} {m : Nat} {A : MA} {V : MV} (h : MOk m A) {f : Nat → Int32} : up1 (mdL L m A V) A.mv (some (.inl (arI 147 f))) = mdL L m A (V.wMv f) := by
  funext q
  by_cases hq : q = A.mv
  · subst hq; rw [up1_s, mdL_mv h]
  · rw [up1_n hq]
    unfold mdL
    rw [if_neg hq, if_neg hq]
theorem mda_ln {L : AL} {m : Nat} {A : MA} {V : MV} (h : MOk m A) {f : Nat → Int32} : up1 (mdL L m A V) A.ln (some (.inl (arC 400 f))) = mdL L m A (V.wLn f) := by
  funext q
  by_cases hq : q = A.ln
  · subst hq; rw [up1_s, mdL_ln h]
  · rw [up1_n hq]
    unfold mdL
    rw [if_neg hq, if_neg hq]
theorem mda_tx {L : AL} {m : Nat} {A : MA} {V : MV} (h : MOk m A) {f : Nat → Int32} : up1 (mdL L m A V) A.tx (some (.inl (arC 60 f))) = mdL L m A (V.wTx f) := by
  funext q
  by_cases hq : q = A.tx
  · subst hq; rw [up1_s, mdL_tx h]
  · rw [up1_n hq]
    unfold mdL
    rw [if_neg hq, if_neg hq]
theorem mda_to {L : AL} {m : Nat} {A : MA} {V : MV} (h : MOk m A) {f : Nat → Int32} : up1 (mdL L m A V) A.to (some (.inl (arI 5 f))) = mdL L m A (V.wTo f) := by
  funext q
  by_cases hq : q = A.to
  · subst hq; rw [up1_s, mdL_to h]
  · rw [up1_n hq]
    unfold mdL
    rw [if_neg hq, if_neg hq]
section MD
variable {l : Launch} {s0 : State} {D : va_G} {own nm : String} {cc : ByteArray} {nL : Nat} {ret : Option FieldType} {tab : List ExceptionTableEntry} {d mc ms : Nat} {Ib : AI} {post : Option Value → AI → AL → Prop} {xp : String → Nat → AI → AL → Prop} {md : Prop} {G : Gt} {GX : GXt}
variable {pc : Nat} {ls : List (Nat × Value)} {st : List Value} {I : AI} {L : AL} {k n : Nat}
theorem IsG.mp_un (hG : IsG l s0 D own nm cc nL ret tab d mc ms Ib post xp md G GX) {m : Nat} {A : MA} {V : MV} {x : Int32} (kk : G pc ls st I (mdL L m A (V.wUn x)) k n) : G pc ls st I (up1 (mdL L m A V) m (some (obC ciX4 ((mdF V A).set 4 (.int x))))) k n := by
  rw [mdp_un]
  exact kk
theorem IsG.mp_is (hG : IsG l s0 D own nm cc nL ret tab d mc ms Ib post xp md G GX) {m : Nat} {A : MA} {V : MV} {x : Int32} (kk : G pc ls st I (mdL L m A (V.wIs x)) k n) : G pc ls st I (up1 (mdL L m A V) m (some (obC ciX4 ((mdF V A).set 6 (.int x))))) k n := by
  rw [mdp_is]
  exact kk
theorem IsG.mp_ld (hG : IsG l s0 D own nm cc nL ret tab d mc ms Ib post xp md G GX) {m : Nat} {A : MA} {V : MV} {x : Int32} (kk : G pc ls st I (mdL L m A (V.wLd x)) k n) : G pc ls st I (up1 (mdL L m A V) m (some (obC ciX4 ((mdF V A).set 10 (.int x))))) k n := by
  rw [mdp_ld]
  exact kk
theorem IsG.mp_le (hG : IsG l s0 D own nm cc nL ret tab d mc ms Ib post xp md G GX) {m : Nat} {A : MA} {V : MV} {x : Int32} (kk : G pc ls st I (mdL L m A (V.wLe x)) k n) : G pc ls st I (up1 (mdL L m A V) m (some (obC ciX4 ((mdF V A).set 12 (.int x))))) k n := by
  rw [mdp_le]
  exact kk
theorem IsG.mp_ps (hG : IsG l s0 D own nm cc nL ret tab d mc ms Ib post xp md G GX) {m : Nat} {A : MA} {V : MV} {x : Int32} (kk : G pc ls st I (mdL L m A (V.wPs x)) k n) : G pc ls st I (up1 (mdL L m A V) m (some (obC ciX4 ((mdF V A).set 13 (.int x))))) k n := by
  rw [mdp_ps]
  exact kk
theorem IsG.mp_cm (hG : IsG l s0 D own nm cc nL ret tab d mc ms Ib post xp md G GX) {m : Nat} {A : MA} {V : MV} {x : Int32} (kk : G pc ls st I (mdL L m A (V.wCm x)) k n) : G pc ls st I (up1 (mdL L m A V) m (some (obC ciX4 ((mdF V A).set 15 (.int x))))) k n := by
  rw [mdp_cm]
  exact kk
theorem IsG.mp_fa (hG : IsG l s0 D own nm cc nL ret tab d mc ms Ib post xp md G GX) {m : Nat} {A : MA} {V : MV} {x : Int32} (kk : G pc ls st I (mdL L m A (V.wFa x)) k n) : G pc ls st I (up1 (mdL L m A V) m (some (obC ciX4 ((mdF V A).set 16 (.int x))))) k n := by
  rw [mdp_fa]
  exact kk
theorem IsG.mp_re (hG : IsG l s0 D own nm cc nL ret tab d mc ms Ib post xp md G GX) {m : Nat} {A : MA} {V : MV} {x : Int32} (kk : G pc ls st I (mdL L m A (V.wRe x)) k n) : G pc ls st I (up1 (mdL L m A V) m (some (obC ciX4 ((mdF V A).set 17 (.int x))))) k n := by
  rw [mdp_re]
  exact kk
theorem IsG.mp_de (hG : IsG l s0 D own nm cc nL ret tab d mc ms Ib post xp md G GX) {m : Nat} {A : MA} {V : MV} {x : Int32} (kk : G pc ls st I (mdL L m A (V.wDe x)) k n) : G pc ls st I (up1 (mdL L m A V) m (some (obC ciX4 ((mdF V A).set 18 (.int x))))) k n := by
  rw [mdp_de]
  exact kk
theorem IsG.mp_an (hG : IsG l s0 D own nm cc nL ret tab d mc ms Ib post xp md G GX) {m : Nat} {A : MA} {V : MV} {x : Int32} (kk : G pc ls st I (mdL L m A (V.wAn x)) k n) : G pc ls st I (up1 (mdL L m A V) m (some (obC ciX4 ((mdF V A).set 19 (.int x))))) k n := by
  rw [mdp_an]
  exact kk
theorem IsG.mp_th (hG : IsG l s0 D own nm cc nL ret tab d mc ms Ib post xp md G GX) {m : Nat} {A : MA} {V : MV} {x : Int32} (kk : G pc ls st I (mdL L m A (V.wTh x)) k n) : G pc ls st I (up1 (mdL L m A V) m (some (obC ciX4 ((mdF V A).set 20 (.int x))))) k n := by
  rw [mdp_th]
  exact kk
theorem IsG.ma_nw (hG : IsG l s0 D own nm cc nL ret tab d mc ms Ib post xp md G GX) {m : Nat} {A : MA} {V : MV} (h : MOk m A) {f : Nat → Int32} (kk : G pc ls st I (mdL L m A (V.wNw f)) k n) : G pc ls st I (up1 (mdL L m A V) A.nw (some (.inl (arI 652 f)))) k n := by
  rw [mda_nw h]
  exact kk
theorem IsG.ma_tr (hG : IsG l s0 D own nm cc nL ret tab d mc ms Ib post xp md G GX) {m : Nat} {A : MA} {V : MV} (h : MOk m A) {f : Nat → Int32} (kk : G pc ls st I (mdL L m A (V.wTr f)) k n) : G pc ls st I (up1 (mdL L m A V) A.tr (some (.inl (arI 652 f)))) k n := by
  rw [mda_tr h]
  exact kk
theorem IsG.ma_kp (hG : IsG l s0 D own nm cc nL ret tab d mc ms Ib post xp md G GX) {m : Nat} {A : MA} {V : MV} (h : MOk m A) {f : Nat → Int32} (kk : G pc ls st I (mdL L m A (V.wKp f)) k n) : G pc ls st I (up1 (mdL L m A V) A.kp (some (.inl (arI 5216 f)))) k n := by
  rw [mda_kp h]
  exact kk
theorem IsG.ma_sv (hG : IsG l s0 D own nm cc nL ret tab d mc ms Ib post xp md G GX) {m : Nat} {A : MA} {V : MV} (h : MOk m A) {f : Nat → Int32} (kk : G pc ls st I (mdL L m A (V.wSv f)) k n) : G pc ls st I (up1 (mdL L m A V) A.sv (some (.inl (arI 652 f)))) k n := by
  rw [mda_sv h]
  exact kk
theorem IsG.ma_mv (hG : IsG l s0 D own nm cc nL ret tab d mc ms Ib post xp md G GX) {m : Nat} {A : MA} {V : MV} (h : MOk m A) {f : Nat → Int32} (kk : G pc ls st I (mdL L m A (V.wMv f)) k n) : G pc ls st I (up1 (mdL L m A V) A.mv (some (.inl (arI 147 f)))) k n := by
  rw [mda_mv h]
  exact kk
theorem IsG.ma_ln (hG : IsG l s0 D own nm cc nL ret tab d mc ms Ib post xp md G GX) {m : Nat} {A : MA} {V : MV} (h : MOk m A) {f : Nat → Int32} (kk : G pc ls st I (mdL L m A (V.wLn f)) k n) : G pc ls st I (up1 (mdL L m A V) A.ln (some (.inl (arC 400 f)))) k n := by
  rw [mda_ln h]
  exact kk
theorem IsG.ma_tx (hG : IsG l s0 D own nm cc nL ret tab d mc ms Ib post xp md G GX) {m : Nat} {A : MA} {V : MV} (h : MOk m A) {f : Nat → Int32} (kk : G pc ls st I (mdL L m A (V.wTx f)) k n) : G pc ls st I (up1 (mdL L m A V) A.tx (some (.inl (arC 60 f)))) k n := by
  rw [mda_tx h]
  exact kk
theorem IsG.ma_to (hG : IsG l s0 D own nm cc nL ret tab d mc ms Ib post xp md G GX) {m : Nat} {A : MA} {V : MV} (h : MOk m A) {f : Nat → Int32} (kk : G pc ls st I (mdL L m A (V.wTo f)) k n) : G pc ls st I (up1 (mdL L m A V) A.to (some (.inl (arI 5 f)))) k n := by
  rw [mda_to h]
  exact kk
end MD
theorem ix1 (a b : Nat) : nI a + nI b = nI (a + b) := nI_add a b
theorem ix3 (a i : Nat) : nI a + nI 3 * nI i = nI (a + 3 * i) := by
  rw [show nI 3 * nI i = nI (3 * i) from pk_mul 3 i]
  exact nI_add a (3 * i)
