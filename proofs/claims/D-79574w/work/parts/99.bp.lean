/-! quotients are numbers -/
theorem k_tl : Jvm.FP.Core.Fmt.tails Jvm.FP.Core.b64 = 4503599627370496 := by decide
theorem k_ex : Jvm.FP.Core.Fmt.exps Jvm.FP.Core.b64 = 2048 := by decide
theorem k_qn : Jvm.FP.Core.Fmt.qmin Jvm.FP.Core.b64 = -1074 := by decide
theorem k_qx : Jvm.FP.Core.Fmt.qmax Jvm.FP.Core.b64 = 971 := by decide
theorem k_p : (2 : Nat) ^ Jvm.FP.Core.b64.p = 9007199254740992 := by decide
theorem s_nat (s : Bool) : s.toNat ≤ 1 := by cases s <;> decide
/-- a datum that is no NaN and not too great -/
def okD : Jvm.FP.Core.Datum → Prop
  | .nan => False
  | .inf _ => True
  | .fin _ c q => c < 9007199254740992 ∧ q ≤ 971
theorem ok_enc {d : Jvm.FP.Core.Datum} (h : okD d) : Jvm.FP.Core.encode Jvm.FP.Core.b64 d < 2 ^ 64 ∧ Jvm.FP.Core.encode Jvm.FP.Core.b64 d % 2 ^ 63 ≤ 2047 * 2 ^ 52 := by
  cases d with
  | nan => exact h.elim
  | inf s =>
    unfold Jvm.FP.Core.encode Jvm.FP.Core.assemble
    simp only [k_tl, k_ex]
    have := s_nat s
    omega
  | fin s c q =>
    obtain ⟨h1, h2⟩ := h
    unfold Jvm.FP.Core.encode Jvm.FP.Core.assemble
    simp only [k_tl, k_ex, k_qn]
    have := s_nat s
    split <;> omega
theorem ok_bound {s : Bool} {c : Nat} {q : Int} (h : c < 9007199254740992) : okD (Jvm.FP.Core.bound Jvm.FP.Core.b64 s c q) := by
  unfold Jvm.FP.Core.bound
  rw [k_qx]
  split
  · next hq => exact ⟨h, hq⟩
  · trivial
theorem ok_settle {s : Bool} {c : Nat} {q : Int} : okD (Jvm.FP.Core.settle Jvm.FP.Core.b64 s c q) := by
  unfold Jvm.FP.Core.settle
  rw [k_p, k_tl]
  split
  · next hc => exact ok_bound hc
  · exact ok_bound (by decide)
theorem ok_ratio {s : Bool} {n d : Nat} {e : Int} : okD (Jvm.FP.Core.roundRatio Jvm.FP.Core.b64 s n d e) := by
  unfold Jvm.FP.Core.roundRatio
  split
  · rw [k_qn]
    exact ⟨by decide, by decide⟩
  · exact ok_settle
theorem md48 {s e : Nat} (h : e < 2048) : (s * 2048 + e) % 2048 = e := by
  rw [Nat.add_comm, Nat.add_mul_mod_self_right, Nat.mod_eq_of_lt h]
theorem dv48 {s e : Nat} (h : e < 2048) : (s * 2048 + e) / 2048 = s := by
  rw [Nat.add_comm, Nat.add_mul_div_right _ _ (by decide), Nat.div_eq_of_lt h, Nat.zero_add]
theorem dec_enc {s : Bool} {c : Nat} {q : Int} (h1 : c < 9007199254740992) (h2 : -1074 ≤ q) (h3 : q ≤ 971) : ∃ q', Jvm.FP.Core.decode Jvm.FP.Core.b64 (Jvm.FP.Core.encode Jvm.FP.Core.b64 (.fin s c q)) = .fin s c q' := by
  have hs := s_nat s
  have hsq : (s.toNat % 2 == 1) = s := by cases s <;> rfl
  unfold Jvm.FP.Core.encode Jvm.FP.Core.assemble Jvm.FP.Core.decode Jvm.FP.Core.fieldE Jvm.FP.Core.fieldT Jvm.FP.Core.fieldS
  simp only [k_tl, k_ex, k_qn]
  by_cases hc : c < 4503599627370496
  · rw [if_pos hc]
    have e1 : ((s.toNat * 2048 + 0) * 4503599627370496 + c) / 4503599627370496 = s.toNat * 2048 := by omega
    have e2 : ((s.toNat * 2048 + 0) * 4503599627370496 + c) % 4503599627370496 = c := by omega
    have e3 : s.toNat * 2048 % 2048 = 0 := Nat.mul_mod_left _ _
    have e4 : s.toNat * 2048 / 2048 = s.toNat := Nat.mul_div_cancel _ (by decide)
    rw [e1, e2, e3, e4, if_neg (by decide), if_pos rfl, hsq]
    exact ⟨_, rfl⟩
  · rw [if_neg hc]
    have e1 : ((s.toNat * 2048 + ((q - -1074).toNat + 1)) * 4503599627370496 + (c - 4503599627370496)) / 4503599627370496 = s.toNat * 2048 + ((q - -1074).toNat + 1) := by omega
    have e2 : ((s.toNat * 2048 + ((q - -1074).toNat + 1)) * 4503599627370496 + (c - 4503599627370496)) % 4503599627370496 = c - 4503599627370496 := by omega
    have e3 : (s.toNat * 2048 + ((q - -1074).toNat + 1)) % 2048 = (q - -1074).toNat + 1 := md48 (by omega)
    have e4 : (s.toNat * 2048 + ((q - -1074).toNat + 1)) / 2048 = s.toNat := dv48 (by omega)
    rw [e1, e2, e3, e4, if_neg (by omega), if_neg (by omega), hsq, show 4503599627370496 + (c - 4503599627370496) = c by omega]
    exact ⟨_, rfl⟩
theorem near1 (m : Nat) : Jvm.FP.Core.nearest m 1 = m := by
  unfold Jvm.FP.Core.nearest
  rw [if_pos (by omega), Nat.div_one]
theorem lead_le {n : Nat} (h : n ≤ 2147483648) : Jvm.FP.Core.leading n 1 ≤ 31 := by
  have h1 : n.log2 ≤ 31 := by
    by_cases h0 : n = 0
    · subst h0; decide
    · have := (Nat.log2_lt h0 (k := 32)).mpr (by omega)
      omega
  have h2 : (1 : Nat).log2 = 0 := by decide
  unfold Jvm.FP.Core.leading
  simp only [h2]
  split <;> omega
theorem rat_int {s : Bool} {n : Nat} (h : n ≤ 2147483648) : ∃ c q, Jvm.FP.Core.roundRatio Jvm.FP.Core.b64 s n 1 0 = .fin s c q ∧ c < 9007199254740992 ∧ -1074 ≤ q ∧ q ≤ 971 ∧ (n ≠ 0 → c ≠ 0) := by
  unfold Jvm.FP.Core.roundRatio
  by_cases h0 : n = 0
  · rw [if_pos h0, k_qn]
    exact ⟨0, -1074, rfl, by decide, by decide, by decide, fun e => absurd h0 e⟩
  · rw [if_neg h0]
    have hl := lead_le h
    obtain ⟨q, hq⟩ : ∃ q, q = Jvm.FP.Core.quantum Jvm.FP.Core.b64 n 1 0 := ⟨_, rfl⟩
    have hq1 : -1074 ≤ q ∧ q ≤ -21 := by
      rw [hq]
      unfold Jvm.FP.Core.quantum
      rw [k_qn, show (Jvm.FP.Core.b64.p : Int) = 53 from rfl]
      omega
    rw [← hq]
    unfold Jvm.FP.Core.roundAt Jvm.FP.Core.unitsNum Jvm.FP.Core.unitsDen
    rw [show (q - 0).toNat = 0 by omega, Nat.pow_zero, Nat.mul_one, near1]
    unfold Jvm.FP.Core.settle
    rw [k_p, k_tl]
    have hm : n * 2 ^ (0 - q).toNat ≠ 0 := Nat.mul_ne_zero h0 (by have := Nat.two_pow_pos (0 - q).toNat; omega)
    split
    · next hc =>
      unfold Jvm.FP.Core.bound
      rw [k_qx, if_pos (by omega)]
      exact ⟨_, q, rfl, hc, by omega, by omega, fun _ => hm⟩
    · unfold Jvm.FP.Core.bound
      rw [k_qx, if_pos (by omega)]
      exact ⟨_, _, rfl, by decide, by omega, by omega, fun _ => by decide⟩
theorem u64_of {n : Nat} (h : n < 2 ^ 64) : (UInt64.ofNat n).toNat = n := by
  rw [UInt64.toNat_ofNat']
  exact Nat.mod_eq_of_lt h
theorem i2d_dec (a : Int32) : ∃ s c q, Jvm.FP.Core.decode Jvm.FP.Core.b64 (FP.i2d a).toNat = .fin s c q ∧ (a ≠ 0 → c ≠ 0) := by
  have hb : a.toInt.natAbs ≤ 2147483648 := by
    have h1 := Int32.le_toInt a
    have h2 := Int32.toInt_lt a
    omega
  obtain ⟨c, q, h1, h2, h3, h4, h5⟩ := rat_int (s := decide (a.toInt < 0)) hb
  have h6 : Jvm.FP.Core.fromInt Jvm.FP.Core.b64 a.toInt = Jvm.FP.Core.encode Jvm.FP.Core.b64 (.fin (decide (a.toInt < 0)) c q) := by
    rw [← h1]
    rfl
  have h7 : (FP.i2d a).toNat = Jvm.FP.Core.encode Jvm.FP.Core.b64 (.fin (decide (a.toInt < 0)) c q) := by
    rw [← h6]
    refine u64_of ?_
    rw [h6]
    exact (ok_enc (d := .fin (decide (a.toInt < 0)) c q) ⟨h2, h4⟩).1
  obtain ⟨q', h8⟩ := dec_enc (s := decide (a.toInt < 0)) h2 h3 h4
  refine ⟨_, c, q', h7 ▸ h8, fun ha => h5 (fun e => ha (Int32.toInt_inj.mp ?_))⟩
  rw [tlt0]
  omega
theorem ddiv_num {a b : Int32} (hb : b ≠ 0) : vf_n64 (FP.ddiv (FP.i2d a) (FP.i2d b)) := by
  obtain ⟨s, c, q, h1, -⟩ := i2d_dec a
  obtain ⟨t, d, r, h2, h3⟩ := i2d_dec b
  have h4 : Jvm.FP.Core.div Jvm.FP.Core.b64 (FP.i2d a).toNat (FP.i2d b).toNat = Jvm.FP.Core.encode Jvm.FP.Core.b64 (Jvm.FP.Core.roundRatio Jvm.FP.Core.b64 (s != t) c d (q - r)) := by
    unfold Jvm.FP.Core.div
    rw [h1, h2]
    unfold Jvm.FP.Core.quotient
    simp only []
    rw [if_neg (h3 hb)]
  obtain ⟨h5, h6⟩ := ok_enc (ok_ratio (s := s != t) (n := c) (d := d) (e := q - r))
  have h7 : (FP.ddiv (FP.i2d a) (FP.i2d b)).toNat = Jvm.FP.Core.encode Jvm.FP.Core.b64 (Jvm.FP.Core.roundRatio Jvm.FP.Core.b64 (s != t) c d (q - r)) := by
    rw [← h4]
    refine u64_of ?_
    rw [h4]
    exact h5
  exact vf64_of (by rw [h7]; exact h6)
theorem fdiv_tab : ∀ a : Fin 61, ∀ b : Fin 61, b.val ≠ 0 → (FP.fdiv (FP.i2f (nI a.val)) (FP.i2f (nI b.val))) &&& 0x7fffffff ≤ 0x7f800000 ∧ (FP.f2d (FP.fdiv (FP.i2f (nI a.val)) (FP.i2f (nI b.val)))) &&& 0x7fffffffffffffff ≤ 0x7ff0000000000000 := by decide +kernel
theorem fdiv_num {a b : Int32} (ha : 0 ≤ a.toInt) (ha2 : a.toInt ≤ 60) (hb : 0 < b.toInt) (hb2 : b.toInt ≤ 60) : vf_n32 (FP.fdiv (FP.i2f a) (FP.i2f b)) ∧ vf_n64 (FP.f2d (FP.fdiv (FP.i2f a) (FP.i2f b))) := by
  have e : ∀ z : Int32, 0 ≤ z.toInt → z.toInt ≤ 60 → ∃ j, j < 61 ∧ z = nI j := fun z h1 h2 => ⟨z.toInt.toNat, by omega, Int32.toInt_inj.mp (by rw [nI_toInt (by omega)]; omega)⟩
  obtain ⟨i, hi, rfl⟩ := e a ha ha2
  obtain ⟨j, hj, rfl⟩ := e b (by omega) hb2
  rw [nI_toInt (by omega)] at hb
  exact fdiv_tab ⟨i, hi⟩ ⟨j, hj⟩ (by show j ≠ 0; omega)
