/-! strings: bytes of characters; statics; readable strings -/
def byt (c : Nat) : Int32 := (nI c).toInt8.toInt32
def hib (c : Nat) : Int32 := (nI (c / 256)).toInt8.toInt32
def enc (k : Nat) (cs : List Nat) : List Int32 := if k = 0 then cs.map byt else cs.flatMap (fun c => [byt c, hib c])
def Bs (f : Nat → Int32) (bs : List Int32) : Prop := ∀ i b, bs[i]? = some b → f i = b
def Cok (k : Nat) (cs : List Nat) : Prop := (k = 0 ∧ ∀ c ∈ cs, c < 256) ∨ (k = 1 ∧ ∀ c ∈ cs, c < 65536)
theorem Cok.le {k : Nat} {cs : List Nat} (h : Cok k cs) : k ≤ 1 := by
  rcases h with ⟨rfl, _⟩ | ⟨rfl, _⟩ <;> decide
theorem Cok.big {k : Nat} {cs : List Nat} (h : Cok k cs) : ∀ c ∈ cs, c < 65536 := by
  rcases h with ⟨rfl, h⟩ | ⟨rfl, h⟩
  · exact fun c hc => Nat.lt_trans (h c hc) (by decide)
  · exact h
theorem Cok.app {k : Nat} {a b : List Nat} (h1 : Cok k a) (h2 : Cok k b) : Cok k (a ++ b) := by
  rcases h1 with ⟨rfl, h1⟩ | ⟨rfl, h1⟩
  · refine Or.inl ⟨rfl, fun c hc => (List.mem_append.mp hc).elim (h1 c) (fun hc => ?_)⟩
    rcases h2 with ⟨_, h2⟩ | ⟨e, _⟩
    · exact h2 c hc
    · cases e
  · exact Or.inr ⟨rfl, fun c hc => (List.mem_append.mp hc).elim (h1 c) (h2.big c)⟩
theorem enc_app (k : Nat) (a b : List Nat) : enc k (a ++ b) = enc k a ++ enc k b := by
  unfold enc
  split
  · exact List.map_append
  · exact List.flatMap_append
theorem enc_len {k : Nat} (hk : k ≤ 1) (cs : List Nat) : (enc k cs).length = cs.length * (k + 1) := by
  rcases Nat.le_one_iff_eq_zero_or_eq_one.mp hk with rfl | rfl
  · show (cs.map byt).length = _
    rw [List.length_map]; omega
  · show (cs.flatMap _).length = _
    induction cs with
    | nil => rfl
    | cons c cs ih =>
      rw [List.flatMap_cons, List.length_append, ih, List.length_cons, List.length_cons, List.length_cons, List.length_nil]
      omega
theorem enc0 (cs : List Nat) (i : Nat) : (enc 0 cs)[i]? = (cs[i]?).map byt := by
  show (cs.map byt)[i]? = _
  rw [List.getElem?_map]
theorem enc1 (cs : List Nat) : ∀ i, (enc 1 cs)[2 * i]? = (cs[i]?).map byt ∧ (enc 1 cs)[2 * i + 1]? = (cs[i]?).map hib := by
  show ∀ i, (cs.flatMap (fun c => [byt c, hib c]))[2 * i]? = _ ∧ (cs.flatMap (fun c => [byt c, hib c]))[2 * i + 1]? = _
  induction cs with
  | nil => intro i; exact ⟨rfl, rfl⟩
  | cons c cs ih =>
    intro i
    rw [List.flatMap_cons]
    cases i with
    | zero => exact ⟨rfl, rfl⟩
    | succ i =>
      obtain ⟨h1, h2⟩ := ih i
      exact ⟨h1, h2⟩
theorem Bs.app {f : Nat → Int32} {a b : List Int32} (h1 : Bs f a) (h2 : ∀ i x, b[i]? = some x → f (a.length + i) = x) : Bs f (a ++ b) := fun i x hx => by
  by_cases h : i < a.length
  · rw [List.getElem?_append_left h] at hx
    exact h1 i x hx
  · rw [List.getElem?_append_right (by omega)] at hx
    have := h2 _ _ hx
    rw [show a.length + (i - a.length) = i by omega] at this
    exact this
theorem Bs.cut {f : Nat → Int32} {a b : List Int32} (h : Bs f (a ++ b)) : Bs f a := fun i x hx => h i x (by
  rw [List.getElem?_append_left (List.getElem?_eq_some_iff.mp hx).1]
  exact hx)
theorem shlk {k n : Nat} (hk : k ≤ 1) (hn : n < 2 ^ 29) : nI n <<< (nI k &&& 31) = nI (n * (k + 1)) := by
  rcases Nat.le_one_iff_eq_zero_or_eq_one.mp hk with rfl | rfl
  · rw [pk_shlN (nI 0 &&& 31) 0 (by decide) (by omega)]
  · rw [pk_shlN (nI 1 &&& 31) 1 (by decide) (by omega)]
theorem shrk {k n : Nat} (hk : k ≤ 1) (hn : n < 2 ^ 29) : nI n >>> (nI k &&& 31) = nI (n / (k + 1)) := by
  rcases Nat.le_one_iff_eq_zero_or_eq_one.mp hk with rfl | rfl
  · rw [pk_shrN (by omega) (nI 0 &&& 31) 0 (by decide)]
  · rw [pk_shrN (by omega) (nI 1 &&& 31) 1 (by decide)]
theorem byt_and0 : ∀ c, c < 256 → byt c &&& 255 = nI c := by decide +kernel
theorem byt_mod (c : Nat) : byt c = byt (c % 256) := by
  unfold byt
  congr 1
  apply Int8.toBitVec_inj.mp
  apply BitVec.eq_of_toNat_eq
  show (BitVec.signExtend 8 (BitVec.ofNat 32 c)).toNat = (BitVec.signExtend 8 (BitVec.ofNat 32 (c % 256))).toNat
  rw [BitVec.signExtend_eq_setWidth_of_le _ (by decide), BitVec.signExtend_eq_setWidth_of_le _ (by decide), BitVec.toNat_setWidth, BitVec.toNat_setWidth, BitVec.toNat_ofNat, BitVec.toNat_ofNat]
  omega
theorem byt_and (c : Nat) : byt c &&& 255 = nI (c % 256) := by
  rw [byt_mod, byt_and0 _ (Nat.mod_lt _ (by decide))]
theorem i2c_n {n : Nat} (h : n < 65536) : ((nI n).toUInt32 % 65536).toInt32 = nI n := by
  rw [pk_char, pk_tn (by omega), Nat.mod_eq_of_lt h]
theorem hib_and (c : Nat) (h : c < 65536) : hib c &&& 255 = nI (c / 256) := by
  have := byt_and (c / 256)
  rw [Nat.mod_eq_of_lt (by omega)] at this
  exact this
theorem lohi {c : Nat} (h : c < 65536) : nI (c % 256) ||| nI (c / 256 * 256) = nI c := by
  apply Int32.toBitVec_inj.mp
  show (nI (c % 256)).toBitVec ||| (nI (c / 256 * 256)).toBitVec = (nI c).toBitVec
  apply BitVec.eq_of_toNat_eq
  rw [BitVec.toNat_or, pk_tn (by omega), pk_tn (by omega), pk_tn (by omega)]
  have := Nat.two_pow_add_eq_or_of_lt (i := 8) (b := c % 256) (by omega) (c / 256)
  rw [Nat.or_comm, Nat.mul_comm (c / 256)]
  show 2 ^ 8 * (c / 256) ||| c % 256 = c
  rw [← this]
  show 256 * (c / 256) + c % 256 = c
  omega
/-- statics that strings use -/
def StV (s0 : State) (o : Option Nat) : Prop := va_Z "java/lang/String" "COMPACT_STRINGS" "Z" (.int 1) (Are s0) s0 s0.heap ∧ va_Z "java/lang/StringUTF16" "$assertionsDisabled" "Z" (.int 1) (Are s0) s0 s0.heap ∧ va_Z "java/lang/StringUTF16" "HI_BYTE_SHIFT" "I" (.int 0) (Are s0) s0 s0.heap ∧ va_Z "java/lang/StringUTF16" "LO_BYTE_SHIFT" "I" (.int 8) (Are s0) s0 s0.heap ∧ va_Z "jdk/internal/util/Preconditions" "SIOOBE_FORMATTER" "Ljava/util/function/BiFunction;" (va_rf o) (Are s0) s0 s0.heap
theorem StV.cs {s0 : State} {o : Option Nat} (h : StV s0 o) : va_Z "java/lang/String" "COMPACT_STRINGS" "Z" (.int 1) (Are s0) s0 s0.heap := h.1
theorem StV.ad {s0 : State} {o : Option Nat} (h : StV s0 o) : va_Z "java/lang/StringUTF16" "$assertionsDisabled" "Z" (.int 1) (Are s0) s0 s0.heap := h.2.1
theorem StV.hs {s0 : State} {o : Option Nat} (h : StV s0 o) : va_Z "java/lang/StringUTF16" "HI_BYTE_SHIFT" "I" (.int 0) (Are s0) s0 s0.heap := h.2.2.1
theorem StV.ls {s0 : State} {o : Option Nat} (h : StV s0 o) : va_Z "java/lang/StringUTF16" "LO_BYTE_SHIFT" "I" (.int 8) (Are s0) s0 s0.heap := h.2.2.2.1
theorem StV.sf {s0 : State} {o : Option Nat} (h : StV s0 o) : va_Z "jdk/internal/util/Preconditions" "SIOOBE_FORMATTER" "Ljava/util/function/BiFunction;" (va_rf o) (Are s0) s0 s0.heap := h.2.2.2.2
/-- a readable string of the characters cs, k: 0 one byte each, 1 two bytes each -/
def StrR (I : AI) (L : AL) (a k : Nat) (cs : List Nat) : Prop := ∃ (arr : Nat) (h z : Int32) (f : Nat → Int32), Rd I L a (ob ciJ9 [.ref arr, .int (nI k), .int h, .int z]) ∧ Rd I L arr (arB (cs.length * (k + 1)) f) ∧ Bs f (enc k cs) ∧ Cok k cs ∧ cs.length ≤ 1000
theorem StrR.rcv {s0 : State} {D : va_G} {I : AI} {L : AL} {a k : Nat} {cs : List Nat} (h : StrR I L a k cs) : Rcv s0 D I L a "java/lang/String" := by
  obtain ⟨arr, h0, z, f, h1, -⟩ := h
  exact Rd.rcv h1 cl_J9
