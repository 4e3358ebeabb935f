/-! rules for references that may be null: va_rf o -/
section QR
variable {l : Launch} {s0 : State} {D : va_G} {own nm : String} {cc : ByteArray} {nL : Nat} {ret : Option FieldType} {tab : List ExceptionTableEntry} {d mc ms : Nat} {Ib : AI} {post : Option Value → AI → AL → Prop} {xp : String → Nat → AI → AL → Prop} {md : Prop} {G : Gt} {GX : GXt}
variable {pc : Nat} {ls : List (Nat × Value)} {st : List Value} {I : AI} {L : AL} {k n : Nat}
theorem rf_cat (o : Option Nat) : (va_rf o).category = 1 := by cases o <;> rfl
theorem rf_nar (o : Option Nat) (t : String) : narrow (.object t) (va_rf o) = va_rf o := by cases o <;> rfl
theorem rf_fit (o : Option Nat) (t : String) : fits (.object t) (va_rf o) = true := by cases o <;> rfl
theorem rf_or (o : Option Nat) : va_rf o = .null ∨ ∃ a, va_rf o = .ref a := by
  cases o with
  | none => exact Or.inl rfl
  | some a => exact Or.inr ⟨a, rfl⟩
theorem IsG.aload_nQ (hG : IsG l s0 D own nm cc nL ret tab d mc ms Ib post xp md G GX) {i : Fin 4} {o : Option Nat} (hd : decode cc pc = .ok (.aload_n i, 1)) (hg : lget ls i.val = some (va_rf o)) (kk : G (pc + 1) ls (va_rf o :: st) I L k n) : G pc ls st I L k n := by
  cases o with
  | none => exact hG.aload_nN hd hg kk
  | some a => exact hG.aload_n hd hg kk
theorem IsG.astore_nQ (hG : IsG l s0 D own nm cc nL ret tab d mc ms Ib post xp md G GX) {i : Fin 4} {o : Option Nat} (hd : decode cc pc = .ok (.astore_n i, 1)) (hn : i.val < nL) (kk : G (pc + 1) (lput ls i.val (va_rf o)) st I L k n) : G pc ls (va_rf o :: st) I L k n := by
  cases o with
  | none => exact hG.astore_nN hd hn kk
  | some a => exact hG.astore_n hd hn kk
theorem IsG.aloadQ (hG : IsG l s0 D own nm cc nL ret tab d mc ms Ib post xp md G GX) {i : Nat} {o : Option Nat} (hd : decode cc pc = .ok (.aload i, 2)) (hg : lget ls i = some (va_rf o)) (kk : G (pc + 2) ls (va_rf o :: st) I L k n) : G pc ls st I L k n := by
  cases o with
  | none => exact hG.aloadN hd hg kk
  | some a => exact hG.aload hd hg kk
theorem IsG.astoreQ (hG : IsG l s0 D own nm cc nL ret tab d mc ms Ib post xp md G GX) {i : Nat} {o : Option Nat} (hd : decode cc pc = .ok (.astore i, 2)) (hn : i < nL) (kk : G (pc + 2) (lput ls i (va_rf o)) st I L k n) : G pc ls (va_rf o :: st) I L k n := by
  cases o with
  | none => exact hG.astoreN hd hn kk
  | some a => exact hG.astore hd hn kk
theorem IsG.ifnullQ (hG : IsG l s0 D own nm cc nL ret tab d mc ms Ib post xp md G GX) {o : Option Nat} {off : Int} {tgt : Nat} (hd : decode cc pc = .ok (.ifnull off, 3)) (ht : (pc : Int) + off = (tgt : Int)) (kt : o = none → G tgt ls st I L k n) (kf : ∀ a, o = some a → G (pc + 3) ls st I L k n) : G pc ls (va_rf o :: st) I L k n := by
  cases o with
  | none => exact hG.ifnullN hd ht (kt rfl)
  | some a => exact hG.ifnull hd (kf a rfl)
theorem IsG.ifnonnullQ (hG : IsG l s0 D own nm cc nL ret tab d mc ms Ib post xp md G GX) {o : Option Nat} {off : Int} {tgt : Nat} (hd : decode cc pc = .ok (.ifnonnull off, 3)) (ht : (pc : Int) + off = (tgt : Int)) (kt : ∀ a, o = some a → G tgt ls st I L k n) (kf : o = none → G (pc + 3) ls st I L k n) : G pc ls (va_rf o :: st) I L k n := by
  cases o with
  | none => exact hG.ifnonnullN hd (kf rfl)
  | some a => exact hG.ifnonnull hd ht (kt a rfl)
theorem IsG.aastQ (hG : IsG l s0 D own nm cc nL ret tab d mc ms Ib post xp md G GX) {a N : Nat} {o : Option Nat} {E : String} {f : Nat → Option Nat} {i : Int32} (hd : decode cc pc = .ok (.aastore, 1)) (hL : L a = some (.inl (.inl (.object E, (N, .inr (.inr (.inr (.inr f)))))))) (hv : ∀ v, o = some v → ∃ C, Rcv s0 D I L v C ∧ Cond.castable C E ∈ lw_tbl) (hin : vp_in i N) (kk : G (pc + 1) ls st I (up1 L a (some (.inl (.inl (.object E, (N, .inr (.inr (.inr (.inr (va_up f i.toNatClampNeg o)))))))))) k n) : G pc ls (va_rf o :: .int i :: .ref a :: st) I L k n := by
  cases o with
  | none => exact hG.aastN hd hL hin kk
  | some v =>
    obtain ⟨C, h1, h2⟩ := hv v rfl
    exact hG.aast hd hL h1 h2 hin kk
end QR
