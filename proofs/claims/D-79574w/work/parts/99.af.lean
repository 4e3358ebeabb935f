/-! texts of the constant pools; a text by ldc; a byte array cast -/
def StrI (I : AI) (a k : Nat) (cs : List Nat) : Prop := ∃ (arr : Nat) (h z : Int32) (f : Nat → Int32), I a (ob ciJ9 [.ref arr, .int (nI k), .int h, .int z]) ∧ I arr (arB (cs.length * (k + 1)) f) ∧ Bs f (enc k cs) ∧ Cok k cs ∧ cs.length ≤ 1000
theorem StrI.r {I : AI} {a k : Nat} {cs : List Nat} (h : StrI I a k cs) (L : AL) : StrR I L a k cs := by
  obtain ⟨arr, h0, z, f, h1, h2, h3⟩ := h
  exact ⟨arr, h0, z, f, Or.inr h1, Or.inr h2, h3⟩
theorem StrI.mono {I J : AI} {a k : Nat} {cs : List Nat} (h : StrI I a k cs) (hI : ile I J) : StrI J a k cs := by
  obtain ⟨arr, h0, z, f, h1, h2, h3⟩ := h
  exact ⟨arr, h0, z, f, hI _ _ h1, hI _ _ h2, h3⟩
def TxA (s0 : State) (D : va_G) (q : Nat) (cs : List Nat) : Prop := ∃ (arr : Nat) (h z : Int32) (f : Nat → Int32), Sta s0 D q (ob ciJ9 [.ref arr, .int 0, .int h, .int z]) ∧ Sta s0 D arr (arB cs.length f) ∧ Bs f (enc 0 cs) ∧ (∀ c ∈ cs, c < 256) ∧ cs.length ≤ 1000
def TxK (s0 : State) (D : va_G) (own : String) (idx : Nat) (cs : List Nat) : Prop := ∃ (tx : String) (q : Nat), vk_R own idx tx q s0 ∧ TxA s0 D q cs
def txs : List (String × Nat × List Nat) := [("BraidedFerry", 96, []), ("BraidedFerry", 284, [44, 32]), ("BraidedFerry", 297, [32, 116, 111, 32]), ("BraidedFerry", 305, [32, 120]), ("BraidedFerry", 310, [110, 111, 98, 111, 100, 121]), ("BraidedFerry$Parser", 61, [32]), ("BraidedFerry$Parser", 80, [102, 111, 111, 116, 32, 104, 111, 111, 102, 32, 119, 104, 101, 101, 108, 32]), ("BraidedFerry$Parser", 111, [102, 111, 114, 116, 104, 32, 98, 97, 99, 107, 32]), ("BraidedFerry$Parser", 113, [102, 111, 114, 116, 104]), ("BraidedFerry$Parser", 127, [99, 114, 111, 115, 115, 32, 119, 97, 105, 116, 32, 108, 97, 110, 100, 32, 99, 111, 109, 101, 32, 98, 111, 97, 114, 100, 32, 97, 110, 99, 104, 111, 114, 32, 119, 101, 105, 103, 104, 32]), ("BraidedFerry$Parser", 132, [99, 114, 111, 115, 115]), ("BraidedFerry$Parser", 134, [119, 97, 105, 116]), ("BraidedFerry$Parser", 136, [108, 97, 110, 100]), ("BraidedFerry$Parser", 138, [99, 111, 109, 101]), ("BraidedFerry$Parser", 140, [98, 111, 97, 114, 100]), ("BraidedFerry$Parser", 142, [97, 110, 99, 104, 111, 114]), ("BraidedFerry$Weighed", 13, [102, 111, 111, 116]), ("BraidedFerry$Weighed", 15, [104, 111, 111, 102]), ("BraidedFerry$Weighed", 17, [119, 104, 101, 101, 108]), ("BraidedFerryModel", 11, [102, 111, 111, 116]), ("BraidedFerryModel", 13, [104, 111, 111, 102]), ("BraidedFerryModel", 15, [119, 104, 101, 101, 108]), ("BraidedFerryModel", 37, [102, 111, 114, 116, 104]), ("BraidedFerryModel", 39, [98, 97, 99, 107]), ("BraidedFerryModel", 191, [44, 32]), ("BraidedFerryModel", 197, [32, 116, 111, 32]), ("BraidedFerryModel", 203, [32, 120]), ("BraidedFerryModel", 205, [110, 111, 98, 111, 100, 121]), ("BraidedFerryModel", 235, [99, 111, 109, 101, 32]), ("BraidedFerryModel", 241, [32]), ("BraidedFerryModel", 247, [99, 114, 111, 115, 115, 32]), ("BraidedFerryModel", 249, [119, 101, 105, 103, 104, 32]), ("BraidedFerryModel", 251, [119, 97, 105, 116, 32]), ("BraidedFerryModel", 253, [108, 97, 110, 100]), ("BraidedFerryModel", 255, [98, 111, 97, 114, 100, 32]), ("BraidedFerryModel", 257, [97, 110, 99, 104, 111, 114, 32]), ("BraidedFerryModel", 263, [59]), ("java/lang/StringLatin1", 151, []), ("java/lang/StringUTF16", 295, [])]
def StX (s0 : State) (D : va_G) (o : Option Nat) : Prop := StV s0 o ∧ ∀ (i : Nat) (x : String × Nat × List Nat), txs[i]? = some x → TxK s0 D x.1 x.2.1 x.2.2
theorem StX.v {s0 : State} {D : va_G} {o : Option Nat} (h : StX s0 D o) : StV s0 o := h.1
theorem StX.tx {s0 : State} {D : va_G} {o : Option Nat} (h : StX s0 D o) (i : Nat) {own : String} {idx : Nat} {cs : List Nat} (hi : txs[i]? = some (own, idx, cs)) : TxK s0 D own idx cs := h.2 i _ hi
theorem Sat.dis {s0 : State} {D : va_G} {I : AI} {L : AL} {H : Heap} (h : Sat s0 D I L H) {a : Nat} {e e' : E1} (ha : L a = some (.inl e)) (hb : I a e') : False := by
  obtain ⟨g, ws, tys, hG, hg, hI, -, hP, hD, hK, hF⟩ := h
  have hr := hG.raw ha
  rcases hI a e' hb with ⟨v, tys', k1, k2, k3⟩ | ⟨h0, -⟩
  · obtain ⟨v9, h1, -⟩ := hg a e hr
    obtain ⟨p, hp⟩ := List.getElem?_of_mem h1
    have q1 : a < s0.heap.size := va_at.lt k3
    have q2 : s0.heap.size ≤ a := hD.2 p _ hp
    omega
  · rw [h0] at hr
    cases hr
theorem up_fr {L : AL} {p q : Nat} {x y z : Option Cel} (hpq : q ≠ p) (hL : L q = none) : up1 (up1 (up1 (up1 L p x) q y) p z) q none = up1 L p z := by
  funext t
  by_cases h1 : t = q
  · subst h1
    rw [up1_s, up1_n hpq, hL]
  · rw [up1_n h1]
    by_cases h2 : t = p
    · subst h2
      rw [up1_s, up1_s]
    · rw [up1_n h2, up1_n h1, up1_n h2, up1_n h2]
section TXR
variable {l : Launch} {s0 : State} {D : va_G} {own nm : String} {cc : ByteArray} {nL : Nat} {ret : Option FieldType} {tab : List ExceptionTableEntry} {d mc ms : Nat} {Ib : AI} {post : Option Value → AI → AL → Prop} {xp : String → Nat → AI → AL → Prop} {md : Prop} {G : Gt} {GX : GXt}
variable {pc : Nat} {ls : List (Nat × Value)} {st : List Value} {I : AI} {L : AL} {k n : Nat}
theorem IsG.dis (hG : IsG l s0 D own nm cc nL ret tab d mc ms Ib post xp md G GX) {a : Nat} {e e' : E1} (ha : L a = some (.inl e)) (hb : I a e') : G pc ls st I L k n := by
  obtain ⟨p, e, s, m, args, below, meth, c, R, Q, hΓ, hx, hb, hr, hml, hown, hts, hlk, hnm, hW, htab, hF, hR, hmd, rfl, rfl⟩ := hG
  intro H locs lsA hl hS hV hI
  exact (hS.dis ha ‹I a e'›).elim
theorem IsG.castB (hG : IsG l s0 D own nm cc nL ret tab d mc ms Ib post xp md G GX) {idx a : Nat} {x : vp_A} (hd : decode cc pc = .ok (.checkcast idx, 3)) (h1 : Cond.classLink own idx "[B" ∈ lw_all) (hR9 : Rd I L a (.inl (.byte, x))) (kk : G (pc + 3) ls (.ref a :: st) I L k n) : G pc ls (.ref a :: st) I L k n := by
  obtain ⟨p, e, s, m, args, below, meth, c, R, Q, hΓ, hx, hb, hr, hml, hown, hts, hlk, hnm, hW, htab, hF, hR, hmd, rfl, rfl⟩ := hG
  intro H locs lsA hl hS hV hI
  obtain ⟨ws, tys, v', q, hp, ⟨cA, hcA, rfl⟩, hP, hK⟩ := hS.rd hR9
  obtain ⟨t0, ht0⟩ := List.getElem?_of_mem hcA
  have hK' := va_K.moved hW.alike hK
  exact va_castA hx hb hown (hts _ h1) hP q hp (hK'.2 t0 _ ht0).2 hd (kk H locs lsA hl hS hV hI)
theorem ldcSW0 {p : Program} {e : Env} {s : State} {m : MethodId} {args : Array Value} {below : List Frame} {meth : Method} {c : Code} {R : Room} {Q : State → Prop} {H : Heap} {locs : List Loc} {ls : Array Slot} {rest : List Value} (hexec : p.tables.exec = Jvm.exec) (hb : c.code = cc) {tx : String} {index q : Nat} (hown : s.vm.findClass own = some m.cls) (hZ : vk_R own index tx q s) (hdg : decode cc pc = .ok (.ldc_w index, 3))
    (kk : W p l e R s m args below meth c H locs k n Q (F0 m (pc + 3) ls (.ref q :: rest))) : W p l e R s m args below meth c H locs k n Q (F0 m pc ls rest) := by
  intro T hT X
  obtain ⟨t, a1, b1⟩ := kk T hT X
  exact ⟨t, X.ldcStringW hexec hown (text := tx) (a := q) hZ.1 hZ.2 (g := F0 m pc ls rest) rfl (by rw [hb]; exact hdg) t a1, b1⟩
theorem IsG.ldcT (hG : IsG l s0 D own nm cc nL ret tab d mc ms Ib post xp md G GX) {idx : Nat} {cs : List Nat} (hd : decode cc pc = .ok (.ldc idx, 2)) (hT : TxK s0 D own idx cs) (kk : ∀ q, StrI I q 0 cs → G (pc + 2) ls (.ref q :: st) I L k n) : G pc ls st I L k n := by
  obtain ⟨tx, q, hZ, arr, h, z, f, h1, h2, h3, h4, h5⟩ := hT
  refine hG.ldcS hd hZ ?_
  refine hG.sta h1 (fun k1 => ?_)
  refine hG.sta h2 (fun k2 => ?_)
  exact kk q ⟨arr, h, z, f, k1, by rw [Nat.zero_add, Nat.mul_one]; exact k2, h3, Or.inl ⟨rfl, h4⟩, h5⟩
theorem IsG.ldcTW (hG : IsG l s0 D own nm cc nL ret tab d mc ms Ib post xp md G GX) {idx : Nat} {cs : List Nat} (hd : decode cc pc = .ok (.ldc_w idx, 3)) (hT : TxK s0 D own idx cs) (kk : ∀ q, StrI I q 0 cs → G (pc + 3) ls (.ref q :: st) I L k n) : G pc ls st I L k n := by
  have hG' := hG
  obtain ⟨tx, q, hZ, arr, h, z, f, h1, h2, h3, h4, h5⟩ := hT
  refine hG.sta h1 (fun k1 => ?_)
  refine hG.sta h2 (fun k2 => ?_)
  have kk' := kk q ⟨arr, h, z, f, k1, by rw [Nat.zero_add, Nat.mul_one]; exact k2, h3, Or.inl ⟨rfl, h4⟩, h5⟩
  clear kk k1 k2
  obtain ⟨p, e, s, m, args, below, meth, c, R, Q, hΓ, hx, hb, hr, hml, hown, hts, hlk, hnm, hW, htab, hF, hR, hmd, rfl, rfl⟩ := hG
  intro H locs lsA hl hS hV hI
  exact ldcSW0 hx hb hown (vk_R.warm hW hZ) hd (kk' H locs lsA hl hS hV hI)
end TXR
