/-! a word of some words -/
theorem StrR.nw {I : AI} {L : AL} {s k q : Nat} {ds : List Nat} (hs : StrR I L s k ds) (hq : L q = none) (c : Option Cel) : StrR I (up1 L q c) s k ds := by
  obtain ⟨arr, h, z, f, h1, h2, h3⟩ := hs
  exact ⟨arr, h, z, f, h1.new hq c, h2.new hq c, h3⟩
theorem NewS.mono {I J : AI} {L L' : AL} {q k : Nat} {cs : List Nat} (h : NewS I L L' q k cs) (hI : ile I J) : NewS J L L' q k cs := by
  obtain ⟨arr, f, h1, h2, h3, h4⟩ := h
  exact ⟨arr, f, h1, h2, hI _ _ h3, h4⟩
def TldS (I I' : AI) (L L' : AL) (q : Nat) (cs : List Nat) : Prop := (cs = [] ∧ I = I' ∧ L = L' ∧ StrI I' q 0 []) ∨ (cs ≠ [] ∧ NewS I' L L' q 0 cs)
theorem TldS.r {I I' : AI} {L L' : AL} {q : Nat} {cs : List Nat} (h : TldS I I' L L' q cs) : StrR I' L' q 0 cs := by
  rcases h with ⟨rfl, rfl, rfl, h⟩ | ⟨_, h⟩
  · exact h.r _
  · exact h.r
theorem TldS.sub {I I' : AI} {L L' : AL} {q : Nat} {cs : List Nat} (h : TldS I I' L L' q cs) : ∀ z y, L z = some y → L' z = some y := by
  rcases h with ⟨rfl, rfl, rfl, h⟩ | ⟨_, h⟩
  · exact fun _ _ h => h
  · obtain ⟨arr, f, h1, rfl, -⟩ := h
    exact fun z y hz => (up1_n (ne_none hz h1)).trans hz
section SEND
variable {l : Launch} {s0 : State} {D : va_G} {own nm : String} {cc : ByteArray} {nL : Nat} {ret : Option FieldType} {tab : List ExceptionTableEntry} {d mc ms : Nat} {Ib : AI} {post : Option Value → AI → AL → Prop} {xp : String → Nat → AI → AL → Prop} {md : Prop} {G : Gt} {GX : GXt}
variable {pc : Nat} {ls : List (Nat × Value)} {st : List Value} {I : AI} {L : AL} {k n : Nat}
/-- a string made of a builder: the builder is let go, the string is frozen -/
theorem IsG.sEnd (hG : IsG l s0 D own nm cc nL ret tab d mc ms Ib post xp md G GX) {L2 L' : AL} {q qb kd : Nat} {c : Option Cel} {cs : List Nat} (hN : NewS I (up1 L2 qb c) L' q kd cs) (hq : L2 qb = none) (kk : ∀ J, ile I J → StrI J q kd cs → G pc ls st J L2 k n) : G pc ls st I L' k n := by
  obtain ⟨z, g, n1, rfl, n3, n4, n5, n6⟩ := hN
  refine hG.fr (a := q) up1_s ?_
  rw [up1_up1]
  refine hG.sub (S := L2) (fun w y hw => ?_) (kk _ frI_le ⟨z, 0, 0, g, frI_in, frI_le _ _ n3, n4, n5, n6⟩)
  have e1 : w ≠ qb := ne_none hw hq
  have e2 : w ≠ q := fun e => by
    subst e
    rw [up1_n e1] at n1
    rw [n1] at hw
    cases hw
  rw [up1_n e2, up1_n e1]
  exact hw
end SEND
set_option maxHeartbeats 4000000 in
set_option maxRecDepth 100000 in
theorem sp_J8_substring {l : Launch} {s0 : State} {D : va_G} {I : AI} {L : AL} {o : Option Nat} (hΓ : Gam l s0 D) (hT : StX s0 D o) {a b k : Nat} {ml : Int32} {cs : List Nat} (h0 : L a = some (sbC b k ml cs)) (hk9 : k ≤ 1) {i : Nat} {ds : List Nat} (hds : ∀ t, t < ds.length → cs[i + t]? = ds[t]?) (hil : i + ds.length ≤ cs.length) (hdc : ∀ c ∈ ds, c < 256) (h16 : i = 0 → ds.length < 16) : Spc l s0 D yJ8_substring 8 [.ref a, .int (nI i), .int (nI (i + ds.length))] I L 2 (4 + ds.length) (fun r I' L' => ∃ q, r = some (.ref q) ∧ TldS I I' L L' q ds) noX := by
  refine Spc.of hΓ cJ8_substring 3 (some (FieldType.object "java/lang/String")) q2976 (by decide +kernel) (by decide) (Nat.le_of_ble_eq_true rfl) (fun G GX hG => ?_)
  have hX := hT.v
  rcases kcase hk9 with rfl | rfl <;> by_cases h9 : ds = []
  · subst h9
    refine hG.opSb h0 (fun arr m f M h => ?_)
    obtain ⟨h1, h2, hF, hne, hfr⟩ := id h
    obtain ⟨hbs, hfb, hco, hlm, hm16, hmb, hlb, hb4⟩ := id hF
    have hk := hF.k
    have hmk := hF.mk2
    refine hG.aload_n dJ8_substring_0 rfl ?_
    refine hG.iload_n dJ8_substring_1 rfl ?_
    refine hG.iload_n dJ8_substring_2 rfl ?_
    refine hG.callSU dJ8_substring_3 ku_J8_252 (Rcv.raw h1 cl_J8) cl_J8 (sp_J7_substringE0 hΓ hT h (by omega)) rfl rfl (Nat.le_of_ble_eq_true rfl) (by decide) (by omega) (by omega) (fun r3 I3 L3 hI3 h3 => ?_) (fun _ _ _ _ _ h => h.elim)
    obtain ⟨q, rfl, rfl, rfl, hS⟩ := h3
    refine hG.clSs L h0 h ?_
    refine hG.aret dJ8_substring_6 rfl (by first | exact Or.inl ⟨_, rfl⟩ | exact Or.inr ⟨_, rfl⟩) (by first | exact Or.inr ⟨_, rfl⟩ | exact Or.inl rfl) ?_ (by omega) (by omega) trivial
    exact ⟨q, rfl, Or.inl ⟨rfl, rfl, rfl, hS⟩⟩
  · have h0l : 0 < ds.length := List.length_pos_iff.mpr h9
    refine hG.opSb h0 (fun arr m f M h => ?_)
    obtain ⟨h1, h2, hF, hne, hfr⟩ := id h
    obtain ⟨hbs, hfb, hco, hlm, hm16, hmb, hlb, hb4⟩ := id hF
    have hk := hF.k
    have hmk := hF.mk2
    refine hG.aload_n dJ8_substring_0 rfl ?_
    refine hG.iload_n dJ8_substring_1 rfl ?_
    refine hG.iload_n dJ8_substring_2 rfl ?_
    refine hG.callSU dJ8_substring_3 ku_J8_252 (Rcv.raw h1 cl_J8) cl_J8 (sp_J7_substring0 hΓ hX h hds hil h0l hdc h16) rfl rfl (Nat.le_of_ble_eq_true rfl) (by decide) (by omega) (by omega) (fun r3 I3 L3 hI3 h3 => ?_) (fun _ _ _ _ _ h => h.elim)
    obtain ⟨q, rfl, hN⟩ := h3
    obtain ⟨z, g, n1, rfl, n3, n4, n5, n6⟩ := hN
    have hLq := hfr.non n1 (by rw [h1]; exact (fun h => nomatch h))
    have haq : a ≠ q := fun e => by rw [e, n1] at h1; cases h1
    refine hG.clSs (up1 L q (some (obC ciJ9 [.ref z, .int (nI 0), .int 0, .int 0]))) ((up1_n haq).trans h0) (h.both n1 _) ?_
    refine hG.aret dJ8_substring_6 rfl (by first | exact Or.inl ⟨_, rfl⟩ | exact Or.inr ⟨_, rfl⟩) (by first | exact Or.inr ⟨_, rfl⟩ | exact Or.inl rfl) ?_ (by omega) (by omega) trivial
    exact ⟨q, rfl, Or.inr ⟨h9, z, g, hLq, rfl, n3, n4, n5, n6⟩⟩
  · subst h9
    refine hG.opSb h0 (fun arr m f M h => ?_)
    obtain ⟨h1, h2, hF, hne, hfr⟩ := id h
    obtain ⟨hbs, hfb, hco, hlm, hm16, hmb, hlb, hb4⟩ := id hF
    have hk := hF.k
    have hmk := hF.mk2
    refine hG.aload_n dJ8_substring_0 rfl ?_
    refine hG.iload_n dJ8_substring_1 rfl ?_
    refine hG.iload_n dJ8_substring_2 rfl ?_
    refine hG.callSU dJ8_substring_3 ku_J8_252 (Rcv.raw h1 cl_J8) cl_J8 (sp_J7_substringE1 hΓ hT h (by omega)) rfl rfl (Nat.le_of_ble_eq_true rfl) (by decide) (by omega) (by omega) (fun r3 I3 L3 hI3 h3 => ?_) (fun _ _ _ _ _ h => h.elim)
    obtain ⟨q, rfl, rfl, rfl, hS⟩ := h3
    refine hG.clSs L h0 h ?_
    refine hG.aret dJ8_substring_6 rfl (by first | exact Or.inl ⟨_, rfl⟩ | exact Or.inr ⟨_, rfl⟩) (by first | exact Or.inr ⟨_, rfl⟩ | exact Or.inl rfl) ?_ (by omega) (by omega) trivial
    exact ⟨q, rfl, Or.inl ⟨rfl, rfl, rfl, hS⟩⟩
  · have h0l : 0 < ds.length := List.length_pos_iff.mpr h9
    refine hG.opSb h0 (fun arr m f M h => ?_)
    obtain ⟨h1, h2, hF, hne, hfr⟩ := id h
    obtain ⟨hbs, hfb, hco, hlm, hm16, hmb, hlb, hb4⟩ := id hF
    have hk := hF.k
    have hmk := hF.mk2
    refine hG.aload_n dJ8_substring_0 rfl ?_
    refine hG.iload_n dJ8_substring_1 rfl ?_
    refine hG.iload_n dJ8_substring_2 rfl ?_
    refine hG.callSU dJ8_substring_3 ku_J8_252 (Rcv.raw h1 cl_J8) cl_J8 (sp_J7_substring1 hΓ hX h hds hil h0l hdc h16) rfl rfl (Nat.le_of_ble_eq_true rfl) (by decide) (by omega) (by omega) (fun r3 I3 L3 hI3 h3 => ?_) (fun _ _ _ _ _ h => h.elim)
    obtain ⟨q, rfl, hN⟩ := h3
    obtain ⟨z, g, n1, rfl, n3, n4, n5, n6⟩ := hN
    have hLq := hfr.non n1 (by rw [h1]; exact (fun h => nomatch h))
    have haq : a ≠ q := fun e => by rw [e, n1] at h1; cases h1
    refine hG.clSs (up1 L q (some (obC ciJ9 [.ref z, .int (nI 0), .int 0, .int 0]))) ((up1_n haq).trans h0) (h.both n1 _) ?_
    refine hG.aret dJ8_substring_6 rfl (by first | exact Or.inl ⟨_, rfl⟩ | exact Or.inr ⟨_, rfl⟩) (by first | exact Or.inr ⟨_, rfl⟩ | exact Or.inl rfl) ?_ (by omega) (by omega) trivial
    exact ⟨q, rfl, Or.inr ⟨h9, z, g, hLq, rfl, n3, n4, n5, n6⟩⟩
theorem kv_X26_67 : LkV RX26 67 yJ9_startsWith 1 := ⟨q3003, q3004, q3005, q85, by decide +kernel, by decide +kernel, by decide +kernel⟩
theorem nw_X26_24 : LkN RX26 24 ciJ8 [.null, .int 0, .int 0, .int 0] 4 := ⟨RJ8, TJ8, tyJ8, cls_J8, q2998, q326, q84, rfl, fun j hj => by
  match j, hj with
  | 0, _ => rfl
  | 1, _ => rfl
  | 2, _ => rfl
  | 3, _ => rfl
  | _ + 4, h => exact absurd h (by omega)⟩
theorem ki_X26_56 : LkI RX26 56 yJ8_init 0 := ⟨q2999, q328, q84, rfl, ⟨by decide +kernel, by decide +kernel, by decide +kernel⟩, by decide +kernel⟩
theorem kv_X26_57 : LkV RX26 57 yJ8_append 1 := ⟨q3000, q896, q897, q84, by decide +kernel, by decide +kernel, by decide +kernel⟩
theorem kv_X26_63 : LkV RX26 63 yJ8_toString 0 := ⟨q3002, q1016, q1017, q84, by decide +kernel, by decide +kernel, by decide +kernel⟩
theorem kv_X26_73 : LkV RX26 73 yJ9_contains 1 := ⟨q3016, q3017, q3018, q85, by decide +kernel, by decide +kernel, by decide +kernel⟩
theorem kv_X26_77 : LkV RX26 77 yJ8_append_4 1 := ⟨q3054, q2921, q2922, q84, by decide +kernel, by decide +kernel, by decide +kernel⟩
theorem kv_X26_52 : LkV RX26 52 yJ8_substring 2 := ⟨q2973, q2974, q2975, q84, by decide +kernel, by decide +kernel, by decide +kernel⟩
set_option maxHeartbeats 4000000 in
set_option maxRecDepth 100000 in
theorem sp_X26_word {l : Launch} {s0 : State} {D : va_G} {I : AI} {L : AL} {o : Option Nat} (hΓ : Gam l s0 D) (hT : StX s0 D o) {pa x inp b k : Nat} {ml : Int32} {t : List Nat} {p : Nat} (h : PaS L pa x inp b k ml t p) {wr : Nat} {ws : List (List Nat)} {W : List Nat} (hW : StrI I wr 0 W) (hok : WdOk ws W) : Spc l s0 D yX26_word 11 [.ref pa, .ref wr] I L 240 11000 (fun r I' L' => ∃ (q : Nat) (told : List Nat) (z : Nat), wdF ws t p = .inr (told, z) ∧ r = some (.ref q) ∧ NewS I' (up1 L pa (some (ppC z x))) L' q 0 told) (xF (wdF ws t p) L pa x) := by
  refine Spc.of hΓ cX26_word 6 (some (FieldType.object "java/lang/String")) q2972 (by decide +kernel) (by decide) (Nat.le_of_ble_eq_true rfl) (fun G GX hG => ?_)
  have hX := hT.v
  obtain ⟨hp, -⟩ := id h
  have loop : ∀ (j : Nat) (told : List Nat) (I1 : AI) (L1 : AL), told.length + j = 8 → ile I I1 → L1 = up1 L pa (some (ppC (p + told.length) x)) → PaS L1 pa x inp b k ml t (p + told.length) → (∀ u, u < told.length → t[p + u]? = told[u]?) → told ∈ prefs ws → wdF ws t p = wdG ws t j told (p + told.length) → StrI I1 wr 0 W → G 5 [(0, .ref pa), (1, .ref wr), (2, .int (nI p))] [] I1 L1 (29 * (8 - j)) (1352 * (8 - j)) := by
    intro j
    induction j with
    | zero =>
      intro told I1 L1 hlj hI1 hL1 hPa htd htp hwd hW1
      have := (hok.1 told htp).2.2.2.1
      omega
    | succ j ih =>
      intro told I1 L1 hlj hI1 hL1 hPa htd htp hwd hW1
      subst hL1
      obtain ⟨hA, hB, hC, hlen, h256⟩ := hok.1 told htp
      have hw9 := hok.2.2.2.1
      have hw100 := hok.2.2.2.2
      obtain ⟨hp, ⟨r0, r1, r3, r4, r5, r6, r7, hx⟩, hin, hpl, hk, htc, htl⟩ := id hPa
      refine hG.aload_n dX26_word_5 rfl ?_
      refine hG.get dX26_word_6 fg_X26_1_X26 (Or.inl hp) rfl ?_
      refine hG.get dX26_word_9 fg_X26_17_X1 (Or.inl hx) rfl ?_
      refine hG.iload_n dX26_word_12 rfl ?_
      refine hG.aload_n dX26_word_13 rfl ?_
      refine hG.get dX26_word_14 fg_X26_13_X26 (Or.inl hp) rfl ?_
      refine hG.callV dX26_word_17 kv_X26_52 (Rcv.sb hin) (sp_J8_substring hΓ hT hin hk (i := p) (ds := told) htd (by omega) h256 (fun _ => by omega)) rfl rfl (Nat.le_of_ble_eq_true rfl) (by decide) (by omega) (by omega) (fun r17 I17 L17 hI17 h17 => ?_) (fun _ _ _ _ _ h => h.elim)
      obtain ⟨qT, rfl, hTd⟩ := h17
      have hTr := hTd.r
      have hL2 := hTd.sub
      have hP2 := hPa.sub hL2
      have hW1 := hW1.mono hI17
      have hI1 := ile_tr hI1 hI17
      obtain ⟨hp2, ⟨r0, r1, r3, r4, r5, r6, r7, hx2⟩, hin2, -, -, -, -⟩ := id hP2
      have hIT : ile I17 I17 := ile_rf
      refine hG.astore_n dX26_word_20 (by decide) ?_
      refine hG.aload_n dX26_word_21 rfl ?_
      refine hG.new dX26_word_22 nw_X26_24 (by omega) (by omega) (fun b22 hLb22 hIb22 => ?_)
      refine hG.dup dX26_word_25 rfl ?_
      refine hG.callI dX26_word_26 ki_X26_56 (sp_J8_init (b := 8) hΓ hX (by decide) up1_s) rfl rfl (Nat.le_of_ble_eq_true rfl) (by decide) (by omega) (by omega) (fun r26 I26 L26 hI26 h26 => ?_) (fun _ _ _ _ _ h => h.elim)
      obtain ⟨rfl, rfl, rfl⟩ := h26
      rw [up1_up1]
      refine hG.aload_n dX26_word_29 rfl ?_
      refine hG.callV dX26_word_30 kv_X26_57 (Rcv.sb up1_s) (sp_J8_append0 (k := 0) hΓ hX up1_s (hTr.nw hLb22 _) (by simp <;> omega)) rfl rfl (Nat.le_of_ble_eq_true rfl) (by decide) (by omega) (by omega) (fun r30 I30 L30 hI30 h30 => ?_) (fun _ _ _ _ _ h => h.elim)
      obtain ⟨rfl, rfl, rfl⟩ := h30
      rw [up1_up1]
      refine hG.ldcT dX26_word_33 (hT.tx 5 rfl) (fun s33 hs33 => ?_)
      refine hG.callV dX26_word_35 kv_X26_57 (Rcv.sb up1_s) (sp_J8_append0 (k := 0) hΓ hX up1_s (hs33.r _) (by simp <;> omega)) rfl rfl (Nat.le_of_ble_eq_true rfl) (by decide) (by omega) (by omega) (fun r35 I35 L35 hI35 h35 => ?_) (fun _ _ _ _ _ h => h.elim)
      obtain ⟨rfl, rfl, rfl⟩ := h35
      rw [up1_up1]
      refine hG.callV dX26_word_38 kv_X26_63 (Rcv.sb up1_s) (sp_J8_toString0 hΓ hX up1_s (by simp <;> omega)) rfl rfl (Nat.le_of_ble_eq_true rfl) (by decide) (by omega) (by omega) (fun r38 I38 L38 hI38 h38 => ?_) (fun _ _ _ _ _ h => h.elim)
      obtain ⟨q38, rfl, hN38⟩ := h38
      refine hG.sEnd hN38 hLb22 (fun J38 hJ38 hS38 => ?_)
      have hTr := hTr.mono (ile_tr hI38 hJ38)
      have hW1 := hW1.mono (ile_tr hI38 hJ38)
      have hI1 := ile_tr hI1 (ile_tr hI38 hJ38)
      have hIT := ile_tr hIT (ile_tr hI38 hJ38)
      rw [List.nil_append] at hS38
      refine hG.callV dX26_word_41 kv_X26_67 ((hW1.r _).rcv) (sp_J9_startsWith hΓ hX (hW1.r _) (hS38.r _) (by simp <;> omega)) rfl rfl (Nat.le_of_ble_eq_true rfl) (by decide) (by omega) (by omega) (fun r41 I41 L41 hI41 h41 => ?_) (fun _ _ _ _ _ h => h.elim)
      obtain ⟨rfl, rfl, rfl⟩ := h41
      rw [show ((0 : Nat) == 0 && pfx (told ++ [32]) W) = pfx (told ++ [32]) W from rfl]
      refine hG.if_ne (tgt := 78) dX26_word_44 rfl (fun c_44 => ?_) (fun c_44 => ?_)
      · refine hG.aload_n dX26_word_78 rfl ?_
        refine hG.aret dX26_word_79 rfl (by first | exact Or.inl ⟨_, rfl⟩ | exact Or.inr ⟨_, rfl⟩) (by first | exact Or.inr ⟨_, rfl⟩ | exact Or.inl rfl) ?_ (by omega) (by omega) trivial
        have hin9 : told ∈ ws := hA.mp (cnd_iff.mp (by rw [Bool.or_eq_true]; first | exact Or.inl (b2i_1 c_44) | exact Or.inr (b2i_1 c_75)))
        rcases hTd with ⟨e9, -⟩ | ⟨-, hN⟩
        · exact absurd hin9 (by rw [e9]; exact hok.2.2.1)
        · exact ⟨qT, told, _, hwd.trans (wg_s hin9), rfl, hN.mono hIT⟩
      · refine hG.aload_n dX26_word_47 rfl ?_
        refine hG.new dX26_word_48 nw_X26_24 (by omega) (by omega) (fun b48 hLb48 hIb48 => ?_)
        refine hG.dup dX26_word_51 rfl ?_
        refine hG.callI dX26_word_52 ki_X26_56 (sp_J8_init (b := 8) hΓ hX (by decide) up1_s) rfl rfl (Nat.le_of_ble_eq_true rfl) (by decide) (by omega) (by omega) (fun r52 I52 L52 hI52 h52 => ?_) (fun _ _ _ _ _ h => h.elim)
        obtain ⟨rfl, rfl, rfl⟩ := h52
        rw [up1_up1]
        refine hG.ldcT dX26_word_55 (hT.tx 5 rfl) (fun s55 hs55 => ?_)
        refine hG.callV dX26_word_57 kv_X26_57 (Rcv.sb up1_s) (sp_J8_append0 (k := 0) hΓ hX up1_s (hs55.r _) (by simp <;> omega)) rfl rfl (Nat.le_of_ble_eq_true rfl) (by decide) (by omega) (by omega) (fun r57 I57 L57 hI57 h57 => ?_) (fun _ _ _ _ _ h => h.elim)
        obtain ⟨rfl, rfl, rfl⟩ := h57
        rw [up1_up1]
        refine hG.aload_n dX26_word_60 rfl ?_
        refine hG.callV dX26_word_61 kv_X26_57 (Rcv.sb up1_s) (sp_J8_append0 (k := 0) hΓ hX up1_s (hTr.nw hLb48 _) (by simp <;> omega)) rfl rfl (Nat.le_of_ble_eq_true rfl) (by decide) (by omega) (by omega) (fun r61 I61 L61 hI61 h61 => ?_) (fun _ _ _ _ _ h => h.elim)
        obtain ⟨rfl, rfl, rfl⟩ := h61
        rw [up1_up1]
        refine hG.ldcT dX26_word_64 (hT.tx 5 rfl) (fun s64 hs64 => ?_)
        refine hG.callV dX26_word_66 kv_X26_57 (Rcv.sb up1_s) (sp_J8_append0 (k := 0) hΓ hX up1_s (hs64.r _) (by simp <;> omega)) rfl rfl (Nat.le_of_ble_eq_true rfl) (by decide) (by omega) (by omega) (fun r66 I66 L66 hI66 h66 => ?_) (fun _ _ _ _ _ h => h.elim)
        obtain ⟨rfl, rfl, rfl⟩ := h66
        rw [up1_up1]
        refine hG.callV dX26_word_69 kv_X26_63 (Rcv.sb up1_s) (sp_J8_toString0 hΓ hX up1_s (by simp <;> omega)) rfl rfl (Nat.le_of_ble_eq_true rfl) (by decide) (by omega) (by omega) (fun r69 I69 L69 hI69 h69 => ?_) (fun _ _ _ _ _ h => h.elim)
        obtain ⟨q69, rfl, hN69⟩ := h69
        refine hG.sEnd hN69 hLb48 (fun J69 hJ69 hS69 => ?_)
        have hTr := hTr.mono (ile_tr hI69 hJ69)
        have hW1 := hW1.mono (ile_tr hI69 hJ69)
        have hI1 := ile_tr hI1 (ile_tr hI69 hJ69)
        have hIT := ile_tr hIT (ile_tr hI69 hJ69)
        rw [show ([] ++ [32] ++ told ++ [32] : List Nat) = 32 :: (told ++ [32]) by simp] at hS69
        refine hG.callV dX26_word_72 kv_X26_73 ((hW1.r _).rcv) (sp_J9_contains hΓ hX (hW1.r _) (hS69.r _) (by simp <;> omega) (by simp)) rfl rfl (Nat.le_of_ble_eq_true rfl) (by decide) (by omega) (by omega) (fun r72 I72 L72 hI72 h72 => ?_) (fun _ _ _ _ _ h => h.elim)
        obtain ⟨rfl, rfl, rfl⟩ := h72
        rw [show ((0 : Nat) == 0 && inf (32 :: (told ++ [32])) W) = inf (32 :: (told ++ [32])) W from rfl]
        refine hG.if_eq (tgt := 80) dX26_word_75 rfl (fun c_75 => ?_) (fun c_75 => ?_)
        · have hni : ¬ told ∈ ws := fun e => by
            have q9 := cnd_iff.mpr (hA.mpr e)
            rw [Bool.or_eq_true] at q9
            rcases q9 with q9 | q9
            · exact bFT (b2i_0 c_44) q9
            · exact bFT (b2i_0 c_75) q9
          have k207 : ∀ I4 : AI, wdF ws t p = .inl (p + told.length) → G 207 [(0, .ref pa)] [] I4 L17 (29 * (8 - (j + 1)) + 29) (1352 * (8 - (j + 1)) + 1352) := by
            intro I4 hfl
            refine hG.new dX26_word_207 nw_X26_37 (by omega) (by omega) (fun qn hLqn hIqn => ?_)
            refine hG.dup dX26_word_210 rfl ?_
            refine hG.aload_n dX26_word_211 rfl ?_
            refine hG.get dX26_word_212 fg_X26_13_X26 (Or.inl ((up1_n (ne_none hp2 hLqn)).trans hp2)) rfl ?_
            refine hG.callI dX26_word_215 ki_X26_39 (sp_X27_init hΓ up1_s) rfl rfl (Nat.le_of_ble_eq_true rfl) (by decide) (by omega) (by omega) (fun r215 I215 L215 hI215 h215 => ?_) (fun _ _ _ _ _ h => h.elim)
            obtain ⟨rfl, rfl, rfl⟩ := h215
            rw [up1_up1]
            refine hG.fr up1_s ?_
            rw [up1_up1, show up1 L17 qn none = L17 by rw [← hLqn, up1_self]]
            refine hG.athrow dX26_word_218 (Rcv.imm frI_s cl_X27) ?_
            exact hG.subX hL2 (hG.out (by simp) ⟨rfl, (p + told.length), hfl, frI_s, rfl⟩ (by omega) (by omega) trivial)
          have k219 : ∀ (I4 : AI) (c : Nat), ile I I4 → StrI I4 wr 0 W → t[(p + told.length)]? = some c → c ∈ nxW ws told → G 219 [(0, .ref pa), (1, .ref wr), (2, .int (nI p))] [] I4 L17 (29 * (8 - j)) (1352 * (8 - j)) := by
            intro I4 c hI4 hW4 hc hcn
            refine hG.aload_n dX26_word_219 rfl ?_
            refine hG.dup dX26_word_220 rfl ?_
            refine hG.get dX26_word_221 fg_X26_13_X26 (Or.inl hp2) rfl ?_
            refine hG.iconst (v := 1) dX26_word_224 rfl ?_
            refine hG.iadd dX26_word_225 ?_
            rw [nI_1]
            refine hG.put dX26_word_226 fp_X26_13_X26 hp2 rfl rfl (Nat.le_of_ble_eq_true rfl) ?_
            refine hG.goto (tgt := 5) dX26_word_229 rfl ?_
            refine hG.sub (S := up1 L pa (some (ppC (p + (told ++ [c]).length) x))) (fun z y hz => ?_) (hG.lsb [(0, .ref pa), (1, .ref wr), (2, .int (nI p))] ⟨rfl, rfl, rfl, trivial⟩ (ih (told ++ [c]) I4 _ (by rw [List.length_append, List.length_singleton]; omega) hI4 rfl ?_ (fun u hu => ?_) ((hC c hcn).2.2) (hwd.trans (by rw [wg_g hni hc hcn, List.length_append, List.length_singleton]; rfl)) hW4))
            · rw [List.length_append, List.length_singleton] at hz
              by_cases e : z = pa
              · subst e
                rw [up1_s] at hz ⊢
                exact hz
              · rw [up1_n e] at hz ⊢
                exact hL2 z y ((up1_n e).trans hz)
            · rw [List.length_append, List.length_singleton]
              exact h.to (by have := (List.getElem?_eq_some_iff.mp hc).1; omega)
            · rw [List.length_append, List.length_singleton] at hu
              by_cases e : u < told.length
              · rw [List.getElem?_append_left e]
                exact htd u e
              · rw [show u = told.length by omega, List.getElem?_append_right (Nat.le_refl _), Nat.sub_self]
                exact hc
          have kF : wdF ws t p = .inl (p + told.length) → G 121 [(0, .ref pa), (1, .ref wr), (2, .int (nI p)), (3, .ref qT)] [.int 0] J69 L17 (29 * (8 - (j + 1)) + 15) (1352 * (8 - (j + 1)) + 632) := by
            intro hfl
            refine hG.istore dX26_word_121 (by decide) ?_
            refine hG.iload dX26_word_123 rfl ?_
            refine hG.if_eq (tgt := 162) dX26_word_125 rfl (fun c_125 => ?_) (fun c_125 => absurd rfl c_125)
            refine hG.ldcT dX26_word_162 (hT.tx 5 rfl) (fun s162 hs162 => ?_)
            refine hG.astore dX26_word_164 (by decide) ?_
            refine hG.aload_n dX26_word_166 rfl ?_
            refine hG.aload dX26_word_167 rfl ?_
            refine hG.callV dX26_word_169 kv_X26_67 ((hW1.r _).rcv) (sp_J9_startsWith hΓ hX (hW1.r _) (hs162.r _) (by simp <;> omega)) rfl rfl (Nat.le_of_ble_eq_true rfl) (by decide) (by omega) (by omega) (fun r169 I169 L169 hI169 h169 => ?_) (fun _ _ _ _ _ h => h.elim)
            obtain ⟨rfl, rfl, rfl⟩ := h169
            refine hG.if_ne (tgt := 202) dX26_word_172 rfl (fun c_172 => ?_) (fun c_172 => ?_)
            · refine hG.iload dX26_word_202 rfl ?_
              refine hG.if_ne (tgt := 219) dX26_word_204 rfl (fun c_204 => absurd rfl c_204) (fun c_204 => ?_)
              exact hG.lsb [(0, .ref pa)] ⟨rfl, trivial⟩ (hG.wid (by omega) (by omega) (k207 _ hfl))
            · refine hG.aload_n dX26_word_175 rfl ?_
              refine hG.new dX26_word_176 nw_X26_24 (by omega) (by omega) (fun b176 hLb176 hIb176 => ?_)
              refine hG.dup dX26_word_179 rfl ?_
              refine hG.callI dX26_word_180 ki_X26_56 (sp_J8_init (b := 8) hΓ hX (by decide) up1_s) rfl rfl (Nat.le_of_ble_eq_true rfl) (by decide) (by omega) (by omega) (fun r180 I180 L180 hI180 h180 => ?_) (fun _ _ _ _ _ h => h.elim)
              obtain ⟨rfl, rfl, rfl⟩ := h180
              rw [up1_up1]
              refine hG.ldcT dX26_word_183 (hT.tx 5 rfl) (fun s183 hs183 => ?_)
              refine hG.callV dX26_word_185 kv_X26_57 (Rcv.sb up1_s) (sp_J8_append0 (k := 0) hΓ hX up1_s (hs183.r _) (by simp <;> omega)) rfl rfl (Nat.le_of_ble_eq_true rfl) (by decide) (by omega) (by omega) (fun r185 I185 L185 hI185 h185 => ?_) (fun _ _ _ _ _ h => h.elim)
              obtain ⟨rfl, rfl, rfl⟩ := h185
              rw [up1_up1]
              refine hG.aload dX26_word_188 rfl ?_
              refine hG.callV dX26_word_190 kv_X26_57 (Rcv.sb up1_s) (sp_J8_append0 (k := 0) hΓ hX up1_s (hs162.r _) (by simp <;> omega)) rfl rfl (Nat.le_of_ble_eq_true rfl) (by decide) (by omega) (by omega) (fun r190 I190 L190 hI190 h190 => ?_) (fun _ _ _ _ _ h => h.elim)
              obtain ⟨rfl, rfl, rfl⟩ := h190
              rw [up1_up1]
              refine hG.callV dX26_word_193 kv_X26_63 (Rcv.sb up1_s) (sp_J8_toString0 hΓ hX up1_s (by simp <;> omega)) rfl rfl (Nat.le_of_ble_eq_true rfl) (by decide) (by omega) (by omega) (fun r193 I193 L193 hI193 h193 => ?_) (fun _ _ _ _ _ h => h.elim)
              obtain ⟨q193, rfl, hN193⟩ := h193
              refine hG.sEnd hN193 hLb176 (fun J193 hJ193 hS193 => ?_)
              have hTr := hTr.mono (ile_tr hI193 hJ193)
              have hW1 := hW1.mono (ile_tr hI193 hJ193)
              have hI1 := ile_tr hI1 (ile_tr hI193 hJ193)
              refine hG.callV dX26_word_196 kv_X26_73 ((hW1.r _).rcv) (sp_J9_contains hΓ hX (hW1.r _) (hS193.r _) (by simp <;> omega) (by simp)) rfl rfl (Nat.le_of_ble_eq_true rfl) (by decide) (by omega) (by omega) (fun r196 I196 L196 hI196 h196 => ?_) (fun _ _ _ _ _ h => h.elim)
              obtain ⟨rfl, rfl, rfl⟩ := h196
              refine hG.if_eq (tgt := 207) dX26_word_199 rfl (fun c_199 => ?_) (fun c_199 => ?_)
              · exact hG.lsb [(0, .ref pa)] ⟨rfl, trivial⟩ (hG.wid (by omega) (by omega) (k207 _ hfl))
              · refine hG.iload dX26_word_202 rfl ?_
                refine hG.if_ne (tgt := 219) dX26_word_204 rfl (fun c_204 => absurd rfl c_204) (fun c_204 => ?_)
                exact hG.lsb [(0, .ref pa)] ⟨rfl, trivial⟩ (hG.wid (by omega) (by omega) (k207 _ hfl))
          have kT0 : ∀ c : Nat, t[(p + told.length)]? = some c → c ≠ 32 → c < 256 → G 121 [(0, .ref pa), (1, .ref wr), (2, .int (nI p)), (3, .ref qT)] [.int 1] J69 L17 (29 * (8 - (j + 1)) + 15) (1352 * (8 - (j + 1)) + 632) := by
            intro c hc h32 h8
            have hcc := htc c (List.mem_of_getElem? hc)
            refine hG.istore dX26_word_121 (by decide) ?_
            refine hG.iload dX26_word_123 rfl ?_
            refine hG.if_eq (tgt := 162) dX26_word_125 rfl (fun c_125 => absurd c_125 (by decide)) (fun c_125 => ?_)
            refine hG.new dX26_word_128 nw_X26_24 (by omega) (by omega) (fun b128 hLb128 hIb128 => ?_)
            refine hG.dup dX26_word_131 rfl ?_
            refine hG.callI dX26_word_132 ki_X26_56 (sp_J8_init (b := 8) hΓ hX (by decide) up1_s) rfl rfl (Nat.le_of_ble_eq_true rfl) (by decide) (by omega) (by omega) (fun r132 I132 L132 hI132 h132 => ?_) (fun _ _ _ _ _ h => h.elim)
            obtain ⟨rfl, rfl, rfl⟩ := h132
            rw [up1_up1]
            refine hG.aload_n dX26_word_135 rfl ?_
            refine hG.callV dX26_word_136 kv_X26_57 (Rcv.sb up1_s) (sp_J8_append0 (k := 0) hΓ hX up1_s (hTr.nw hLb128 _) (by simp <;> omega)) rfl rfl (Nat.le_of_ble_eq_true rfl) (by decide) (by omega) (by omega) (fun r136 I136 L136 hI136 h136 => ?_) (fun _ _ _ _ _ h => h.elim)
            obtain ⟨rfl, rfl, rfl⟩ := h136
            rw [up1_up1]
            refine hG.aload_n dX26_word_139 rfl ?_
            refine hG.get dX26_word_140 fg_X26_1_X26 (Or.inl ((up1_n (ne_none hp2 hLb128)).trans hp2)) rfl ?_
            refine hG.get dX26_word_143 fg_X26_17_X1 (Or.inl ((up1_n (ne_none hx2 hLb128)).trans hx2)) rfl ?_
            refine hG.aload_n dX26_word_146 rfl ?_
            refine hG.get dX26_word_147 fg_X26_13_X26 (Or.inl ((up1_n (ne_none hp2 hLb128)).trans hp2)) rfl ?_
            refine hG.callV dX26_word_150 kv_X26_29 (Rcv.sb ((up1_n (ne_none hin2 hLb128)).trans hin2)) (sp_J8_charAt hΓ hX ((up1_n (ne_none hin2 hLb128)).trans hin2) hk hc) rfl rfl (Nat.le_of_ble_eq_true rfl) (by decide) (by omega) (by omega) (fun r150 I150 L150 hI150 h150 => ?_) (fun _ _ _ _ _ h => h.elim)
            obtain ⟨rfl, rfl, rfl⟩ := h150
            refine hG.callV dX26_word_153 kv_X26_77 (Rcv.sb up1_s) (sp_J8_append_40 hΓ hX up1_s (c := c) h8 (by simp <;> omega)) rfl rfl (Nat.le_of_ble_eq_true rfl) (by decide) (by omega) (by omega) (fun r153 I153 L153 hI153 h153 => ?_) (fun _ _ _ _ _ h => h.elim)
            obtain ⟨rfl, rfl, rfl⟩ := h153
            rw [up1_up1]
            refine hG.callV dX26_word_156 kv_X26_63 (Rcv.sb up1_s) (sp_J8_toString0 hΓ hX up1_s (by simp <;> omega)) rfl rfl (Nat.le_of_ble_eq_true rfl) (by decide) (by omega) (by omega) (fun r156 I156 L156 hI156 h156 => ?_) (fun _ _ _ _ _ h => h.elim)
            obtain ⟨q156, rfl, hN156⟩ := h156
            refine hG.sEnd hN156 hLb128 (fun J156 hJ156 hS156 => ?_)
            have hTr := hTr.mono (ile_tr hI156 hJ156)
            have hW1 := hW1.mono (ile_tr hI156 hJ156)
            have hI1 := ile_tr hI1 (ile_tr hI156 hJ156)
            refine hG.goto (tgt := 164) dX26_word_159 rfl ?_
            rw [List.nil_append] at hS156
            refine hG.astore dX26_word_164 (by decide) ?_
            refine hG.aload_n dX26_word_166 rfl ?_
            refine hG.aload dX26_word_167 rfl ?_
            refine hG.callV dX26_word_169 kv_X26_67 ((hW1.r _).rcv) (sp_J9_startsWith hΓ hX (hW1.r _) (hS156.r _) (by simp <;> omega)) rfl rfl (Nat.le_of_ble_eq_true rfl) (by decide) (by omega) (by omega) (fun r169 I169 L169 hI169 h169 => ?_) (fun _ _ _ _ _ h => h.elim)
            obtain ⟨rfl, rfl, rfl⟩ := h169
            refine hG.if_ne (tgt := 202) dX26_word_172 rfl (fun c_172 => ?_) (fun c_172 => ?_)
            · refine hG.iload dX26_word_202 rfl ?_
              refine hG.if_ne (tgt := 219) dX26_word_204 rfl (fun c_204 => ?_) (fun c_204 => absurd c_204 (by decide))
              have hcn : c ∈ nxW ws told := ((hB c (cnd_iff.mp (by rw [Bool.or_eq_true]; first | exact Or.inl (Bool.and_eq_true_iff.mp (b2i_1 c_172)).2 | exact Or.inr (Bool.and_eq_true_iff.mp (b2i_1 c_199)).2))).resolve_left h32)
              exact hG.lsb [(0, .ref pa), (1, .ref wr), (2, .int (nI p))] ⟨rfl, rfl, rfl, trivial⟩ (hG.wid (by omega) (by omega) (k219 _ c hI1 hW1 hc hcn))
            · refine hG.aload_n dX26_word_175 rfl ?_
              refine hG.new dX26_word_176 nw_X26_24 (by omega) (by omega) (fun b176 hLb176 hIb176 => ?_)
              refine hG.dup dX26_word_179 rfl ?_
              refine hG.callI dX26_word_180 ki_X26_56 (sp_J8_init (b := 8) hΓ hX (by decide) up1_s) rfl rfl (Nat.le_of_ble_eq_true rfl) (by decide) (by omega) (by omega) (fun r180 I180 L180 hI180 h180 => ?_) (fun _ _ _ _ _ h => h.elim)
              obtain ⟨rfl, rfl, rfl⟩ := h180
              rw [up1_up1]
              refine hG.ldcT dX26_word_183 (hT.tx 5 rfl) (fun s183 hs183 => ?_)
              refine hG.callV dX26_word_185 kv_X26_57 (Rcv.sb up1_s) (sp_J8_append0 (k := 0) hΓ hX up1_s (hs183.r _) (by simp <;> omega)) rfl rfl (Nat.le_of_ble_eq_true rfl) (by decide) (by omega) (by omega) (fun r185 I185 L185 hI185 h185 => ?_) (fun _ _ _ _ _ h => h.elim)
              obtain ⟨rfl, rfl, rfl⟩ := h185
              rw [up1_up1]
              refine hG.aload dX26_word_188 rfl ?_
              refine hG.callV dX26_word_190 kv_X26_57 (Rcv.sb up1_s) (sp_J8_append0 (k := 0) hΓ hX up1_s (hS156.r _) (by simp <;> omega)) rfl rfl (Nat.le_of_ble_eq_true rfl) (by decide) (by omega) (by omega) (fun r190 I190 L190 hI190 h190 => ?_) (fun _ _ _ _ _ h => h.elim)
              obtain ⟨rfl, rfl, rfl⟩ := h190
              rw [up1_up1]
              refine hG.callV dX26_word_193 kv_X26_63 (Rcv.sb up1_s) (sp_J8_toString0 hΓ hX up1_s (by simp <;> omega)) rfl rfl (Nat.le_of_ble_eq_true rfl) (by decide) (by omega) (by omega) (fun r193 I193 L193 hI193 h193 => ?_) (fun _ _ _ _ _ h => h.elim)
              obtain ⟨q193, rfl, hN193⟩ := h193
              refine hG.sEnd hN193 hLb176 (fun J193 hJ193 hS193 => ?_)
              have hTr := hTr.mono (ile_tr hI193 hJ193)
              have hW1 := hW1.mono (ile_tr hI193 hJ193)
              have hI1 := ile_tr hI1 (ile_tr hI193 hJ193)
              rw [show ([] ++ [32] ++ (told ++ [c]) : List Nat) = 32 :: (told ++ [c]) by simp] at hS193
              refine hG.callV dX26_word_196 kv_X26_73 ((hW1.r _).rcv) (sp_J9_contains hΓ hX (hW1.r _) (hS193.r _) (by simp <;> omega) (by simp)) rfl rfl (Nat.le_of_ble_eq_true rfl) (by decide) (by omega) (by omega) (fun r196 I196 L196 hI196 h196 => ?_) (fun _ _ _ _ _ h => h.elim)
              obtain ⟨rfl, rfl, rfl⟩ := h196
              refine hG.if_eq (tgt := 207) dX26_word_199 rfl (fun c_199 => ?_) (fun c_199 => ?_)
              · exact hG.lsb [(0, .ref pa)] ⟨rfl, trivial⟩ (hG.wid (by omega) (by omega) (k207 _ (hwd.trans (wg_n hni hc (fun hcn => by have q9 := cnd_iff.mpr (hC c hcn).1; rw [Bool.or_eq_true] at q9; rcases q9 with q9 | q9; have z9 := b2i_0 c_172; rw [q9] at z9; cases z9; have z9 := b2i_0 c_199; rw [q9] at z9; cases z9)))))
              · refine hG.iload dX26_word_202 rfl ?_
                refine hG.if_ne (tgt := 219) dX26_word_204 rfl (fun c_204 => ?_) (fun c_204 => absurd c_204 (by decide))
                have hcn : c ∈ nxW ws told := ((hB c (cnd_iff.mp (by rw [Bool.or_eq_true]; first | exact Or.inl (Bool.and_eq_true_iff.mp (b2i_1 c_172)).2 | exact Or.inr (Bool.and_eq_true_iff.mp (b2i_1 c_199)).2))).resolve_left h32)
                exact hG.lsb [(0, .ref pa), (1, .ref wr), (2, .int (nI p))] ⟨rfl, rfl, rfl, trivial⟩ (hG.wid (by omega) (by omega) (k219 _ c hI1 hW1 hc hcn))
          have kT1 : ∀ c : Nat, t[(p + told.length)]? = some c → c ≠ 32 → 256 ≤ c → G 121 [(0, .ref pa), (1, .ref wr), (2, .int (nI p)), (3, .ref qT)] [.int 1] J69 L17 (29 * (8 - (j + 1)) + 15) (1352 * (8 - (j + 1)) + 632) := by
            intro c hc h32 h8
            have hcc := htc c (List.mem_of_getElem? hc)
            refine hG.istore dX26_word_121 (by decide) ?_
            refine hG.iload dX26_word_123 rfl ?_
            refine hG.if_eq (tgt := 162) dX26_word_125 rfl (fun c_125 => absurd c_125 (by decide)) (fun c_125 => ?_)
            refine hG.new dX26_word_128 nw_X26_24 (by omega) (by omega) (fun b128 hLb128 hIb128 => ?_)
            refine hG.dup dX26_word_131 rfl ?_
            refine hG.callI dX26_word_132 ki_X26_56 (sp_J8_init (b := 8) hΓ hX (by decide) up1_s) rfl rfl (Nat.le_of_ble_eq_true rfl) (by decide) (by omega) (by omega) (fun r132 I132 L132 hI132 h132 => ?_) (fun _ _ _ _ _ h => h.elim)
            obtain ⟨rfl, rfl, rfl⟩ := h132
            rw [up1_up1]
            refine hG.aload_n dX26_word_135 rfl ?_
            refine hG.callV dX26_word_136 kv_X26_57 (Rcv.sb up1_s) (sp_J8_append0 (k := 0) hΓ hX up1_s (hTr.nw hLb128 _) (by simp <;> omega)) rfl rfl (Nat.le_of_ble_eq_true rfl) (by decide) (by omega) (by omega) (fun r136 I136 L136 hI136 h136 => ?_) (fun _ _ _ _ _ h => h.elim)
            obtain ⟨rfl, rfl, rfl⟩ := h136
            rw [up1_up1]
            refine hG.aload_n dX26_word_139 rfl ?_
            refine hG.get dX26_word_140 fg_X26_1_X26 (Or.inl ((up1_n (ne_none hp2 hLb128)).trans hp2)) rfl ?_
            refine hG.get dX26_word_143 fg_X26_17_X1 (Or.inl ((up1_n (ne_none hx2 hLb128)).trans hx2)) rfl ?_
            refine hG.aload_n dX26_word_146 rfl ?_
            refine hG.get dX26_word_147 fg_X26_13_X26 (Or.inl ((up1_n (ne_none hp2 hLb128)).trans hp2)) rfl ?_
            refine hG.callV dX26_word_150 kv_X26_29 (Rcv.sb ((up1_n (ne_none hin2 hLb128)).trans hin2)) (sp_J8_charAt hΓ hX ((up1_n (ne_none hin2 hLb128)).trans hin2) hk hc) rfl rfl (Nat.le_of_ble_eq_true rfl) (by decide) (by omega) (by omega) (fun r150 I150 L150 hI150 h150 => ?_) (fun _ _ _ _ _ h => h.elim)
            obtain ⟨rfl, rfl, rfl⟩ := h150
            refine hG.callV dX26_word_153 kv_X26_77 (Rcv.sb up1_s) (sp_J8_append_42 hΓ hX up1_s (c := c) h8 hcc (by simp <;> omega)) rfl rfl (Nat.le_of_ble_eq_true rfl) (by decide) (by omega) (by omega) (fun r153 I153 L153 hI153 h153 => ?_) (fun _ _ _ _ _ h => h.elim)
            obtain ⟨rfl, rfl, rfl⟩ := h153
            rw [up1_up1]
            refine hG.callV dX26_word_156 kv_X26_63 (Rcv.sb up1_s) (sp_J8_toString1 (ml := 0) hΓ hX up1_s (by simp <;> omega)) rfl rfl (Nat.le_of_ble_eq_true rfl) (by decide) (by omega) (by omega) (fun r156 I156 L156 hI156 h156 => ?_) (fun _ _ _ _ _ h => h.elim)
            obtain ⟨q156, rfl, hN156⟩ := h156
            refine hG.sEnd hN156 hLb128 (fun J156 hJ156 hS156 => ?_)
            have hTr := hTr.mono (ile_tr hI156 hJ156)
            have hW1 := hW1.mono (ile_tr hI156 hJ156)
            have hI1 := ile_tr hI1 (ile_tr hI156 hJ156)
            refine hG.goto (tgt := 164) dX26_word_159 rfl ?_
            rw [List.nil_append] at hS156
            refine hG.astore dX26_word_164 (by decide) ?_
            refine hG.aload_n dX26_word_166 rfl ?_
            refine hG.aload dX26_word_167 rfl ?_
            refine hG.callV dX26_word_169 kv_X26_67 ((hW1.r _).rcv) (sp_J9_startsWith hΓ hX (hW1.r _) (hS156.r _) (by simp <;> omega)) rfl rfl (Nat.le_of_ble_eq_true rfl) (by decide) (by omega) (by omega) (fun r169 I169 L169 hI169 h169 => ?_) (fun _ _ _ _ _ h => h.elim)
            obtain ⟨rfl, rfl, rfl⟩ := h169
            refine hG.if_ne (tgt := 202) dX26_word_172 rfl (fun c_172 => ?_) (fun c_172 => ?_)
            · refine hG.iload dX26_word_202 rfl ?_
              refine hG.if_ne (tgt := 219) dX26_word_204 rfl (fun c_204 => ?_) (fun c_204 => absurd c_204 (by decide))
              have hcn : c ∈ nxW ws told := by
                first
                | exact absurd (Bool.and_eq_true_iff.mp (b2i_1 c_172)).1 (by decide)
                | exact absurd (Bool.and_eq_true_iff.mp (b2i_1 c_199)).1 (by decide)
              exact hG.lsb [(0, .ref pa), (1, .ref wr), (2, .int (nI p))] ⟨rfl, rfl, rfl, trivial⟩ (hG.wid (by omega) (by omega) (k219 _ c hI1 hW1 hc hcn))
            · refine hG.aload_n dX26_word_175 rfl ?_
              refine hG.new dX26_word_176 nw_X26_24 (by omega) (by omega) (fun b176 hLb176 hIb176 => ?_)
              refine hG.dup dX26_word_179 rfl ?_
              refine hG.callI dX26_word_180 ki_X26_56 (sp_J8_init (b := 8) hΓ hX (by decide) up1_s) rfl rfl (Nat.le_of_ble_eq_true rfl) (by decide) (by omega) (by omega) (fun r180 I180 L180 hI180 h180 => ?_) (fun _ _ _ _ _ h => h.elim)
              obtain ⟨rfl, rfl, rfl⟩ := h180
              rw [up1_up1]
              refine hG.ldcT dX26_word_183 (hT.tx 5 rfl) (fun s183 hs183 => ?_)
              refine hG.callV dX26_word_185 kv_X26_57 (Rcv.sb up1_s) (sp_J8_append0 (k := 0) hΓ hX up1_s (hs183.r _) (by simp <;> omega)) rfl rfl (Nat.le_of_ble_eq_true rfl) (by decide) (by omega) (by omega) (fun r185 I185 L185 hI185 h185 => ?_) (fun _ _ _ _ _ h => h.elim)
              obtain ⟨rfl, rfl, rfl⟩ := h185
              rw [up1_up1]
              refine hG.aload dX26_word_188 rfl ?_
              refine hG.callV dX26_word_190 kv_X26_57 (Rcv.sb up1_s) (sp_J8_append1 hΓ hX up1_s (hS156.r _) (by simp <;> omega)) rfl rfl (Nat.le_of_ble_eq_true rfl) (by decide) (by omega) (by omega) (fun r190 I190 L190 hI190 h190 => ?_) (fun _ _ _ _ _ h => h.elim)
              obtain ⟨rfl, rfl, rfl⟩ := h190
              rw [up1_up1]
              refine hG.callV dX26_word_193 kv_X26_63 (Rcv.sb up1_s) (sp_J8_toString1 (ml := 0) hΓ hX up1_s (by simp <;> omega)) rfl rfl (Nat.le_of_ble_eq_true rfl) (by decide) (by omega) (by omega) (fun r193 I193 L193 hI193 h193 => ?_) (fun _ _ _ _ _ h => h.elim)
              obtain ⟨q193, rfl, hN193⟩ := h193
              refine hG.sEnd hN193 hLb176 (fun J193 hJ193 hS193 => ?_)
              have hTr := hTr.mono (ile_tr hI193 hJ193)
              have hW1 := hW1.mono (ile_tr hI193 hJ193)
              have hI1 := ile_tr hI1 (ile_tr hI193 hJ193)
              rw [show ([] ++ [32] ++ (told ++ [c]) : List Nat) = 32 :: (told ++ [c]) by simp] at hS193
              refine hG.callV dX26_word_196 kv_X26_73 ((hW1.r _).rcv) (sp_J9_contains hΓ hX (hW1.r _) (hS193.r _) (by simp <;> omega) (by simp)) rfl rfl (Nat.le_of_ble_eq_true rfl) (by decide) (by omega) (by omega) (fun r196 I196 L196 hI196 h196 => ?_) (fun _ _ _ _ _ h => h.elim)
              obtain ⟨rfl, rfl, rfl⟩ := h196
              refine hG.if_eq (tgt := 207) dX26_word_199 rfl (fun c_199 => ?_) (fun c_199 => ?_)
              · exact hG.lsb [(0, .ref pa)] ⟨rfl, trivial⟩ (hG.wid (by omega) (by omega) (k207 _ (hwd.trans (wg_n hni hc (fun hcn => by have q9 := (hok.1 _ (hC c hcn).2.2).2.2.2.2 c (by simp); omega)))))
              · refine hG.iload dX26_word_202 rfl ?_
                refine hG.if_ne (tgt := 219) dX26_word_204 rfl (fun c_204 => ?_) (fun c_204 => absurd c_204 (by decide))
                have hcn : c ∈ nxW ws told := by
                  first
                  | exact absurd (Bool.and_eq_true_iff.mp (b2i_1 c_172)).1 (by decide)
                  | exact absurd (Bool.and_eq_true_iff.mp (b2i_1 c_199)).1 (by decide)
                exact hG.lsb [(0, .ref pa), (1, .ref wr), (2, .int (nI p))] ⟨rfl, rfl, rfl, trivial⟩ (hG.wid (by omega) (by omega) (k219 _ c hI1 hW1 hc hcn))
          refine hG.aload_n dX26_word_80 rfl ?_
          refine hG.get dX26_word_81 fg_X26_13_X26 (Or.inl hp2) rfl ?_
          refine hG.aload_n dX26_word_84 rfl ?_
          refine hG.get dX26_word_85 fg_X26_1_X26 (Or.inl hp2) rfl ?_
          refine hG.get dX26_word_88 fg_X26_17_X1 (Or.inl hx2) rfl ?_
          refine hG.callV dX26_word_91 kv_X26_23 (Rcv.sb hin2) (sp_J8_length hΓ hin2) rfl rfl (Nat.le_of_ble_eq_true rfl) (by decide) (by omega) (by omega) (fun r91 I91 L91 hI91 h91 => ?_) (fun _ _ _ _ _ h => h.elim)
          obtain ⟨rfl, rfl, rfl⟩ := h91
          refine hG.icmp_ge (tgt := 120) dX26_word_94 rfl (fun c_94 => ?_) (fun c_94 => ?_)
          · refine hG.iconst (v := 0) dX26_word_120 rfl ?_
            refine hG.lsb [(0, .ref pa), (1, .ref wr), (2, .int (nI p)), (3, .ref qT)] ⟨rfl, rfl, rfl, rfl, trivial⟩ (hG.wid (k' := 29 * (8 - (j + 1)) + 15) (n' := 1352 * (8 - (j + 1)) + 632) (by omega) (by omega) ?_)
            first
            | exact kF (hwd.trans (wg_e hni ((nI_leI (by omega) (by omega)).mp c_94)))
            | exact kF (hwd.trans (wg_n hni hc (fun hcn => (hC c hcn).2.1 ((nI_eq (b := 32) (by omega) (by decide)).mp c_113))))
            | (by_cases h8 : c < 256
               · exact kT0 c hc (fun e => c_113 (by rw [e]; rfl)) h8
               · exact kT1 c hc (fun e => c_113 (by rw [e]; rfl)) (by omega))
          · obtain ⟨c, hc, hcm⟩ := get_lt (show (p + told.length) < t.length by have := mt (nI_leI (a := t.length) (b := (p + told.length)) (by omega) (by omega)).mpr c_94; omega)
            have hcc := htc c hcm
            refine hG.aload_n dX26_word_97 rfl ?_
            refine hG.get dX26_word_98 fg_X26_1_X26 (Or.inl hp2) rfl ?_
            refine hG.get dX26_word_101 fg_X26_17_X1 (Or.inl hx2) rfl ?_
            refine hG.aload_n dX26_word_104 rfl ?_
            refine hG.get dX26_word_105 fg_X26_13_X26 (Or.inl hp2) rfl ?_
            refine hG.callV dX26_word_108 kv_X26_29 (Rcv.sb hin2) (sp_J8_charAt hΓ hX hin2 hk hc) rfl rfl (Nat.le_of_ble_eq_true rfl) (by decide) (by omega) (by omega) (fun r108 I108 L108 hI108 h108 => ?_) (fun _ _ _ _ _ h => h.elim)
            obtain ⟨rfl, rfl, rfl⟩ := h108
            refine hG.bipush (v := 32) dX26_word_111 rfl ?_
            refine hG.icmp_eq (tgt := 120) dX26_word_113 rfl (fun c_113 => ?_) (fun c_113 => ?_)
            · refine hG.iconst (v := 0) dX26_word_120 rfl ?_
              refine hG.lsb [(0, .ref pa), (1, .ref wr), (2, .int (nI p)), (3, .ref qT)] ⟨rfl, rfl, rfl, rfl, trivial⟩ (hG.wid (k' := 29 * (8 - (j + 1)) + 15) (n' := 1352 * (8 - (j + 1)) + 632) (by omega) (by omega) ?_)
              first
              | exact kF (hwd.trans (wg_e hni ((nI_leI (by omega) (by omega)).mp c_94)))
              | exact kF (hwd.trans (wg_n hni hc (fun hcn => (hC c hcn).2.1 ((nI_eq (b := 32) (by omega) (by decide)).mp c_113))))
              | (by_cases h8 : c < 256
                 · exact kT0 c hc (fun e => c_113 (by rw [e]; rfl)) h8
                 · exact kT1 c hc (fun e => c_113 (by rw [e]; rfl)) (by omega))
            · refine hG.iconst (v := 1) dX26_word_116 rfl ?_
              refine hG.goto (tgt := 121) dX26_word_117 rfl ?_
              refine hG.lsb [(0, .ref pa), (1, .ref wr), (2, .int (nI p)), (3, .ref qT)] ⟨rfl, rfl, rfl, rfl, trivial⟩ (hG.wid (k' := 29 * (8 - (j + 1)) + 15) (n' := 1352 * (8 - (j + 1)) + 632) (by omega) (by omega) ?_)
              first
              | exact kF (hwd.trans (wg_e hni ((nI_leI (by omega) (by omega)).mp c_94)))
              | exact kF (hwd.trans (wg_n hni hc (fun hcn => (hC c hcn).2.1 ((nI_eq (b := 32) (by omega) (by decide)).mp c_113))))
              | (by_cases h8 : c < 256
                 · exact kT0 c hc (fun e => c_113 (by rw [e]; rfl)) h8
                 · exact kT1 c hc (fun e => c_113 (by rw [e]; rfl)) (by omega))
        · refine hG.aload_n dX26_word_78 rfl ?_
          refine hG.aret dX26_word_79 rfl (by first | exact Or.inl ⟨_, rfl⟩ | exact Or.inr ⟨_, rfl⟩) (by first | exact Or.inr ⟨_, rfl⟩ | exact Or.inl rfl) ?_ (by omega) (by omega) trivial
          have hin9 : told ∈ ws := hA.mp (cnd_iff.mp (by rw [Bool.or_eq_true]; first | exact Or.inl (b2i_1 c_44) | exact Or.inr (b2i_1 c_75)))
          rcases hTd with ⟨e9, -⟩ | ⟨-, hN⟩
          · exact absurd hin9 (by rw [e9]; exact hok.2.2.1)
          · exact ⟨qT, told, _, hwd.trans (wg_s hin9), rfl, hN.mono hIT⟩
  refine hG.aload_n dX26_word_0 rfl ?_
  refine hG.get dX26_word_1 fg_X26_13_X26 (Or.inl hp) rfl ?_
  refine hG.istore_n dX26_word_4 (by decide) ?_
  exact hG.lsb [(0, .ref pa), (1, .ref wr), (2, .int (nI p))] ⟨rfl, rfl, rfl, trivial⟩ (loop 8 [] I L rfl ile_rf h.self.symm h (fun u hu => absurd hu (Nat.not_lt_zero u)) hok.2.1 rfl hW)
