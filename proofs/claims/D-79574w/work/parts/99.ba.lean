/-! the ferry's cells -/
abbrev feC (r pq ip ln : Nat) (fa re de : Int32) (sv : Option Nat) : Cel := obC ciX1 [.ref r, .ref pq, .ref ip, .ref ln, .int fa, .int re, .int de, va_rf sv]
def RvL (dE : Nat) (L : AL) : List Nat → List Rv → Prop
  | [], [] => True
  | x :: xs, R :: Rs => L x = some (rvC dE R) ∧ RvL dE L xs Rs
  | _, _ => False
theorem RvL.len {dE : Nat} {L : AL} : ∀ {xs : List Nat} {Rs : List Rv}, RvL dE L xs Rs → xs.length = Rs.length
  | [], [], _ => rfl
  | x :: xs, c :: cs, h => by simp [RvL.len h.2]
  | [], _ :: _, h => h.elim
  | _ :: _, [], h => h.elim
theorem RvL.mono {dE : Nat} {L L' : AL} : ∀ {xs : List Nat} {Rs : List Rv}, RvL dE L xs Rs → (∀ z ∈ xs, ∀ y, L z = some y → L' z = some y) → RvL dE L' xs Rs
  | [], [], _, _ => trivial
  | x :: xs, c :: cs, h, hs => ⟨hs x (by simp) _ h.1, RvL.mono h.2 (fun z hz => hs z (by simp [hz]))⟩
  | [], _ :: _, h, _ => h.elim
  | _ :: _, [], h, _ => h.elim
theorem RvL.mem {dE : Nat} {L : AL} : ∀ {xs : List Nat} {Rs : List Rv}, RvL dE L xs Rs → ∀ z ∈ xs, ∃ R, L z = some (rvC dE R)
  | [], [], _, z, hz => (nomatch hz)
  | x :: xs, c :: cs, h, z, hz => by
    rcases List.mem_cons.mp hz with e | e
    · exact ⟨c, e ▸ h.1⟩
    · exact RvL.mem h.2 z e
  | [], _ :: _, h, _, _ => h.elim
  | _ :: _, [], h, _, _ => h.elim
theorem RvL.take {dE : Nat} {L : AL} : ∀ (n : Nat) {xs : List Nat} {Rs : List Rv}, RvL dE L xs Rs → RvL dE L (xs.take n) (Rs.take n)
  | 0, _, _, _ => trivial
  | n + 1, [], [], _ => trivial
  | n + 1, x :: xs, c :: cs, h => ⟨h.1, RvL.take n h.2⟩
  | _ + 1, [], _ :: _, h => h.elim
  | _ + 1, _ :: _, [], h => h.elim
def SvO (dE : Nat) (L : AL) : Option Nat → Option Rv → Prop
  | none, none => True
  | some s, some S => L s = some (rvC dE S)
  | _, _ => False
def IpO (L : AL) (ip : Nat) (u : List Int32) : Prop := ∃ (k : Nat) (ml : Int32) (t : List Nat), u = t.map nI ∧ k ≤ 1 ∧ (∀ c ∈ t, c < 65536) ∧ t.length ≤ 60 ∧ L ip = some (sbC 60 k ml t)
def LnO (I : AI) (L : AL) (ip ln : Nat) (u : List Int32) : Prop := ∃ cs : List Nat, u = cs.map nI ∧ (∀ c ∈ cs, c < 256) ∧ cs.length ≤ 400 ∧ ((ln ≠ ip ∧ ∃ ml : Int32, L ln = some (sbC 400 0 ml cs)) ∨ StrI I ln 0 cs)
abbrev FA : Type := Nat × Nat × Nat × Nat × List Nat × Option Nat
abbrev FA.r (A : FA) : Nat := A.1
abbrev FA.pq (A : FA) : Nat := A.2.1
abbrev FA.ip (A : FA) : Nat := A.2.2.1
abbrev FA.ln (A : FA) : Nat := A.2.2.2.1
abbrev FA.xs (A : FA) : List Nat := A.2.2.2.2.1
abbrev FA.sv (A : FA) : Option Nat := A.2.2.2.2.2
def FeO (dE : Nat) (I : AI) (L : AL) (x : Nat) (F : Fy) (A : FA) : Prop := L x = some (feC (FA.r A) (FA.pq A) (FA.ip A) (FA.ln A) F.fa F.re F.de (FA.sv A)) ∧ L (FA.r A) = some (rvC dE F.rv) ∧ L (FA.pq A) = some (dqC (FA.xs A)) ∧ RvL dE L (FA.xs A) F.pa ∧ IpO L (FA.ip A) F.ip ∧ LnO I L (FA.ip A) (FA.ln A) F.li ∧ SvO dE L (FA.sv A) F.sv ∧ (FA.r A :: (FA.xs A ++ (FA.sv A).toList)).Nodup
/-- all plain cells but x are kept -/
def FrX (x : Nat) (L L' : AL) : Prop := ∀ z e, L z = some (.inl e) → z ≠ x → L' z = some (.inl e)
theorem FrX.rf {x : Nat} {L : AL} : FrX x L L := fun _ _ h _ => h
theorem FrX.tr {x : Nat} {L L' L'' : AL} (h : FrX x L L') (h2 : FrX x L' L'') : FrX x L L'' := fun z e hz hn => h2 z e (h z e hz hn) hn
theorem FrX.sub {x : Nat} {L L' : AL} (h : ∀ z y, L z = some y → L' z = some y) : FrX x L L' := fun z e hz _ => h z _ hz
theorem SvO.mono {dE : Nat} {L L' : AL} {o : Option Nat} {S : Option Rv} (h : SvO dE L o S) (hs : ∀ z ∈ o.toList, ∀ y, L z = some y → L' z = some y) : SvO dE L' o S := by
  cases o with
  | none => cases S with
    | none => trivial
    | some _ => exact h.elim
  | some s => cases S with
    | none => exact h.elim
    | some S => exact hs s (by simp) _ h
theorem LnO.mono {I J : AI} {L L' : AL} {ip ln : Nat} {u : List Int32} (h : LnO I L ip ln u) (hI : ile I J) (hs : ∀ y, L ln = some y → ln ≠ ip → L' ln = some y) : LnO J L' ip ln u := by
  obtain ⟨cs, h1, h2, h3, h4⟩ := h
  refine ⟨cs, h1, h2, h3, ?_⟩
  rcases h4 with ⟨h5, ml, h6⟩ | h5
  · exact Or.inl ⟨h5, ml, hs _ h6 h5⟩
  · exact Or.inr (h5.mono hI)
theorem FeO.mono {dE : Nat} {I J : AI} {L L' : AL} {x : Nat} {F : Fy} {A : FA} (h : FeO dE I L x F A) (hI : ile I J) (hs : ∀ z y, L z = some y → L' z = some y) : FeO dE J L' x F A := by
  obtain ⟨h1, h2, h3, h4, ⟨k, ml, t, h5, h6, h7, h75, h8⟩, h9, h10, h11⟩ := h
  exact ⟨hs _ _ h1, hs _ _ h2, hs _ _ h3, h4.mono (fun z _ => hs z), ⟨k, ml, t, h5, h6, h7, h75, hs _ _ h8⟩, h9.mono hI (fun y hy _ => hs _ _ hy), h10.mono (fun z _ => hs z), h11⟩
/-- the fields of numbers set -/
theorem FeO.nums {dE : Nat} {I : AI} {L : AL} {x : Nat} {F : Fy} {A : FA} (h : FeO dE I L x F A) (fa re de : Int32) : FeO dE I (up1 L x (some (feC (FA.r A) (FA.pq A) (FA.ip A) (FA.ln A) fa re de (FA.sv A)))) x (((F.wFa fa).wRe re).wDe de) A := by
  obtain ⟨h1, h2, h3, h4, ⟨k, ml, t, h5, h6, h7, h75, h8⟩, h9, h10, h11⟩ := h
  have nx : ∀ z y, L z = some y → (∀ e, y ≠ .inl e) → up1 L x (some (feC (FA.r A) (FA.pq A) (FA.ip A) (FA.ln A) fa re de (FA.sv A))) z = some y := fun z y hz hy => (up1_n (fun e => by subst e; rw [h1] at hz; exact hy _ (Option.some.inj hz).symm)).trans hz
  have nr : ∀ z R, L z = some (rvC dE R) → up1 L x (some (feC (FA.r A) (FA.pq A) (FA.ip A) (FA.ln A) fa re de (FA.sv A))) z = some (rvC dE R) := fun z R hz => nx z _ hz (fun e q => by cases q)
  refine ⟨up1_s, nr _ _ h2, nx _ _ h3 (fun e q => by cases q), h4.mono (fun z hz y hy => ?_), ⟨k, ml, t, h5, h6, h7, h75, nx _ _ h8 (fun e q => by cases q)⟩, ?_, ?_, h11⟩
  · obtain ⟨R, hR⟩ := h4.mem z hz
    rw [hR] at hy
    cases hy
    exact nr z R hR
  · obtain ⟨cs, g1, g2, g3, g4⟩ := h9
    refine ⟨cs, g1, g2, g3, ?_⟩
    rcases g4 with ⟨g5, ml, g6⟩ | g5
    · exact Or.inl ⟨g5, ml, nx _ _ g6 (fun e q => by cases q)⟩
    · exact Or.inr g5
  · refine h10.mono (fun z hz y hy => ?_)
    cases hA : FA.sv A with
    | none => rw [hA] at hz; exact absurd hz (by simp)
    | some s =>
      rw [hA] at hz h10
      cases hS : F.sv with
      | none => rw [hS] at h10; exact h10.elim
      | some S =>
        rw [hS] at h10
        have hzs : z = s := by simpa using hz
        subst hzs
        have h10 : L z = some (rvC dE S) := h10
        rw [h10] at hy
        cases hy
        have h99 := nr z S h10
        rw [hA] at h99
        exact h99
def cutL (L : AL) (N : List Nat) : AL := fun z => if z ∈ N then none else L z
theorem cutL_n {L : AL} {N : List Nat} {z : Nat} (h : z ∉ N) : cutL L N z = L z := if_neg h
theorem cutL_i {L : AL} {N : List Nat} {z : Nat} {y : Cel} (h : cutL L N z = some y) : z ∉ N ∧ L z = some y := by
  unfold cutL at h
  by_cases e : z ∈ N
  · rw [if_pos e] at h; cases h
  · rw [if_neg e] at h; exact ⟨e, h⟩
/-- exceptions that pass a handler -/
def NcX (s0 : State) : Prop := va_Nc RJ14 RX7 s0 ∧ va_Nc RJ33 RX7 s0 ∧ va_Nc RX7 RJ33 s0 ∧ va_Nc RX7 RJ14 s0 ∧ va_Nc RJ14 RJ33 s0
section OUTP
variable {l : Launch} {s0 : State} {D : va_G} {own nm : String} {cc : ByteArray} {nL : Nat} {ret : Option FieldType} {tab : List ExceptionTableEntry} {d mc ms : Nat} {Ib : AI} {post : Option Value → AI → AL → Prop} {xp : String → Nat → AI → AL → Prop} {md : Prop} {G : Gt} {GX : GXt}
variable {pc : Nat} {ls : List (Nat × Value)} {st : List Value} {I : AI} {L : AL} {k n : Nat}
theorem IsG.outP (hG : IsG l s0 D own nm cc nL ret tab d mc ms Ib post xp md G GX) {E : String} {q : Nat} (hpass : ∀ z ∈ tab, covers z pc = false ∨ (z.catchType ≠ 0 ∧ ∃ nm2 : String, Cond.classLink own z.catchType nm2 ∈ lw_all ∧ va_Nc E nm2 s0)) (hp : xp E q I L) (hk : k ≤ mc) (hn : n ≤ ms) (hm : md) : GX pc ls st E q I L k n := by
  obtain ⟨p, e, s, m, args, below, meth, c, R, Q, hΓ, hx, hb, hr, hml, hown, hts, hlk, hnm, hW, htab, hF, hR, hmd, rfl, rfl⟩ := hG
  cases hmd hm
  intro H locs lsA ce hl hS hV hI hc hv hcl
  refine vx_outP hown hlk (fun z hz => ?_) hc hv hcl (fun t ht hA => ⟨I, L, hI, hp, by rw [ht]; exact hS, hV.F ht⟩) hV.2.2 hk hn
  rcases hpass z (by rw [← htab]; exact hz) with h | ⟨h1, nm2, h2, h3⟩
  · exact Or.inl h
  · exact Or.inr ⟨h1, nm2, hts _ h2, va_Nc.moved hW.alike h3⟩
end OUTP
theorem fp_X26_1_X26 : LkP RX26 "<init>" 1 ciX26 1 (tyX26 1) := ⟨RX26, TX26, 2, tyX26, _, cls_X26, by decide, rfl, Or.inl rfl, Or.inr (Or.inr ⟨rfl, rfl, rfl, q2952⟩)⟩
set_option maxHeartbeats 4000000 in
set_option maxRecDepth 100000 in
theorem sp_X26_init {l : Launch} {s0 : State} {D : va_G} {I : AI} {L : AL} (hΓ : Gam l s0 D) {a x : Nat} (h0 : L a = some (obC ciX26 [.int 0, .null])) : Spc l s0 D yX26_init 2 [.ref a, .ref x] I L 0 0 (pU I L a (obC ciX26 [.int 0, .ref x])) noX := by
  refine Spc.of hΓ cX26_init 2 none q2949 (by decide +kernel) (by decide) (Nat.le_of_ble_eq_true rfl) (fun G GX hG => ?_)
  refine hG.aload_n dX26_init_0 rfl ?_
  refine hG.aload_n dX26_init_1 rfl ?_
  refine hG.put dX26_init_2 fp_X26_1_X26 h0 rfl rfl (Nat.le_of_ble_eq_true rfl) ?_
  refine hG.aload_n dX26_init_5 rfl ?_
  refine hG.objI dX26_init_6 q2950 (Nat.le_of_ble_eq_true rfl) (by decide) ?_
  refine hG.vret dX26_init_9 rfl ?_ (by omega) (by omega) trivial
  exact ⟨rfl, rfl, rfl⟩
theorem nw_X1_75 : LkN RX1 75 ciX2 [.null, .null, .null, .null, .null, .null, .null, .int 0, .int 0, .int 0, .int 0, .int 0, .int 0] 13 := ⟨RX2, TX2, tyX2, cls_X2, q152, q153, q74, rfl, fun j hj => by
  match j, hj with
  | 0, _ => rfl
  | 1, _ => rfl
  | 2, _ => rfl
  | 3, _ => rfl
  | 4, _ => rfl
  | 5, _ => rfl
  | 6, _ => rfl
  | 7, _ => rfl
  | 8, _ => rfl
  | 9, _ => rfl
  | 10, _ => rfl
  | 11, _ => rfl
  | 12, _ => rfl
  | _ + 13, h => exact absurd h (by omega)⟩
theorem ki_X1_77 : LkNI RX1 77 yX2_init 0 := ⟨⟨_, q154⟩, q155, q74, rfl, ⟨by decide +kernel, by decide +kernel, by decide +kernel⟩, by decide +kernel⟩
theorem fg_X1_78_X1 : LkG RX1 78 ciX1 0 := ⟨RX1, TX1, 8, tyX1, _, cls_X1, by decide, Or.inl rfl, Or.inl q359⟩
theorem kv_X1_106 : LkV RX1 106 yX2_become 1 := ⟨q405, q406, q407, q74, by decide +kernel, by decide +kernel, by decide +kernel⟩
set_option maxHeartbeats 4000000 in
set_option maxRecDepth 100000 in
theorem sp_X1_draft {l : Launch} {s0 : State} {D : va_G} {I : AI} {L : AL} {dE ca : Nat} {ad : Nat → Nat} (hΓ : Gam l s0 D) (hZ : Std s0 D dE ca ad) {x r N : Nat} {R : Rv} {v1 v2 v3 v4 v5 v6 v7 : Value} (hx : L x = some (obC ciX1 [.ref r, v1, v2, v3, v4, v5, v6, v7])) (h0 : L r = some (rvC dE R)) (hw : Wf N R) (hN : N ≤ 24) : Spc l s0 D yX1_draft 12 [.ref x] I L 311 3470 (fun q I' L' => ∃ (r2 : Nat) (A2 : RA), q = some (.ref r2) ∧ RvO dE I' L' r2 R A2 ∧ Far L [] (RN r2 A2) L') noX := by
  refine Spc.of hΓ cX1_draft 1 (some (FieldType.object "BraidedFerry$River")) q404 (by decide +kernel) (by decide) (Nat.le_of_ble_eq_true rfl) (fun G GX hG => ?_)
  refine hG.new dX1_draft_0 nw_X1_75 (by omega) (by omega) (fun r2 hLr2 hIr2 => ?_)
  refine hG.dup dX1_draft_3 rfl ?_
  refine hG.callNI dX1_draft_4 ki_X1_77 (sp_X2_init hΓ hZ up1_s) rfl rfl (Nat.le_of_ble_eq_true rfl) (by decide) (by omega) (by omega) (fun r4 I4 L4 hI4 h4 => ?_) (fun _ _ _ _ _ h => h.elim)
  obtain ⟨rfl, A1, h1, F1⟩ := h4
  have hF1 : Far L [] (RN r2 A1) L4 := fun z y hz _ => F1 z y ((up1_n (ne_none hz hLr2)).trans hz) (by simp [ne_none hz hLr2])
  refine hG.aload_n dX1_draft_7 rfl ?_
  refine hG.get dX1_draft_8 fg_X1_78_X1 (Or.inl (hF1 x _ hx (by simp)).2) rfl ?_
  have h04 := (hF1 r _ h0 (by simp)).2
  refine hG.opR h04 (fun B M g hf => ?_)
  have hr1 : r ∉ RN r2 A1 := (hF1 r _ h0 (by simp)).1
  have h1M : RvO dE I4 M r2 rv0 A1 := h1.mono ile_rf (fun z hz y hy => (hf z y hy (fun e => hr1 (e ▸ hz))).2)
  have hd : ∀ q ∈ RN r2 A1, q ∉ RN r B := fun z hz hm => by
    cases hy : L4 z with
    | none => exact h1.dom z hz hy
    | some y => exact (hf z y hy (fun e => hr1 (e ▸ hz))).1 hm
  refine hG.callV dX1_draft_11 kv_X1_106 (Rcv.raw h1M.h cl_X2) (sp_X2_become hΓ hZ h1M g hd hw.wa hw.fo hw.af (by have := hw.ln; omega) (by have := hw.ln; omega) (by have := hw.ln; omega)) rfl rfl (Nat.le_of_ble_eq_true rfl) (by decide) (by omega) (by omega) (fun r11 I11 L11 hI11 h11 => ?_) (fun _ _ _ _ _ h => h.elim)
  obtain ⟨rfl, A2, h2, F2⟩ := h11
  have g2 : RvO dE I11 L11 r R B := g.mono hI11 (fun z hz y hy => (F2 z y hy (fun hm => hd z hm hz)).2)
  have d2 : ∀ z ∈ RN r B, z ∉ RN r2 A2 := fun z hz => by
    cases hy : M z with
    | none => exact absurd hy (g.dom z hz)
    | some y => exact (F2 z y hy (fun hm => hd z hm hz)).1
  refine hG.clR (A := B) (cutL L11 (RN r B)) g2 (fun z y hz hza => cutL_i hz) ?_
  refine hG.aret dX1_draft_14 rfl (by first | exact Or.inl ⟨_, rfl⟩ | exact Or.inr ⟨_, rfl⟩) (by first | exact Or.inr ⟨_, rfl⟩ | exact Or.inl rfl) ?_ (by omega) (by omega) trivial
  refine ⟨r2, A2, rfl, h2.mono ile_rf (fun z hz y hy => (up1_n (fun (e : z = r) => d2 r (by simp [RN]) (e ▸ hz))).trans ((cutL_n (fun hm => d2 z hm hz)).trans hy)), fun z y hz _ => ?_⟩
  by_cases e : z = r
  · subst e
    exact ⟨d2 z (by simp [RN]), up1_s.trans (h0.symm.trans hz)⟩
  · have q4 := hF1 z y hz (by simp)
    have qM := hf z y q4.2 e
    have q11 := F2 z y qM.2 q4.1
    exact ⟨q11.1, (up1_n e).trans ((cutL_n qM.1).trans q11.2)⟩
theorem fg_X1_85_X1 : LkG RX1 85 ciX1 1 := ⟨RX1, TX1, 8, tyX1, _, cls_X1, by decide, Or.inl rfl, Or.inl q360⟩
theorem kv_X1_110 : LkV RX1 110 yJ6_size 0 := ⟨q2222, q2223, q2224, q82, by decide +kernel, by decide +kernel, by decide +kernel⟩
theorem kv_X1_113 : LkV RX1 113 yJ6_removeLast 0 := ⟨q2229, q2230, q2231, q82, by decide +kernel, by decide +kernel, by decide +kernel⟩
theorem kv_X1_116 : LkV RX1 116 yJ6_push 1 := ⟨q2245, q2246, q2247, q82, by decide +kernel, by decide +kernel, by decide +kernel⟩
theorem fp_X1_78_X1 {nm : String} : LkP RX1 nm 78 ciX1 0 (tyX1 0) := ⟨RX1, TX1, 8, tyX1, _, cls_X1, by decide, rfl, Or.inl rfl, Or.inl ⟨rfl, q359⟩⟩
set_option maxHeartbeats 4000000 in
set_option maxRecDepth 100000 in
theorem sp_X1_replace {l : Launch} {s0 : State} {D : va_G} {I : AI} {L : AL} {dE : Nat} (hΓ : Gam l s0 D) {x r r2 pq : Nat} {R : Rv} {xs : List Nat} {v2 v3 v4 v5 v6 v7 : Value} (hx : L x = some (obC ciX1 [.ref r, .ref pq, v2, v3, v4, v5, v6, v7])) (hr : L r = some (rvC dE R)) (hp : L pq = some (dqC xs)) (hl : xs.length ≤ 8) (hxs : ∀ z ∈ xs, ∃ R, L z = some (rvC dE R)) : Spc l s0 D yX1_replace 5 [.ref x, .ref r2] I L 0 0 (fun q I' L' => q = none ∧ I = I' ∧ L' = (up1 (up1 L pq (some (dqC ((r :: xs).take 8)))) x (some (obC ciX1 [.ref r2, .ref pq, v2, v3, v4, v5, v6, v7])))) noX := by
  refine Spc.of hΓ cX1_replace 3 none q2221 (by decide +kernel) (by decide) (Nat.le_of_ble_eq_true rfl) (fun G GX hG => ?_)
  by_cases h8 : xs.length = 8
  · obtain ⟨ys, z, rfl⟩ : ∃ ys z, xs = ys ++ [z] := ⟨xs.dropLast, xs.getLast (fun e => by rw [e] at h8; cases h8), (List.dropLast_concat_getLast _).symm⟩
    have hl8 := h8
    obtain ⟨Rz, hzR⟩ := hxs z (by simp)
    refine hG.aload_n dX1_replace_0 rfl ?_
    refine hG.get dX1_replace_1 fg_X1_85_X1 (Or.inl hx) rfl ?_
    refine hG.callV dX1_replace_4 kv_X1_110 (Rcv.dq hp) (sp_J6_size hΓ hp) rfl rfl (Nat.le_of_ble_eq_true rfl) (by decide) (by omega) (by omega) (fun r4 I4 L4 hI4 h4 => ?_) (fun _ _ _ _ _ h => h.elim)
    obtain ⟨rfl, rfl, rfl⟩ := h4
    refine hG.bipush (v := 8) dX1_replace_7 rfl ?_
    rw [show (ys ++ [z]).length = 8 from hl8]
    refine hG.icmp_ne (tgt := 23) dX1_replace_9 rfl (fun c_9 => absurd rfl c_9) (fun c_9 => ?_)
    refine hG.aload_n dX1_replace_12 rfl ?_
    refine hG.get dX1_replace_13 fg_X1_85_X1 (Or.inl hx) rfl ?_
    refine hG.callV dX1_replace_16 kv_X1_113 (Rcv.dq hp) (sp_J6_removeLast hΓ hp) rfl rfl (Nat.le_of_ble_eq_true rfl) (by decide) (by omega) (by omega) (fun r16 I16 L16 hI16 h16 => ?_) (fun _ _ _ _ _ h => h.elim)
    obtain ⟨rfl, rfl, rfl⟩ := h16
    refine hG.castS dX1_replace_19 q152 (Rcv.rv ((up1_n (ne_val hzR hp (ne_kind (by decide)))).trans hzR)) cl_X2 ?_
    refine hG.astore_n dX1_replace_22 (by decide) ?_
    refine hG.aload_n dX1_replace_23 rfl ?_
    refine hG.get dX1_replace_24 fg_X1_85_X1 (Or.inl ((up1_n (ne_val hx hp (fun e => by cases e))).trans hx)) rfl ?_
    refine hG.aload_n dX1_replace_27 rfl ?_
    refine hG.get dX1_replace_28 fg_X1_78_X1 (Or.inl ((up1_n (ne_val hx hp (fun e => by cases e))).trans hx)) rfl ?_
    refine hG.callV dX1_replace_31 kv_X1_116 (Rcv.dq up1_s) (sp_J6_push (C := "BraidedFerry$River") hΓ up1_s (by first | omega | (simp at hl8; omega)) (fun N c M hf => Rcv.rv ((up1_n (ne_val hr hp (ne_kind (by decide)))).trans (hf r _ ((up1_n (ne_val hr hp (ne_kind (by decide)))).trans hr) (ne_val hr hp (ne_kind (by decide)))).2)) q3683) rfl rfl (Nat.le_of_ble_eq_true rfl) (by decide) (by omega) (by omega) (fun r31 I31 L31 hI31 h31 => ?_) (fun _ _ _ _ _ h => h.elim)
    obtain ⟨rfl, rfl, rfl⟩ := h31
    rw [up1_up1]
    refine hG.aload_n dX1_replace_34 rfl ?_
    refine hG.aload_n dX1_replace_35 rfl ?_
    refine hG.put dX1_replace_36 fp_X1_78_X1 ((up1_n (ne_val hx hp (fun e => by cases e))).trans hx) rfl rfl (Nat.le_of_ble_eq_true rfl) ?_
    refine hG.vret dX1_replace_39 rfl ?_ (by omega) (by omega) trivial
    rw [show (r :: (ys ++ [z])).take 8 = r :: ys from by rw [← List.cons_append]; exact List.take_left' (by simp at hl8 ⊢; omega)]
    exact ⟨rfl, rfl, rfl⟩
  · refine hG.aload_n dX1_replace_0 rfl ?_
    refine hG.get dX1_replace_1 fg_X1_85_X1 (Or.inl hx) rfl ?_
    refine hG.callV dX1_replace_4 kv_X1_110 (Rcv.dq hp) (sp_J6_size hΓ hp) rfl rfl (Nat.le_of_ble_eq_true rfl) (by decide) (by omega) (by omega) (fun r4 I4 L4 hI4 h4 => ?_) (fun _ _ _ _ _ h => h.elim)
    obtain ⟨rfl, rfl, rfl⟩ := h4
    refine hG.bipush (v := 8) dX1_replace_7 rfl ?_
    refine hG.icmp_ne (tgt := 23) dX1_replace_9 rfl (fun c_9 => ?_) (fun c_9 => absurd c_9 (fun e => h8 ((nI_eq (b := 8) (by omega) (by decide)).mp e)))
    refine hG.aload_n dX1_replace_23 rfl ?_
    refine hG.get dX1_replace_24 fg_X1_85_X1 (Or.inl hx) rfl ?_
    refine hG.aload_n dX1_replace_27 rfl ?_
    refine hG.get dX1_replace_28 fg_X1_78_X1 (Or.inl hx) rfl ?_
    refine hG.callV dX1_replace_31 kv_X1_116 (Rcv.dq hp) (sp_J6_push (C := "BraidedFerry$River") hΓ hp (by first | omega | (simp at hl8; omega)) (fun N c M hf => Rcv.rv ((up1_n (ne_val hr hp (ne_kind (by decide)))).trans (hf r _ hr (ne_val hr hp (ne_kind (by decide)))).2)) q3683) rfl rfl (Nat.le_of_ble_eq_true rfl) (by decide) (by omega) (by omega) (fun r31 I31 L31 hI31 h31 => ?_) (fun _ _ _ _ _ h => h.elim)
    obtain ⟨rfl, rfl, rfl⟩ := h31
    refine hG.aload_n dX1_replace_34 rfl ?_
    refine hG.aload_n dX1_replace_35 rfl ?_
    refine hG.put dX1_replace_36 fp_X1_78_X1 ((up1_n (ne_val hx hp (fun e => by cases e))).trans hx) rfl rfl (Nat.le_of_ble_eq_true rfl) ?_
    refine hG.vret dX1_replace_39 rfl ?_ (by omega) (by omega) trivial
    rw [show (r :: xs).take 8 = r :: xs from List.take_of_length_le (by simp; omega)]
    exact ⟨rfl, rfl, rfl⟩
theorem fp_X1_120_X1 {nm : String} : LkP RX1 nm 120 ciX1 5 (tyX1 5) := ⟨RX1, TX1, 8, tyX1, _, cls_X1, by decide, rfl, Or.inl rfl, Or.inl ⟨rfl, q365⟩⟩
theorem fp_X1_123_X1 {nm : String} : LkP RX1 nm 123 ciX1 6 (tyX1 6) := ⟨RX1, TX1, 8, tyX1, _, cls_X1, by decide, rfl, Or.inl rfl, Or.inl ⟨rfl, q366⟩⟩
set_option maxHeartbeats 4000000 in
set_option maxRecDepth 100000 in
theorem sp_X1_refuse {l : Launch} {s0 : State} {D : va_G} {I : AI} {L : AL} (hΓ : Gam l s0 D) {x : Nat} {v0 v1 v2 v3 v4 v5 v6 v7 : Value} (hx : L x = some (obC ciX1 [v0, v1, v2, v3, v4, v5, v6, v7])) {re de : Int32} : Spc l s0 D yX1_refuse 7 [.ref x, .int re, .int de] I L 1 6 (fun q I' L' => ∃ qe, q = some (.ref qe) ∧ I' qe (ob ciJ35 []) ∧ L' = up1 L x (some (obC ciX1 [v0, v1, v2, v3, v4, .int re, .int de, v7]))) noX := by
  refine Spc.of hΓ cX1_refuse 3 (some (FieldType.object "java/lang/UnsupportedOperationException")) q2274 (by decide +kernel) (by decide) (Nat.le_of_ble_eq_true rfl) (fun G GX hG => ?_)
  refine hG.aload_n dX1_refuse_0 rfl ?_
  refine hG.iload_n dX1_refuse_1 rfl ?_
  refine hG.put dX1_refuse_2 fp_X1_120_X1 hx rfl rfl (Nat.le_of_ble_eq_true rfl) ?_
  refine hG.aload_n dX1_refuse_5 rfl ?_
  refine hG.iload_n dX1_refuse_6 rfl ?_
  refine hG.put dX1_refuse_7 fp_X1_123_X1 up1_s rfl rfl (Nat.le_of_ble_eq_true rfl) ?_
  rw [up1_up1]
  refine hG.newE dX1_refuse_10 dX1_refuse_13 dX1_refuse_14 le_J35 cl_J35 (by decide) (by decide) (by omega) (by omega) (fun q hLq hIq => ?_)
  refine hG.fr up1_s ?_
  rw [up1_up1, up_nn hLq]
  refine hG.aret dX1_refuse_17 rfl (by first | exact Or.inl ⟨_, rfl⟩ | exact Or.inr ⟨_, rfl⟩) (by first | exact Or.inr ⟨_, rfl⟩ | exact Or.inl rfl) ?_ (by omega) (by omega) trivial
  exact ⟨q, rfl, frI_s, rfl⟩
