/-! deeds: what is done -/
section SUBX
variable {l : Launch} {s0 : State} {D : va_G} {own nm : String} {cc : ByteArray} {nL : Nat} {ret : Option FieldType} {tab : List ExceptionTableEntry} {d mc ms : Nat} {Ib : AI} {post : Option Value → AI → AL → Prop} {xp : String → Nat → AI → AL → Prop} {md : Prop} {G : Gt} {GX : GXt}
variable {pc : Nat} {ls : List (Nat × Value)} {st : List Value} {I : AI} {L : AL} {k n : Nat}
theorem IsG.subX (hG : IsG l s0 D own nm cc nL ret tab d mc ms Ib post xp md G GX) {S : AL} {E : String} {q : Nat} (hs : ∀ q x, S q = some x → L q = some x) (kk : GX pc ls st E q I S k n) : GX pc ls st E q I L k n := by
  obtain ⟨p, e, s, m, args, below, meth, c, R, Q, hΓ, hx, hb, hr, hml, hown, hts, hlk, hnm, hW, htab, hF, hR, hmd, rfl, rfl⟩ := hG
  intro H locs lsA ce hl hS hV hI hc hv hcl
  exact kk H locs lsA ce hl (hS.sub hs) hV hI hc hv hcl
end SUBX
/-- what the class needs of a river -/
def Wc (R : Rv) : Prop := AnOk R ∧ R.an.length ≤ 6 ∧ (TOk R.ch.length R.wa ∧ TOk R.ch.length R.fo ∧ TOk R.ch.length R.af) ∧ (R.wa.length ≤ 23 ∧ R.fo.length ≤ 23 ∧ R.af.length ≤ 23) ∧ ∃ j, j ≤ R.ch.length ∧ R.st = nI j
abbrev gco (k f t : Nat) : Nat := 49 * k + 7 * f + t
theorem gco_p {k f t : Nat} (hf : f ≤ 6) (ht : t ≤ 6) : gco k f t / 49 = k ∧ gco k f t / 7 % 7 = f ∧ gco k f t % 7 = t := by unfold gco; omega
theorem gco_lt {k f t : Nat} (hk : k < 3) (hf : f ≤ 6) (ht : t ≤ 6) : gco k f t < 147 := by unfold gco; omega
theorem gco_grp {k f t : Nat} (hf : f ≤ 6) (ht : t ≤ 6) : grp (gco k f t) = [.int (nI k), .int (nI f), .int (nI t)] := by
  obtain ⟨e1, e2, e3⟩ := gco_p (k := k) hf ht
  unfold grp
  rw [e1, e2, e3]
theorem idx_le {n : Int32} {m : Nat} (hm : m < 2 ^ 31) (h : inR n 0 (nI m) = true) : ∃ i, i ≤ m ∧ n = nI i := by
  obtain ⟨h1, h2⟩ := inR_iff.mp h
  obtain ⟨j, hj, rfl⟩ := nI_of (fun q => lt_not.mp q h1)
  exact ⟨j, (nI_leI hj hm).mp h2, rfl⟩
def digO (c : T3) (R : Rv) : Out := if R.ch.length < 6 then .inl (nI R.ch.length, R.wCh (R.ch ++ [c])) else .inr (.inr (1, 6))
def floO (a b c : Int32) (R : Rv) : Out := if R.fl.length < 5 then .inl (nI (R.fl.length + 1), R.wFl (R.fl ++ [(R.hr + a, b, R.hr + a + c)])) else .inr (.inr (1, 5))
def ancO (n s : Int32) (R : Rv) : Out := if inR n 0 (nI R.ch.length - 1) = true then (if inR s 1 9 = true then (if R.an.length < 6 then .inl (nI R.an.length, R.wAn (R.an ++ [(n, s, 0)])) else .inr (.inr (1, 6))) else .inr (.inl true)) else .inr (.inl false)
def weiO (n : Int32) (R : Rv) : Out := if inR n 0 (nI R.an.length - 1) = true then (match R.an[n.toNatClampNeg]? with
  | some c => .inl (c.2.2, R.wAn (R.an.eraseIdx n.toNatClampNeg))
  | none => .inr (.inl false)) else .inr (.inl false)
def comO (k f t n : Int32) (R : Rv) : Out := if inR f 0 (nI R.ch.length) = true ∧ inR t 0 (nI R.ch.length) = true then (if inR k 0 2 = true ∧ ¬ f = t ∧ inR n 1 99 = true then (if tof R.wa (gco k.toNatClampNeg f.toNatClampNeg t.toNatClampNeg) + n ≤ 999 then .inl (tof R.wa (gco k.toNatClampNeg f.toNatClampNeg t.toNatClampNeg) + n, R.wWa (tadd R.wa (gco k.toNatClampNeg f.toNatClampNeg t.toNatClampNeg) n)) else .inr (.inr (1, 999))) else .inr (.inl true)) else .inr (.inl false)
def boaO (k t n s : Int32) (R : Rv) : Out := if inR t 0 (nI R.ch.length) = true then (if inR k 0 2 = true ∧ inR n 1 99 = true ∧ inR s 0 1 = true then brdO R (gco k.toNatClampNeg R.st.toNatClampNeg t.toNatClampNeg) n (decide (s = 1)) else .inr (.inl true)) else .inr (.inl false)
def lndO (R : Rv) : Out := .inl (lcoin (faR R) R.st 0 R.fo + lcoin (faR R) R.st 0 R.af, landR R (faR R))
def farO (k : Nat) (n : Int32) (R : Rv) : Out := .inl (faR R k, faS R k n)
def ropO (n : Int32) (R : Rv) : Out := .inl (R.rp, R.wRp n)
def pasO (n : Int32) (R : Rv) : Out := if inR n 1 99 = true then (if R.hr + n ≤ 9999 then .inl (holdN R.an - holdN (liveN R n.toNatClampNeg).an, liveN R n.toNatClampNeg) else .inr (.inr (10, R.hr + n))) else .inr (.inl true)
theorem lcoin_cg {f g : Nat → Int32} {st : Int32} (h : ∀ k, k < 3 → f k = g k) : ∀ {t : Tal} {acc : Int32}, (∀ x ∈ t, x.1 < 147) → lcoin f st acc t = lcoin g st acc t
  | [], _, _ => rfl
  | x :: t, acc, hx => by
    have h1 := hx x (by simp)
    show lcoin f st (if nI (x.1 % 7) = st then acc + x.2 * chn x.1 * f (x.1 / 49) else acc) t = lcoin g st (if nI (x.1 % 7) = st then acc + x.2 * chn x.1 * g (x.1 / 49) else acc) t
    rw [h (x.1 / 49) (by omega)]
    exact lcoin_cg h (fun y hy => hx y (by simp [hy]))
theorem tof_mem {c : Nat} : ∀ {t : Tal}, tof t c ≠ 0 → ∃ v, (c, v) ∈ t ∧ tof t c = v
  | [], h => absurd rfl h
  | x :: t, h => by
    by_cases e : x.1 = c
    · refine ⟨x.2, ?_, ?_⟩
      · subst e; simp
      · show (if x.1 = c then x.2 else tof t c) = x.2
        rw [if_pos e]
    · have e2 : tof (x :: t) c = tof t c := by
        show (if x.1 = c then x.2 else tof t c) = _
        rw [if_neg e]
      rw [e2] at h ⊢
      obtain ⟨v, h1, h2⟩ := tof_mem h
      exact ⟨v, by simp [h1], h2⟩
/-- none waits, or from 1 to 999 -/
theorem TOk.rng {m : Nat} {t : Tal} (h : TOk m t) (c : Nat) : tof t c = 0 ∨ (0 < tof t c ∧ tof t c ≤ 999) := by
  by_cases e : tof t c = 0
  · exact Or.inl e
  · obtain ⟨v, h1, h2⟩ := tof_mem e
    rw [h2]
    exact Or.inr (h.2 _ h1).2.2.2
theorem i32_bd {x : Int32} {a b : Int} (h1 : a ≤ x.toInt) (h2 : x.toInt ≤ b) : a ≤ b := by omega
/-- an addition within small bounds -/
theorem addS {x y : Int32} (hx : 0 ≤ x) (hx2 : x ≤ 9999) (hy : -9999 ≤ y) (hy2 : y ≤ 9999) : (x + y).toInt = x.toInt + y.toInt := by
  have a1 := Int32.le_iff_toInt_le.mp hx
  have a2 := Int32.le_iff_toInt_le.mp hx2
  have a3 := Int32.le_iff_toInt_le.mp hy
  have a4 := Int32.le_iff_toInt_le.mp hy2
  have b1 : (0 : Int32).toInt = 0 := rfl
  have b2 : (9999 : Int32).toInt = 9999 := rfl
  have b3 : (-9999 : Int32).toInt = -9999 := rfl
  rw [Int32.toInt_add]
  exact Int.bmod_eq_of_le (by omega) (by omega)
theorem TOk.up {m : Nat} {t : Tal} (h : TOk m t) {c : Nat} {n : Int32} (hn : 1 ≤ n) (hn2 : n ≤ 99) : tof t c + n = 0 → ∃ v, (c, v) ∈ t := fun e => by
  exfalso
  have e9 : (tof t c + n).toInt = 0 := by rw [e]; rfl
  have hn9 := Int32.le_iff_toInt_le.mp hn
  have h1 : (1 : Int32).toInt = 1 := rfl
  have hz : 0 ≤ tof t c ∧ tof t c ≤ 9999 := by
    rcases h.rng c with e | ⟨a, b⟩
    · rw [e]; exact ⟨by decide, by decide⟩
    · exact ⟨Int32.le_of_lt a, Int32.le_trans b (by decide)⟩
  have hz9 := Int32.le_iff_toInt_le.mp hz.1
  have b1 : (0 : Int32).toInt = 0 := rfl
  rw [addS hz.1 hz.2 (Int32.le_trans (by decide) hn) (Int32.le_trans hn2 (by decide))] at e9
  omega
theorem TOk.dn {m : Nat} {t : Tal} (_ : TOk m t) {c : Nat} {n : Int32} (hn : 1 ≤ n) : n ≤ tof t c → tof t c + -n = 0 → ∃ v, (c, v) ∈ t := fun h9 _ => by
  have hne : tof t c ≠ 0 := fun e => by
    rw [e] at h9
    exact absurd (Int32.le_trans hn h9) (by decide)
  obtain ⟨v, h1, -⟩ := tof_mem hne
  exact ⟨v, h1⟩
theorem cls_X5 : CLs ciX5 RX5 TX5 1 tyX5 := ⟨rfl, in_X5, tyX5_ok, nmX5⟩
theorem fg_X5_22_X5 : LkG RX5 22 ciX5 0 := ⟨RX5, TX5, 1, tyX5, _, cls_X5, by decide, Or.inl rfl, Or.inl q2320⟩
theorem kv_X5_28 : LkV RX5 28 yX2_addChannel 1 := ⟨q1995, q1996, q1997, q74, by decide +kernel, by decide +kernel, by decide +kernel⟩
set_option maxHeartbeats 4000000 in
set_option maxRecDepth 100000 in
theorem sp_X5_done {l : Launch} {s0 : State} {D : va_G} {I : AI} {L : AL} {dE ca : Nat} {ad : Nat → Nat} {r : Nat} {R : Rv} {A : RA} (hΓ : Gam l s0 D) (hZ : Std s0 D dE ca ad) (h : RvO dE I L r R A) (hw : Wc R) {a : Nat} {x : Nat} {c : T3} (hx : I a (ob ciX5 [.ref x])) (hxc : I x (t3E ciX6 c)) : Spc l s0 D yX5_done 15 [.ref a, .ref r] I L 3700 13000 (pO dE (digO c R) r A L) (xO (digO c R) L) := by
  refine Spc.of hΓ cX5_done 2 (some FieldType.int) q1994 (by decide +kernel) (by decide) (Nat.le_of_ble_eq_true rfl) (fun G GX hG => ?_)
  refine hG.aload_n dX5_done_0 rfl ?_
  refine hG.aload_n dX5_done_1 rfl ?_
  refine hG.get dX5_done_2 fg_X5_22_X5 (Or.inr hx) rfl ?_
  refine hG.callV dX5_done_5 kv_X5_28 (Rcv.raw h.h cl_X2) (sp_X2_addChannel hΓ hZ h hxc) rfl rfl (Nat.le_of_ble_eq_true rfl) (by decide) (by omega) (by omega) (fun r5 I5 L5 hI5 h5 => ?_) (fun E q I' L' hI ⟨e1, e2, e3, e4⟩ => hG.out (by simp) ⟨e3, Or.inr ⟨_, if_neg e2, e1, e4⟩⟩ (by omega) (by omega) trivial)
  obtain ⟨hb, rfl, A2, h2, F2⟩ := h5
  have ho : digO c R = _ := if_pos hb
  refine hG.iret dX5_done_8 rfl ?_ (by omega) (by omega) trivial
  exact ⟨_, _, A2, ho, rfl, h2, F2⟩
theorem cls_X13 : CLs ciX13 RX13 TX13 2 tyX13 := ⟨rfl, in_X13, tyX13_ok, nmX13⟩
theorem fg_X13_7_X13 : LkG RX13 7 ciX13 0 := ⟨RX13, TX13, 2, tyX13, _, cls_X13, by decide, Or.inr q2366, Or.inl q2365⟩
theorem fg_X13_13_X13 : LkG RX13 13 ciX13 1 := ⟨RX13, TX13, 2, tyX13, _, cls_X13, by decide, Or.inr q2381, Or.inl q2380⟩
theorem kv_X13_16 : LkV RX13 16 yX2_split 2 := ⟨q2139, q2140, q2141, q74, by decide +kernel, by decide +kernel, by decide +kernel⟩
set_option maxHeartbeats 4000000 in
set_option maxRecDepth 100000 in
theorem sp_X13_done {l : Launch} {s0 : State} {D : va_G} {I : AI} {L : AL} {dE ca : Nat} {ad : Nat → Nat} {r : Nat} {R : Rv} {A : RA} (hΓ : Gam l s0 D) (hZ : Std s0 D dE ca ad) (h : RvO dE I L r R A) (hw : Wc R) {a : Nat} {n w : Int32} (hx : I a (ob ciX13 [.int n, .int w])) : Spc l s0 D yX13_done 15 [.ref a, .ref r] I L 3700 13000 (pO dE (splO R n w) r A L) (xO (splO R n w) L) := by
  refine Spc.of hΓ cX13_done 2 (some FieldType.int) q2138 (by decide +kernel) (by decide) (Nat.le_of_ble_eq_true rfl) (fun G GX hG => ?_)
  refine hG.aload_n dX13_done_0 rfl ?_
  refine hG.aload_n dX13_done_1 rfl ?_
  refine hG.get dX13_done_2 fg_X13_7_X13 (Or.inr hx) rfl ?_
  refine hG.aload_n dX13_done_5 rfl ?_
  refine hG.get dX13_done_6 fg_X13_13_X13 (Or.inr hx) rfl ?_
  refine hG.callV dX13_done_9 kv_X13_16 (Rcv.raw h.h cl_X2) (sp_X2_split hΓ hZ h hw.1.1 hw.2.1 hw.2.2.1.1 hw.2.2.1.2.1 hw.2.2.1.2.2 (Nat.le_succ_of_le hw.2.2.2.1.1) (Nat.le_succ_of_le hw.2.2.2.1.2.1) (Nat.le_succ_of_le hw.2.2.2.1.2.2)) rfl rfl (Nat.le_of_ble_eq_true rfl) (by decide) (by omega) (by omega) (fun r9 I9 L9 hI9 h9 => ?_) (fun E q I' L' hI hx => hG.out (by simp) hx (by omega) (by omega) trivial)
  obtain ⟨v, R9, A9, ho, rfl, h2, F2⟩ := h9
  refine hG.iret dX13_done_12 rfl ?_ (by omega) (by omega) trivial
  exact ⟨v, R9, A9, ho, rfl, h2, F2⟩
theorem cls_X14 : CLs ciX14 RX14 TX14 2 tyX14 := ⟨rfl, in_X14, tyX14_ok, nmX14⟩
theorem fg_X14_7_X14 : LkG RX14 7 ciX14 0 := ⟨RX14, TX14, 2, tyX14, _, cls_X14, by decide, Or.inr q2364, Or.inl q2363⟩
theorem fg_X14_13_X14 : LkG RX14 13 ciX14 1 := ⟨RX14, TX14, 2, tyX14, _, cls_X14, by decide, Or.inr q2379, Or.inl q2378⟩
theorem kv_X14_16 : LkV RX14 16 yX2_shift 2 := ⟨q2098, q2099, q2100, q74, by decide +kernel, by decide +kernel, by decide +kernel⟩
set_option maxHeartbeats 4000000 in
set_option maxRecDepth 100000 in
theorem sp_X14_done {l : Launch} {s0 : State} {D : va_G} {I : AI} {L : AL} {dE ca : Nat} {ad : Nat → Nat} {r : Nat} {R : Rv} {A : RA} (hΓ : Gam l s0 D) (hZ : Std s0 D dE ca ad) (h : RvO dE I L r R A) (hw : Wc R) {a : Nat} {n w : Int32} (hx : I a (ob ciX14 [.int n, .int w])) : Spc l s0 D yX14_done 15 [.ref a, .ref r] I L 3700 13000 (pO dE (shfO R n w) r A L) (xO (shfO R n w) L) := by
  refine Spc.of hΓ cX14_done 2 (some FieldType.int) q2097 (by decide +kernel) (by decide) (Nat.le_of_ble_eq_true rfl) (fun G GX hG => ?_)
  refine hG.aload_n dX14_done_0 rfl ?_
  refine hG.aload_n dX14_done_1 rfl ?_
  refine hG.get dX14_done_2 fg_X14_7_X14 (Or.inr hx) rfl ?_
  refine hG.aload_n dX14_done_5 rfl ?_
  refine hG.get dX14_done_6 fg_X14_13_X14 (Or.inr hx) rfl ?_
  refine hG.callV dX14_done_9 kv_X14_16 (Rcv.raw h.h cl_X2) (sp_X2_shift hΓ hZ h) rfl rfl (Nat.le_of_ble_eq_true rfl) (by decide) (by omega) (by omega) (fun r9 I9 L9 hI9 h9 => ?_) (fun E q I' L' hI hx => hG.out (by simp) hx (by omega) (by omega) trivial)
  obtain ⟨v, R9, A9, ho, rfl, h2, F2⟩ := h9
  refine hG.iret dX14_done_12 rfl ?_ (by omega) (by omega) trivial
  exact ⟨v, R9, A9, ho, rfl, h2, F2⟩
theorem cls_X15 : CLs ciX15 RX15 TX15 3 tyX15 := ⟨rfl, in_X15, tyX15_ok, nmX15⟩
theorem fg_X15_23_X15 : LkG RX15 23 ciX15 0 := ⟨RX15, TX15, 3, tyX15, _, cls_X15, by decide, Or.inr q2360, Or.inl q2359⟩
theorem fg_X15_26_X15 : LkG RX15 26 ciX15 1 := ⟨RX15, TX15, 3, tyX15, _, cls_X15, by decide, Or.inr q2375, Or.inl q2374⟩
theorem fg_X15_7_X15 : LkG RX15 7 ciX15 2 := ⟨RX15, TX15, 3, tyX15, _, cls_X15, by decide, Or.inl rfl, Or.inl q2438⟩
theorem kv_X15_29 : LkV RX15 29 yX2_addFlood 3 := ⟨q2005, q2006, q2007, q74, by decide +kernel, by decide +kernel, by decide +kernel⟩
set_option maxHeartbeats 4000000 in
set_option maxRecDepth 100000 in
theorem sp_X15_done {l : Launch} {s0 : State} {D : va_G} {I : AI} {L : AL} {dE ca : Nat} {ad : Nat → Nat} {r : Nat} {R : Rv} {A : RA} (hΓ : Gam l s0 D) (hZ : Std s0 D dE ca ad) (h : RvO dE I L r R A) (hw : Wc R) {a : Nat} {u v w : Int32} (hx : I a (ob ciX15 [.int u, .int v, .int w])) : Spc l s0 D yX15_done 15 [.ref a, .ref r] I L 3700 13000 (pO dE (floO u v w R) r A L) (xO (floO u v w R) L) := by
  refine Spc.of hΓ cX15_done 2 (some FieldType.int) q2004 (by decide +kernel) (by decide) (Nat.le_of_ble_eq_true rfl) (fun G GX hG => ?_)
  refine hG.aload_n dX15_done_0 rfl ?_
  refine hG.aload_n dX15_done_1 rfl ?_
  refine hG.get dX15_done_2 fg_X15_23_X15 (Or.inr hx) rfl ?_
  refine hG.aload_n dX15_done_5 rfl ?_
  refine hG.get dX15_done_6 fg_X15_26_X15 (Or.inr hx) rfl ?_
  refine hG.aload_n dX15_done_9 rfl ?_
  refine hG.get dX15_done_10 fg_X15_7_X15 (Or.inr hx) rfl ?_
  refine hG.callV dX15_done_13 kv_X15_29 (Rcv.raw h.h cl_X2) (sp_X2_addFlood hΓ hZ h) rfl rfl (Nat.le_of_ble_eq_true rfl) (by decide) (by omega) (by omega) (fun r13 I13 L13 hI13 h13 => ?_) (fun E q I' L' hI ⟨e1, e2, e3, e4⟩ => hG.out (by simp) ⟨e3, Or.inr ⟨_, if_neg e2, e1, e4⟩⟩ (by omega) (by omega) trivial)
  obtain ⟨hb, rfl, A2, h2, F2⟩ := h13
  have ho : floO u v w R = _ := if_pos hb
  refine hG.iret dX15_done_16 rfl ?_ (by omega) (by omega) trivial
  exact ⟨_, _, A2, ho, rfl, h2, F2⟩
theorem cls_X16 : CLs ciX16 RX16 TX16 2 tyX16 := ⟨rfl, in_X16, tyX16_ok, nmX16⟩
theorem fg_X16_9_X16 : LkG RX16 9 ciX16 0 := ⟨RX16, TX16, 2, tyX16, _, cls_X16, by decide, Or.inr q2358, Or.inl q2357⟩
theorem kv_X16_15 : LkV RX16 15 yX2_channel 1 := ⟨q1628, q1629, q1630, q74, by decide +kernel, by decide +kernel, by decide +kernel⟩
theorem fg_X16_21_X16 : LkG RX16 21 ciX16 1 := ⟨RX16, TX16, 2, tyX16, _, cls_X16, by decide, Or.inr q2383, Or.inl q2382⟩
theorem ks_X16_24 : LkNS RX16 24 yX1_inRange 3 := ⟨⟨_, q1681⟩, q1642, q73, by decide +kernel, by decide +kernel, by decide +kernel⟩
theorem ks_X16_28 : LkNS RX16 28 yX1_require 1 := ⟨⟨_, q1682⟩, q1683, q73, by decide +kernel, by decide +kernel, by decide +kernel⟩
theorem kv_X16_32 : LkV RX16 32 yX2_addAnchor 2 := ⟨q1690, q1691, q1692, q74, by decide +kernel, by decide +kernel, by decide +kernel⟩
set_option maxHeartbeats 4000000 in
set_option maxRecDepth 100000 in
theorem sp_X16_done {l : Launch} {s0 : State} {D : va_G} {I : AI} {L : AL} {dE ca : Nat} {ad : Nat → Nat} {r : Nat} {R : Rv} {A : RA} (hΓ : Gam l s0 D) (hZ : Std s0 D dE ca ad) (h : RvO dE I L r R A) (hw : Wc R) {a : Nat} {n s : Int32} (hx : I a (ob ciX16 [.int n, .int s])) : Spc l s0 D yX16_done 15 [.ref a, .ref r] I L 3700 13000 (pO dE (ancO n s R) r A L) (xO (ancO n s R) L) := by
  refine Spc.of hΓ cX16_done 3 (some FieldType.int) q1627 (by decide +kernel) (by decide) (Nat.le_of_ble_eq_true rfl) (fun G GX hG => ?_)
  refine hG.aload_n dX16_done_0 rfl ?_
  refine hG.aload_n dX16_done_1 rfl ?_
  refine hG.get dX16_done_2 fg_X16_9_X16 (Or.inr hx) rfl ?_
  refine hG.callV dX16_done_5 kv_X16_15 (Rcv.raw h.h cl_X2) (sp_X2_channel hΓ hZ h) rfl rfl (Nat.le_of_ble_eq_true rfl) (by decide) (by omega) (by omega) (fun r5 I5 L5 hI5 h5 => ?_) (fun E q I' L' hI ⟨e1, e2, e3⟩ => hG.out (by simp) ⟨e3, Or.inl ⟨false, (by unfold ancO; exact if_neg (bFT e2)), e1⟩⟩ (by omega) (by omega) trivial)
  obtain ⟨rfl, rfl, i, c, x, rfl, hc, rfl, hxc0⟩ := h5
  have hil : i < R.ch.length := (List.getElem?_eq_some_iff.mp hc).1
  have hb1 := inR_idx (n := nI i) (by have := hw.1.1; omega) hil rfl
  have ho : ancO (nI i) s R = _ := if_pos hb1
  refine hG.astore_n dX16_done_8 (by decide) ?_
  refine hG.aload_n dX16_done_9 rfl ?_
  refine hG.get dX16_done_10 fg_X16_21_X16 (Or.inr hx) rfl ?_
  refine hG.iconst (v := 1) dX16_done_13 rfl ?_
  refine hG.bipush (v := 9) dX16_done_14 rfl ?_
  refine hG.callNS dX16_done_16 ks_X16_24 (sp_X1_inRange hΓ) rfl rfl (Nat.le_of_ble_eq_true rfl) (by decide) (by omega) (by omega) (fun r16 I16 L16 hI16 h16 => ?_) (fun _ _ _ _ _ h => h.elim)
  obtain ⟨rfl, rfl, rfl⟩ := h16
  refine hG.callNS dX16_done_19 ks_X16_28 (sp_X1_require hΓ) rfl rfl (Nat.le_of_ble_eq_true rfl) (by decide) (by omega) (by omega) (fun r19 I19 L19 hI19 h19 => ?_) (fun E q I' L' hI ⟨e1, e2, e3⟩ => hG.out (by simp) ⟨e3, Or.inl ⟨true, ho.trans (if_neg (bFT e2)), e1⟩⟩ (by omega) (by omega) trivial)
  obtain ⟨rfl, hb3, rfl, rfl⟩ := h19
  rw [if_pos hb3] at ho
  refine hG.aload_n dX16_done_22 rfl ?_
  refine hG.aload_n dX16_done_23 rfl ?_
  refine hG.get dX16_done_24 fg_X16_9_X16 (Or.inr hx) rfl ?_
  refine hG.aload_n dX16_done_27 rfl ?_
  refine hG.get dX16_done_28 fg_X16_21_X16 (Or.inr hx) rfl ?_
  refine hG.callV dX16_done_31 kv_X16_32 (Rcv.raw h.h cl_X2) (sp_X2_addAnchor hΓ hZ h) rfl rfl (Nat.le_of_ble_eq_true rfl) (by decide) (by omega) (by omega) (fun r31 I31 L31 hI31 h31 => ?_) (fun E q I' L' hI ⟨e1, e2, e3, e4⟩ => hG.out (by simp) ⟨e3, Or.inr ⟨_, ho.trans (if_neg e2), e1, e4⟩⟩ (by omega) (by omega) trivial)
  obtain ⟨hb, rfl, A2, h2, F2⟩ := h31
  rw [if_pos hb] at ho
  refine hG.iret dX16_done_34 rfl ?_ (by omega) (by omega) trivial
  exact ⟨_, _, A2, ho, rfl, h2, F2⟩
theorem cls_X18 : CLs ciX18 RX18 TX18 1 tyX18 := ⟨rfl, in_X18, tyX18_ok, nmX18⟩
theorem fg_X18_7_X18 : LkG RX18 7 ciX18 0 := ⟨RX18, TX18, 1, tyX18, _, cls_X18, by decide, Or.inr q2489, Or.inl q2488⟩
theorem kv_X18_13 : LkV RX18 13 yX2_weigh 1 := ⟨q2203, q2204, q2205, q74, by decide +kernel, by decide +kernel, by decide +kernel⟩
set_option maxHeartbeats 4000000 in
set_option maxRecDepth 100000 in
theorem sp_X18_done {l : Launch} {s0 : State} {D : va_G} {I : AI} {L : AL} {dE ca : Nat} {ad : Nat → Nat} {r : Nat} {R : Rv} {A : RA} (hΓ : Gam l s0 D) (hZ : Std s0 D dE ca ad) (h : RvO dE I L r R A) (hw : Wc R) {a : Nat} {n : Int32} (hx : I a (ob ciX18 [.int n])) : Spc l s0 D yX18_done 15 [.ref a, .ref r] I L 3700 13000 (pO dE (weiO n R) r A L) (xO (weiO n R) L) := by
  refine Spc.of hΓ cX18_done 2 (some FieldType.int) q2202 (by decide +kernel) (by decide) (Nat.le_of_ble_eq_true rfl) (fun G GX hG => ?_)
  refine hG.aload_n dX18_done_0 rfl ?_
  refine hG.aload_n dX18_done_1 rfl ?_
  refine hG.get dX18_done_2 fg_X18_7_X18 (Or.inr hx) rfl ?_
  refine hG.callV dX18_done_5 kv_X18_13 (Rcv.raw h.h cl_X2) (sp_X2_weigh hΓ hZ h) rfl rfl (Nat.le_of_ble_eq_true rfl) (by decide) (by omega) (by omega) (fun r5 I5 L5 hI5 h5 => ?_) (fun E q I' L' hI ⟨e1, e2, e3⟩ => hG.out (by simp) ⟨e3, Or.inl ⟨false, (by unfold weiO; exact if_neg (bFT e2)), e1⟩⟩ (by omega) (by omega) trivial)
  obtain ⟨i, c, rfl, hc, rfl, A2, h2, F2⟩ := h5
  have hil : i < R.an.length := (List.getElem?_eq_some_iff.mp hc).1
  have hb1 := inR_idx (n := nI i) (by have := hw.2.1; omega) hil rfl
  have ho : weiO (nI i) R = .inl (c.2.2, R.wAn (R.an.eraseIdx i)) := by
    unfold weiO
    rw [if_pos hb1, nI_clamp (by have := hw.2.1; omega), hc]
  refine hG.iret dX18_done_8 rfl ?_ (by omega) (by omega) trivial
  exact ⟨_, _, A2, ho, rfl, h2, F2⟩
theorem kv_X21_7 : LkV RX21 7 yX2_land 0 := ⟨q2032, q2033, q2034, q74, by decide +kernel, by decide +kernel, by decide +kernel⟩
set_option maxHeartbeats 4000000 in
set_option maxRecDepth 100000 in
theorem sp_X21_done {l : Launch} {s0 : State} {D : va_G} {I : AI} {L : AL} {dE ca : Nat} {ad : Nat → Nat} {r : Nat} {R : Rv} {A : RA} (hΓ : Gam l s0 D) (hZ : Std s0 D dE ca ad) (h : RvO dE I L r R A) (hw : Wc R) {a : Nat} (hx : I a (ob ciX21 [])) : Spc l s0 D yX21_done 15 [.ref a, .ref r] I L 3700 13000 (pO dE (lndO R) r A L) (xO (lndO R) L) := by
  refine Spc.of hΓ cX21_done 2 (some FieldType.int) q2031 (by decide +kernel) (by decide) (Nat.le_of_ble_eq_true rfl) (fun G GX hG => ?_)
  refine hG.aload_n dX21_done_0 rfl ?_
  refine hG.callV dX21_done_1 kv_X21_7 (Rcv.raw h.h cl_X2) (sp_X2_land hΓ hZ h) rfl rfl (Nat.le_of_ble_eq_true rfl) (by decide) (by omega) (by omega) (fun r1 I1 L1 hI1 h1 => ?_) (fun _ _ _ _ _ h => h.elim)
  obtain ⟨rfl, A2, h2, F2⟩ := h1
  have hg : ∀ k, k < 3 → A.g k = faR R k := fun k hk => h.fa hk
  have e1 := lcoin_cg (st := R.st) hg (t := R.fo) (acc := 0) (fun x hx => (hw.2.2.1.2.1.2 x hx).1)
  have e2 := lcoin_cg (st := R.st) hg (t := R.af) (acc := 0) (fun x hx => (hw.2.2.1.2.2.2 x hx).1)
  have e3 : landR R A.g = landR R (faR R) := by unfold landR; rw [e1, e2]
  rw [e3] at h2
  rw [e1, e2]
  refine hG.iret dX21_done_4 rfl ?_ (by omega) (by omega) trivial
  exact ⟨_, _, A2, rfl, rfl, h2, F2⟩
theorem cls_X22 : CLs ciX22 RX22 TX22 2 tyX22 := ⟨rfl, in_X22, tyX22_ok, nmX22⟩
theorem fg_X22_21_X22 : LkG RX22 21 ciX22 0 := ⟨RX22, TX22, 2, tyX22, _, cls_X22, by decide, Or.inr q2362, Or.inl q2361⟩
theorem fg_X22_27_X22 : LkG RX22 27 ciX22 1 := ⟨RX22, TX22, 2, tyX22, _, cls_X22, by decide, Or.inr q2377, Or.inl q2376⟩
theorem kv_X22_30 : LkV RX22 30 yX2_setFare 2 := ⟨q2078, q2079, q2080, q74, by decide +kernel, by decide +kernel, by decide +kernel⟩
set_option maxHeartbeats 4000000 in
set_option maxRecDepth 100000 in
theorem sp_X22_done {l : Launch} {s0 : State} {D : va_G} {I : AI} {L : AL} {dE ca : Nat} {ad : Nat → Nat} {r : Nat} {R : Rv} {A : RA} (hΓ : Gam l s0 D) (hZ : Std s0 D dE ca ad) (h : RvO dE I L r R A) (hw : Wc R) {a : Nat} {k : Nat} {n : Int32} (hk : k < 3) (hx : I a (ob ciX22 [.int (nI k), .int n])) : Spc l s0 D yX22_done 15 [.ref a, .ref r] I L 3700 13000 (pO dE (farO k n R) r A L) (xO (farO k n R) L) := by
  refine Spc.of hΓ cX22_done 2 (some FieldType.int) q2077 (by decide +kernel) (by decide) (Nat.le_of_ble_eq_true rfl) (fun G GX hG => ?_)
  refine hG.aload_n dX22_done_0 rfl ?_
  refine hG.aload_n dX22_done_1 rfl ?_
  refine hG.get dX22_done_2 fg_X22_21_X22 (Or.inr hx) rfl ?_
  refine hG.aload_n dX22_done_5 rfl ?_
  refine hG.get dX22_done_6 fg_X22_27_X22 (Or.inr hx) rfl ?_
  refine hG.callV dX22_done_9 kv_X22_30 (Rcv.raw h.h cl_X2) (sp_X2_setFare hΓ h hk) rfl rfl (Nat.le_of_ble_eq_true rfl) (by decide) (by omega) (by omega) (fun r9 I9 L9 hI9 h9 => ?_) (fun _ _ _ _ _ h => h.elim)
  obtain ⟨rfl, A2, h2, F2⟩ := h9
  refine hG.iret dX22_done_12 rfl ?_ (by omega) (by omega) trivial
  exact ⟨_, _, A2, rfl, rfl, h2, F2⟩
theorem cls_X23 : CLs ciX23 RX23 TX23 1 tyX23 := ⟨rfl, in_X23, tyX23_ok, nmX23⟩
theorem fg_X23_17_X23 : LkG RX23 17 ciX23 0 := ⟨RX23, TX23, 1, tyX23, _, cls_X23, by decide, Or.inr q2487, Or.inl q2486⟩
theorem kv_X23_23 : LkV RX23 23 yX2_setRope 1 := ⟨q2088, q2089, q2090, q74, by decide +kernel, by decide +kernel, by decide +kernel⟩
set_option maxHeartbeats 4000000 in
set_option maxRecDepth 100000 in
theorem sp_X23_done {l : Launch} {s0 : State} {D : va_G} {I : AI} {L : AL} {dE ca : Nat} {ad : Nat → Nat} {r : Nat} {R : Rv} {A : RA} (hΓ : Gam l s0 D) (hZ : Std s0 D dE ca ad) (h : RvO dE I L r R A) (hw : Wc R) {a : Nat} {n : Int32} (hx : I a (ob ciX23 [.int n])) : Spc l s0 D yX23_done 15 [.ref a, .ref r] I L 3700 13000 (pO dE (ropO n R) r A L) (xO (ropO n R) L) := by
  refine Spc.of hΓ cX23_done 2 (some FieldType.int) q2087 (by decide +kernel) (by decide) (Nat.le_of_ble_eq_true rfl) (fun G GX hG => ?_)
  refine hG.aload_n dX23_done_0 rfl ?_
  refine hG.aload_n dX23_done_1 rfl ?_
  refine hG.get dX23_done_2 fg_X23_17_X23 (Or.inr hx) rfl ?_
  refine hG.callV dX23_done_5 kv_X23_23 (Rcv.raw h.h cl_X2) (sp_X2_setRope hΓ h) rfl rfl (Nat.le_of_ble_eq_true rfl) (by decide) (by omega) (by omega) (fun r5 I5 L5 hI5 h5 => ?_) (fun _ _ _ _ _ h => h.elim)
  obtain ⟨rfl, A2, h2, F2⟩ := h5
  refine hG.iret dX23_done_8 rfl ?_ (by omega) (by omega) trivial
  exact ⟨_, _, A2, rfl, rfl, h2, F2⟩
theorem cls_X24 : CLs ciX24 RX24 TX24 1 tyX24 := ⟨rfl, in_X24, tyX24_ok, nmX24⟩
theorem fg_X24_7_X24 : LkG RX24 7 ciX24 0 := ⟨RX24, TX24, 1, tyX24, _, cls_X24, by decide, Or.inl rfl, Or.inl q2839⟩
theorem kv_X24_13 : LkV RX24 13 yX2_cross 1 := ⟨q1864, q1865, q1866, q74, by decide +kernel, by decide +kernel, by decide +kernel⟩
set_option maxHeartbeats 4000000 in
set_option maxRecDepth 100000 in
theorem sp_X24_done {l : Launch} {s0 : State} {D : va_G} {I : AI} {L : AL} {dE ca : Nat} {ad : Nat → Nat} {r : Nat} {R : Rv} {A : RA} (hΓ : Gam l s0 D) (hZ : Std s0 D dE ca ad) (h : RvO dE I L r R A) (hw : Wc R) {a : Nat} {w : Bool} (hx : I a (ob ciX24 [.int (b2i w)])) : Spc l s0 D yX24_done 15 [.ref a, .ref r] I L 3700 13000 (pO dE (crsO R w) r A L) (xO (crsO R w) L) := by
  refine Spc.of hΓ cX24_done 2 (some FieldType.int) q1863 (by decide +kernel) (by decide) (Nat.le_of_ble_eq_true rfl) (fun G GX hG => ?_)
  refine hG.aload_n dX24_done_0 rfl ?_
  refine hG.aload_n dX24_done_1 rfl ?_
  refine hG.get dX24_done_2 fg_X24_7_X24 (Or.inr hx) rfl ?_
  refine hG.callV dX24_done_5 kv_X24_13 (Rcv.raw h.h cl_X2) (sp_X2_cross hΓ hZ h hw.1 hw.2.1) rfl rfl (Nat.le_of_ble_eq_true rfl) (by decide) (by omega) (by omega) (fun r5 I5 L5 hI5 h5 => ?_) (fun E q I' L' hI hx => hG.out (by simp) hx (by omega) (by omega) trivial)
  obtain ⟨v, R9, A9, ho, rfl, h2, F2⟩ := h5
  refine hG.iret dX24_done_8 rfl ?_ (by omega) (by omega) trivial
  exact ⟨v, R9, A9, ho, rfl, h2, F2⟩
theorem cls_X25 : CLs ciX25 RX25 TX25 1 tyX25 := ⟨rfl, in_X25, tyX25_ok, nmX25⟩
theorem fg_X25_7_X25 : LkG RX25 7 ciX25 0 := ⟨RX25, TX25, 1, tyX25, _, cls_X25, by decide, Or.inr q2485, Or.inl q2484⟩
theorem ks_X25_13 : LkNS RX25 13 yX1_inRange 3 := ⟨⟨_, q2062⟩, q1642, q73, by decide +kernel, by decide +kernel, by decide +kernel⟩
theorem ks_X25_19 : LkNS RX25 19 yX1_require 1 := ⟨⟨_, q2063⟩, q1683, q73, by decide +kernel, by decide +kernel, by decide +kernel⟩
theorem kv_X25_23 : LkV RX25 23 yX2_pass 1 := ⟨q2064, q2065, q2066, q74, by decide +kernel, by decide +kernel, by decide +kernel⟩
set_option maxHeartbeats 4000000 in
set_option maxRecDepth 100000 in
theorem sp_X25_done {l : Launch} {s0 : State} {D : va_G} {I : AI} {L : AL} {dE ca : Nat} {ad : Nat → Nat} {r : Nat} {R : Rv} {A : RA} (hΓ : Gam l s0 D) (hZ : Std s0 D dE ca ad) (h : RvO dE I L r R A) (hw : Wc R) {a : Nat} {n : Int32} (hx : I a (ob ciX25 [.int n])) : Spc l s0 D yX25_done 15 [.ref a, .ref r] I L 3700 13000 (pO dE (pasO n R) r A L) (xO (pasO n R) L) := by
  refine Spc.of hΓ cX25_done 2 (some FieldType.int) q2061 (by decide +kernel) (by decide) (Nat.le_of_ble_eq_true rfl) (fun G GX hG => ?_)
  refine hG.aload_n dX25_done_0 rfl ?_
  refine hG.get dX25_done_1 fg_X25_7_X25 (Or.inr hx) rfl ?_
  refine hG.iconst (v := 1) dX25_done_4 rfl ?_
  refine hG.bipush (v := 99) dX25_done_5 rfl ?_
  refine hG.callNS dX25_done_7 ks_X25_13 (sp_X1_inRange hΓ) rfl rfl (Nat.le_of_ble_eq_true rfl) (by decide) (by omega) (by omega) (fun r7 I7 L7 hI7 h7 => ?_) (fun _ _ _ _ _ h => h.elim)
  obtain ⟨rfl, rfl, rfl⟩ := h7
  refine hG.callNS dX25_done_10 ks_X25_19 (sp_X1_require hΓ) rfl rfl (Nat.le_of_ble_eq_true rfl) (by decide) (by omega) (by omega) (fun r10 I10 L10 hI10 h10 => ?_) (fun E q I' L' hI ⟨e1, e2, e3⟩ => hG.out (by simp) ⟨e3, Or.inl ⟨true, (by unfold pasO; exact if_neg (bFT e2)), e1⟩⟩ (by omega) (by omega) trivial)
  obtain ⟨rfl, hb3, rfl, rfl⟩ := h10
  have ho : pasO n R = _ := if_pos hb3
  obtain ⟨g1, g2⟩ := inR_iff.mp hb3
  obtain ⟨H, hH, rfl⟩ := idx_le (n := n) (m := 99) (by decide) (inR_iff.mpr ⟨Int32.le_trans (by decide) g1, g2⟩)
  rw [nI_clamp (by omega)] at ho
  refine hG.aload_n dX25_done_13 rfl ?_
  refine hG.aload_n dX25_done_14 rfl ?_
  refine hG.get dX25_done_15 fg_X25_7_X25 (Or.inr hx) rfl ?_
  refine hG.callV dX25_done_18 kv_X25_23 (Rcv.raw h.h cl_X2) (sp_X2_pass hΓ hZ h hH hw.1 hw.2.1) rfl rfl (Nat.le_of_ble_eq_true rfl) (by decide) (by omega) (by omega) (fun r18 I18 L18 hI18 h18 => ?_) (fun E q I' L' hI ⟨e1, e2, e3, e4⟩ => hG.out (by simp) ⟨e3, Or.inr ⟨_, ho.trans (if_neg e2), e1, e4⟩⟩ (by omega) (by omega) trivial)
  obtain ⟨hb, rfl, A2, h2, F2⟩ := h18
  rw [if_pos hb] at ho
  refine hG.iret dX25_done_21 rfl ?_ (by omega) (by omega) trivial
  exact ⟨_, _, A2, ho, rfl, h2, F2⟩
theorem cls_X19 : CLs ciX19 RX19 TX19 4 tyX19 := ⟨rfl, in_X19, tyX19_ok, nmX19⟩
theorem nw_X19_18 : LkN RX19 18 ciX9 [.int 0, .int 0, .int 0] 3 := ⟨RX9, TX9, tyX9, cls_X9, q1848, q1758, q119, rfl, fun j hj => by
  match j, hj with
  | 0, _ => rfl
  | 1, _ => rfl
  | 2, _ => rfl
  | _ + 3, h => exact absurd h (by omega)⟩
theorem fg_X19_9_X19 : LkG RX19 9 ciX19 2 := ⟨RX19, TX19, 4, tyX19, _, cls_X19, by decide, Or.inl rfl, Or.inl q2543⟩
theorem fg_X19_20_X19 : LkG RX19 20 ciX19 0 := ⟨RX19, TX19, 4, tyX19, _, cls_X19, by decide, Or.inr q2370, Or.inl q2369⟩
theorem kv_X19_23 : LkV RX19 23 yX2_stop 1 := ⟨q1849, q1752, q1753, q74, by decide +kernel, by decide +kernel, by decide +kernel⟩
theorem fg_X19_29_X19 : LkG RX19 29 ciX19 1 := ⟨RX19, TX19, 4, tyX19, _, cls_X19, by decide, Or.inr q2385, Or.inl q2384⟩
theorem ki_X19_32 : LkI RX19 32 yX9_init 3 := ⟨q1850, q1760, q119, rfl, ⟨by decide +kernel, by decide +kernel, by decide +kernel⟩, by decide +kernel⟩
theorem ks_X19_35 : LkNS RX19 35 yX1_inRange 3 := ⟨⟨_, q1851⟩, q1642, q73, by decide +kernel, by decide +kernel, by decide +kernel⟩
theorem ks_X19_39 : LkNS RX19 39 yX1_require 1 := ⟨⟨_, q1852⟩, q1683, q73, by decide +kernel, by decide +kernel, by decide +kernel⟩
theorem fg_X19_15_X19 : LkG RX19 15 ciX19 3 := ⟨RX19, TX19, 4, tyX19, _, cls_X19, by decide, Or.inl rfl, Or.inl q2544⟩
theorem kv_X19_43 : LkV RX19 43 yX2_come 2 := ⟨q1853, q1854, q1855, q74, by decide +kernel, by decide +kernel, by decide +kernel⟩
set_option maxHeartbeats 4000000 in
set_option maxRecDepth 100000 in
theorem sp_X19_done {l : Launch} {s0 : State} {D : va_G} {I : AI} {L : AL} {dE ca : Nat} {ad : Nat → Nat} {r : Nat} {R : Rv} {A : RA} (hΓ : Gam l s0 D) (hZ : Std s0 D dE ca ad) (h : RvO dE I L r R A) (hw : Wc R) {a : Nat} {k f t n : Int32} (hx : I a (ob ciX19 [.int f, .int t, .int k, .int n])) : Spc l s0 D yX19_done 15 [.ref a, .ref r] I L 3700 13000 (pO dE (comO k f t n R) r A L) (xO (comO k f t n R) L) := by
  refine Spc.of hΓ cX19_done 3 (some FieldType.int) q1847 (by decide +kernel) (by decide) (Nat.le_of_ble_eq_true rfl) (fun G GX hG => ?_)
  refine hG.new dX19_done_0 nw_X19_18 (by omega) (by omega) (fun q hLq hIq => ?_)
  have hm := h.nw ile_rf hLq (some (obC ciX9 [.int 0, .int 0, .int 0]))
  refine hG.dup dX19_done_3 rfl ?_
  refine hG.aload_n dX19_done_4 rfl ?_
  refine hG.get dX19_done_5 fg_X19_9_X19 (Or.inr hx) rfl ?_
  refine hG.aload_n dX19_done_8 rfl ?_
  refine hG.aload_n dX19_done_9 rfl ?_
  refine hG.get dX19_done_10 fg_X19_20_X19 (Or.inr hx) rfl ?_
  refine hG.callV dX19_done_13 kv_X19_23 (Rcv.raw hm.h cl_X2) (sp_X2_stop hΓ hZ hm) rfl rfl (Nat.le_of_ble_eq_true rfl) (by decide) (by omega) (by omega) (fun r13 I13 L13 hI13 h13 => ?_) (fun E q9 I' L' hI ⟨e1, e2, e3⟩ => hG.subX (S := L) (fun z y hy => by rw [← e3, up1_n (fun e => by rw [e, hLq] at hy; cases hy)]; exact hy) (hG.out (by simp) ⟨rfl, Or.inl ⟨false, (by unfold comO; exact if_neg (fun z => bFT e2 z.1)), e1⟩⟩ (by omega) (by omega) trivial))
  obtain ⟨rfl, rfl, rfl, hb1⟩ := h13
  refine hG.aload_n dX19_done_16 rfl ?_
  refine hG.aload_n dX19_done_17 rfl ?_
  refine hG.get dX19_done_18 fg_X19_29_X19 (Or.inr hx) rfl ?_
  refine hG.callV dX19_done_21 kv_X19_23 (Rcv.raw hm.h cl_X2) (sp_X2_stop hΓ hZ hm) rfl rfl (Nat.le_of_ble_eq_true rfl) (by decide) (by omega) (by omega) (fun r21 I21 L21 hI21 h21 => ?_) (fun E q9 I' L' hI ⟨e1, e2, e3⟩ => hG.subX (S := L) (fun z y hy => by rw [← e3, up1_n (fun e => by rw [e, hLq] at hy; cases hy)]; exact hy) (hG.out (by simp) ⟨rfl, Or.inl ⟨false, (by unfold comO; exact if_neg (fun z => bFT e2 z.2)), e1⟩⟩ (by omega) (by omega) trivial))
  obtain ⟨rfl, rfl, rfl, hb2⟩ := h21
  have ho : comO k f t n R = _ := if_pos ⟨hb1, hb2⟩
  obtain ⟨i, hi, rfl⟩ := idx_le (by have := hw.1.1; omega) hb1
  obtain ⟨j, hj, rfl⟩ := idx_le (by have := hw.1.1; omega) hb2
  refine hG.callI dX19_done_24 ki_X19_32 (sp_X9_init hΓ up1_s) rfl rfl (Nat.le_of_ble_eq_true rfl) (by decide) (by omega) (by omega) (fun r24 I24 L24 hI24 h24 => ?_) (fun _ _ _ _ _ h => h.elim)
  obtain ⟨rfl, rfl, rfl⟩ := h24
  rw [up1_up1]
  refine hG.fr up1_s ?_
  rw [up1_up1, show up1 L q none = L by rw [← hLq, up1_self]]
  have hF := h.mono (frI_le (I := I) (a := q) (e := ob ciX9 [.int k, .int (nI i), .int (nI j)])) (fun _ _ _ hx => hx)
  refine hG.astore_n dX19_done_27 (by decide) ?_
  refine hG.aload_n dX19_done_28 rfl ?_
  refine hG.get dX19_done_29 fg_X19_9_X19 (Or.inr (frI_le _ _ hx)) rfl ?_
  refine hG.iconst (v := 0) dX19_done_32 rfl ?_
  refine hG.iconst (v := 2) dX19_done_33 rfl ?_
  refine hG.callNS dX19_done_34 ks_X19_35 (sp_X1_inRange hΓ) rfl rfl (Nat.le_of_ble_eq_true rfl) (by decide) (by omega) (by omega) (fun r34 I34 L34 hI34 h34 => ?_) (fun _ _ _ _ _ h => h.elim)
  obtain ⟨rfl, rfl, rfl⟩ := h34
  refine hG.if_eq (tgt := 68) dX19_done_37 rfl (fun c_37 => ?_) (fun c_37 => ?_)
  · refine hG.iconst (v := 0) dX19_done_68 rfl ?_
    refine hG.callNS dX19_done_69 ks_X19_39 (sp_X1_require hΓ (b := false)) rfl rfl (Nat.le_of_ble_eq_true rfl) (by decide) (by omega) (by omega) (fun r69 I69 L69 hI69 h69 => ?_) (fun E q9 I' L' hI ⟨e1, e2, e3⟩ => hG.out (by simp) ⟨e3, Or.inl ⟨true, ho.trans (if_neg (fun z => bFT (b2i_0 c_37) z.1)), e1⟩⟩ (by omega) (by omega) trivial)
    exact absurd h69.2.1 (by decide)
  · refine hG.aload_n dX19_done_40 rfl ?_
    refine hG.get dX19_done_41 fg_X19_20_X19 (Or.inr (frI_le _ _ hx)) rfl ?_
    refine hG.aload_n dX19_done_44 rfl ?_
    refine hG.get dX19_done_45 fg_X19_29_X19 (Or.inr (frI_le _ _ hx)) rfl ?_
    refine hG.icmp_eq (tgt := 68) dX19_done_48 rfl (fun c_48 => ?_) (fun c_48 => ?_)
    · refine hG.iconst (v := 0) dX19_done_68 rfl ?_
      refine hG.callNS dX19_done_69 ks_X19_39 (sp_X1_require hΓ (b := false)) rfl rfl (Nat.le_of_ble_eq_true rfl) (by decide) (by omega) (by omega) (fun r69 I69 L69 hI69 h69 => ?_) (fun E q9 I' L' hI ⟨e1, e2, e3⟩ => hG.out (by simp) ⟨e3, Or.inl ⟨true, ho.trans (if_neg (fun z => z.2.1 (show (nI i : Int32) = nI j from c_48))), e1⟩⟩ (by omega) (by omega) trivial)
      exact absurd h69.2.1 (by decide)
    · refine hG.aload_n dX19_done_51 rfl ?_
      refine hG.get dX19_done_52 fg_X19_15_X19 (Or.inr (frI_le _ _ hx)) rfl ?_
      refine hG.iconst (v := 1) dX19_done_55 rfl ?_
      refine hG.bipush (v := 99) dX19_done_56 rfl ?_
      refine hG.callNS dX19_done_58 ks_X19_35 (sp_X1_inRange hΓ) rfl rfl (Nat.le_of_ble_eq_true rfl) (by decide) (by omega) (by omega) (fun r58 I58 L58 hI58 h58 => ?_) (fun _ _ _ _ _ h => h.elim)
      obtain ⟨rfl, rfl, rfl⟩ := h58
      refine hG.if_eq (tgt := 68) dX19_done_61 rfl (fun c_61 => ?_) (fun c_61 => ?_)
      · refine hG.iconst (v := 0) dX19_done_68 rfl ?_
        refine hG.callNS dX19_done_69 ks_X19_39 (sp_X1_require hΓ (b := false)) rfl rfl (Nat.le_of_ble_eq_true rfl) (by decide) (by omega) (by omega) (fun r69 I69 L69 hI69 h69 => ?_) (fun E q9 I' L' hI ⟨e1, e2, e3⟩ => hG.out (by simp) ⟨e3, Or.inl ⟨true, ho.trans (if_neg (fun z => bFT (b2i_0 c_61) z.2.2)), e1⟩⟩ (by omega) (by omega) trivial)
        exact absurd h69.2.1 (by decide)
      · refine hG.iconst (v := 1) dX19_done_64 rfl ?_
        refine hG.goto (tgt := 69) dX19_done_65 rfl ?_
        refine hG.callNS dX19_done_69 ks_X19_39 (sp_X1_require hΓ (b := true)) rfl rfl (Nat.le_of_ble_eq_true rfl) (by decide) (by omega) (by omega) (fun r69 I69 L69 hI69 h69 => ?_) (fun E q9 I' L' hI ⟨e1, e2, e3⟩ => absurd e2 (by decide))
        obtain ⟨rfl, -, rfl, rfl⟩ := h69
        have hk9 := b2i_1 c_37
        have hn9 := b2i_1 c_61
        obtain ⟨g1, g2⟩ := inR_iff.mp hn9
        rw [if_pos ⟨hk9, c_48, hn9⟩] at ho
        obtain ⟨kk, hkk, rfl⟩ := idx_le (n := k) (m := 2) (by decide) hk9
        have hk3 : kk < 3 := by omega
        rw [nI_clamp (by omega), nI_clamp (by have := hw.1.1; omega), nI_clamp (by have := hw.1.1; omega)] at ho
        have hgr : frI I q (ob ciX9 [.int (nI kk), .int (nI i), .int (nI j)]) q (ob ciX9 (grp (gco kk i j))) := by rw [gco_grp (by have := hw.1.1; omega) (by have := hw.1.1; omega)]; exact frI_s
        refine hG.aload_n dX19_done_72 rfl ?_
        refine hG.aload_n dX19_done_73 rfl ?_
        refine hG.aload_n dX19_done_74 rfl ?_
        refine hG.get dX19_done_75 fg_X19_15_X19 (Or.inr (frI_le _ _ hx)) rfl ?_
        refine hG.callV dX19_done_78 kv_X19_43 (Rcv.raw hF.h cl_X2) (sp_X2_come hΓ hZ hF hgr (gco_lt hk3 (by have := hw.1.1; omega) (by have := hw.1.1; omega)) hw.2.2.2.1.1 (hw.2.2.1.1.up g1 g2)) rfl rfl (Nat.le_of_ble_eq_true rfl) (by decide) (by omega) (by omega) (fun r78 I78 L78 hI78 h78 => ?_) (fun E q I' L' hI ⟨e1, e2, e3, e4⟩ => hG.out (by simp) ⟨e3, Or.inr ⟨_, ho.trans (if_neg e2), e1, e4⟩⟩ (by omega) (by omega) trivial)
        obtain ⟨hb, rfl, A2, h2, F2⟩ := h78
        rw [if_pos hb] at ho
        refine hG.iret dX19_done_81 rfl ?_ (by omega) (by omega) trivial
        exact ⟨_, _, A2, ho, rfl, h2, F2⟩
theorem cls_X20 : CLs ciX20 RX20 TX20 4 tyX20 := ⟨rfl, in_X20, tyX20_ok, nmX20⟩
theorem fg_X20_18_X20 : LkG RX20 18 ciX20 1 := ⟨RX20, TX20, 4, tyX20, _, cls_X20, by decide, Or.inr q2373, Or.inl q2372⟩
theorem kv_X20_21 : LkV RX20 21 yX2_stop 1 := ⟨q1751, q1752, q1753, q74, by decide +kernel, by decide +kernel, by decide +kernel⟩
theorem fg_X20_27_X20 : LkG RX20 27 ciX20 0 := ⟨RX20, TX20, 4, tyX20, _, cls_X20, by decide, Or.inr q2368, Or.inl q2367⟩
theorem ks_X20_30 : LkNS RX20 30 yX1_inRange 3 := ⟨⟨_, q1755⟩, q1642, q73, by decide +kernel, by decide +kernel, by decide +kernel⟩
theorem ks_X20_34 : LkNS RX20 34 yX1_require 1 := ⟨⟨_, q1756⟩, q1683, q73, by decide +kernel, by decide +kernel, by decide +kernel⟩
theorem nw_X20_38 : LkN RX20 38 ciX9 [.int 0, .int 0, .int 0] 3 := ⟨RX9, TX9, tyX9, cls_X9, q1757, q1758, q119, rfl, fun j hj => by
  match j, hj with
  | 0, _ => rfl
  | 1, _ => rfl
  | 2, _ => rfl
  | _ + 3, h => exact absurd h (by omega)⟩
theorem fg_X20_40_X2 : LkG RX20 40 ciX2 8 := ⟨RX2, TX2, 13, tyX2, _, cls_X2, by decide, Or.inl rfl, Or.inr ⟨_, q268⟩⟩
theorem ki_X20_42 : LkI RX20 42 yX9_init 3 := ⟨q1759, q1760, q119, rfl, ⟨by decide +kernel, by decide +kernel, by decide +kernel⟩, by decide +kernel⟩
theorem fg_X20_9_X20 : LkG RX20 9 ciX20 2 := ⟨RX20, TX20, 4, tyX20, _, cls_X20, by decide, Or.inl rfl, Or.inl q2576⟩
theorem fg_X20_15_X20 : LkG RX20 15 ciX20 3 := ⟨RX20, TX20, 4, tyX20, _, cls_X20, by decide, Or.inl rfl, Or.inl q2577⟩
theorem kv_X20_45 : LkV RX20 45 yX2_board 3 := ⟨q1779, q1780, q1781, q74, by decide +kernel, by decide +kernel, by decide +kernel⟩
set_option maxHeartbeats 4000000 in
set_option maxRecDepth 100000 in
theorem sp_X20_done {l : Launch} {s0 : State} {D : va_G} {I : AI} {L : AL} {dE ca : Nat} {ad : Nat → Nat} {r : Nat} {R : Rv} {A : RA} (hΓ : Gam l s0 D) (hZ : Std s0 D dE ca ad) (h : RvO dE I L r R A) (hw : Wc R) {a : Nat} {k t n s : Int32} (hx : I a (ob ciX20 [.int k, .int t, .int n, .int s])) : Spc l s0 D yX20_done 15 [.ref a, .ref r] I L 3700 13000 (pO dE (boaO k t n s R) r A L) (xO (boaO k t n s R) L) := by
  refine Spc.of hΓ cX20_done 3 (some FieldType.int) q1750 (by decide +kernel) (by decide) (Nat.le_of_ble_eq_true rfl) (fun G GX hG => ?_)
  refine hG.aload_n dX20_done_0 rfl ?_
  refine hG.aload_n dX20_done_1 rfl ?_
  refine hG.get dX20_done_2 fg_X20_18_X20 (Or.inr hx) rfl ?_
  refine hG.callV dX20_done_5 kv_X20_21 (Rcv.raw h.h cl_X2) (sp_X2_stop hΓ hZ h) rfl rfl (Nat.le_of_ble_eq_true rfl) (by decide) (by omega) (by omega) (fun r5 I5 L5 hI5 h5 => ?_) (fun E q9 I' L' hI ⟨e1, e2, e3⟩ => hG.out (by simp) ⟨e3, Or.inl ⟨false, (by unfold boaO; exact if_neg (bFT e2)), e1⟩⟩ (by omega) (by omega) trivial)
  obtain ⟨rfl, rfl, rfl, hb1⟩ := h5
  have ho : boaO k t n s R = _ := if_pos hb1
  obtain ⟨j, hj, rfl⟩ := idx_le (by have := hw.1.1; omega) hb1
  refine hG.istore_n dX20_done_8 (by decide) ?_
  refine hG.aload_n dX20_done_9 rfl ?_
  refine hG.get dX20_done_10 fg_X20_27_X20 (Or.inr hx) rfl ?_
  refine hG.iconst (v := 0) dX20_done_13 rfl ?_
  refine hG.iconst (v := 2) dX20_done_14 rfl ?_
  refine hG.callNS dX20_done_15 ks_X20_30 (sp_X1_inRange hΓ) rfl rfl (Nat.le_of_ble_eq_true rfl) (by decide) (by omega) (by omega) (fun r15 I15 L15 hI15 h15 => ?_) (fun _ _ _ _ _ h => h.elim)
  obtain ⟨rfl, rfl, rfl⟩ := h15
  refine hG.if_eq (tgt := 50) dX20_done_18 rfl (fun c_18 => ?_) (fun c_18 => ?_)
  · refine hG.iconst (v := 0) dX20_done_50 rfl ?_
    refine hG.callNS dX20_done_51 ks_X20_34 (sp_X1_require hΓ (b := false)) rfl rfl (Nat.le_of_ble_eq_true rfl) (by decide) (by omega) (by omega) (fun r51 I51 L51 hI51 h51 => ?_) (fun E q9 I' L' hI ⟨e1, e2, e3⟩ => hG.out (by simp) ⟨e3, Or.inl ⟨true, ho.trans (if_neg (fun z => bFT (b2i_0 c_18) z.1)), e1⟩⟩ (by omega) (by omega) trivial)
    exact absurd h51.2.1 (by decide)
  · refine hG.aload_n dX20_done_21 rfl ?_
    refine hG.get dX20_done_22 fg_X20_9_X20 (Or.inr hx) rfl ?_
    refine hG.iconst (v := 1) dX20_done_25 rfl ?_
    refine hG.bipush (v := 99) dX20_done_26 rfl ?_
    refine hG.callNS dX20_done_28 ks_X20_30 (sp_X1_inRange hΓ) rfl rfl (Nat.le_of_ble_eq_true rfl) (by decide) (by omega) (by omega) (fun r28 I28 L28 hI28 h28 => ?_) (fun _ _ _ _ _ h => h.elim)
    obtain ⟨rfl, rfl, rfl⟩ := h28
    refine hG.if_eq (tgt := 50) dX20_done_31 rfl (fun c_31 => ?_) (fun c_31 => ?_)
    · refine hG.iconst (v := 0) dX20_done_50 rfl ?_
      refine hG.callNS dX20_done_51 ks_X20_34 (sp_X1_require hΓ (b := false)) rfl rfl (Nat.le_of_ble_eq_true rfl) (by decide) (by omega) (by omega) (fun r51 I51 L51 hI51 h51 => ?_) (fun E q9 I' L' hI ⟨e1, e2, e3⟩ => hG.out (by simp) ⟨e3, Or.inl ⟨true, ho.trans (if_neg (fun z => bFT (b2i_0 c_31) z.2.1)), e1⟩⟩ (by omega) (by omega) trivial)
      exact absurd h51.2.1 (by decide)
    · refine hG.aload_n dX20_done_34 rfl ?_
      refine hG.get dX20_done_35 fg_X20_15_X20 (Or.inr hx) rfl ?_
      refine hG.iconst (v := 0) dX20_done_38 rfl ?_
      refine hG.iconst (v := 1) dX20_done_39 rfl ?_
      refine hG.callNS dX20_done_40 ks_X20_30 (sp_X1_inRange hΓ) rfl rfl (Nat.le_of_ble_eq_true rfl) (by decide) (by omega) (by omega) (fun r40 I40 L40 hI40 h40 => ?_) (fun _ _ _ _ _ h => h.elim)
      obtain ⟨rfl, rfl, rfl⟩ := h40
      refine hG.if_eq (tgt := 50) dX20_done_43 rfl (fun c_43 => ?_) (fun c_43 => ?_)
      · refine hG.iconst (v := 0) dX20_done_50 rfl ?_
        refine hG.callNS dX20_done_51 ks_X20_34 (sp_X1_require hΓ (b := false)) rfl rfl (Nat.le_of_ble_eq_true rfl) (by decide) (by omega) (by omega) (fun r51 I51 L51 hI51 h51 => ?_) (fun E q9 I' L' hI ⟨e1, e2, e3⟩ => hG.out (by simp) ⟨e3, Or.inl ⟨true, ho.trans (if_neg (fun z => bFT (b2i_0 c_43) z.2.2)), e1⟩⟩ (by omega) (by omega) trivial)
        exact absurd h51.2.1 (by decide)
      · refine hG.iconst (v := 1) dX20_done_46 rfl ?_
        refine hG.goto (tgt := 51) dX20_done_47 rfl ?_
        refine hG.callNS dX20_done_51 ks_X20_34 (sp_X1_require hΓ (b := true)) rfl rfl (Nat.le_of_ble_eq_true rfl) (by decide) (by omega) (by omega) (fun r51 I51 L51 hI51 h51 => ?_) (fun E q9 I' L' hI ⟨e1, e2, e3⟩ => absurd e2 (by decide))
        obtain ⟨rfl, -, rfl, rfl⟩ := h51
        have hk9 := b2i_1 c_18
        have hn9 := b2i_1 c_31
        have hs9 := b2i_1 c_43
        obtain ⟨g1, g2⟩ := inR_iff.mp hn9
        rw [if_pos ⟨hk9, hn9, hs9⟩] at ho
        obtain ⟨kk, hkk, rfl⟩ := idx_le (n := k) (m := 2) (by decide) hk9
        have hk3 : kk < 3 := by omega
        obtain ⟨i, hi, hst⟩ := hw.2.2.2.2
        rw [hst, nI_clamp (by omega), nI_clamp (by have := hw.1.1; omega), nI_clamp (by have := hw.1.1; omega)] at ho
        refine hG.aload_n dX20_done_54 rfl ?_
        refine hG.new dX20_done_55 nw_X20_38 (by omega) (by omega) (fun q hLq hIq => ?_)
        have hm := h.nw ile_rf hLq (some (obC ciX9 [.int 0, .int 0, .int 0]))
        refine hG.dup dX20_done_58 rfl ?_
        refine hG.aload_n dX20_done_59 rfl ?_
        refine hG.get dX20_done_60 fg_X20_27_X20 (Or.inr hx) rfl ?_
        refine hG.aload_n dX20_done_63 rfl ?_
        refine hG.get dX20_done_64 fg_X20_40_X2 (Or.inl hm.h) rfl ?_
        refine hG.iload_n dX20_done_67 rfl ?_
        refine hG.callI dX20_done_68 ki_X20_42 (sp_X9_init hΓ up1_s) rfl rfl (Nat.le_of_ble_eq_true rfl) (by decide) (by omega) (by omega) (fun r68 I68 L68 hI68 h68 => ?_) (fun _ _ _ _ _ h => h.elim)
        obtain ⟨rfl, rfl, rfl⟩ := h68
        rw [up1_up1]
        refine hG.fr up1_s ?_
        rw [up1_up1, show up1 L q none = L by rw [← hLq, up1_self]]
        have hF := h.mono (frI_le (I := I) (a := q) (e := ob ciX9 [.int (nI kk), .int R.st, .int (nI j)])) (fun _ _ _ hx => hx)
        refine hG.aload_n dX20_done_71 rfl ?_
        refine hG.get dX20_done_72 fg_X20_9_X20 (Or.inr (frI_le _ _ hx)) rfl ?_
        refine hG.aload_n dX20_done_75 rfl ?_
        refine hG.get dX20_done_76 fg_X20_15_X20 (Or.inr (frI_le _ _ hx)) rfl ?_
        refine hG.iconst (v := 1) dX20_done_79 rfl ?_
        refine hG.icmp_ne (tgt := 87) dX20_done_80 rfl (fun c_80 => ?_) (fun c_80 => ?_)
        · refine hG.iconst (v := 0) dX20_done_87 rfl ?_
          have hgr : frI I q (ob ciX9 [.int (nI kk), .int R.st, .int (nI j)]) q (ob ciX9 (grp (gco kk i j))) := by rw [gco_grp (by have := hw.1.1; omega) (by have := hw.1.1; omega), ← hst]; exact frI_s
          rw [show decide (s = 1) = false from decide_eq_false c_80] at ho
          refine hG.callV dX20_done_88 kv_X20_45 (Rcv.raw hF.h cl_X2) (sp_X2_board (w := false) hΓ hZ hF hgr (gco_lt hk3 (by have := hw.1.1; omega) (by have := hw.1.1; omega)) hw.2.2.2.1.1 hw.2.2.2.1.2.1 hw.2.2.2.1.2.2 (hw.2.2.1.1.dn g1) (hw.2.2.1.2.1.up g1 g2) (hw.2.2.1.2.2.up g1 g2)) rfl rfl (Nat.le_of_ble_eq_true rfl) (by decide) (by omega) (by omega) (fun r88 I88 L88 hI88 h88 => ?_) (fun E q I' L' hI hx => hG.out (by simp) (by rw [ho]; exact hx) (by omega) (by omega) trivial)
          obtain ⟨v, R9, A9, ho9, rfl, h2, F2⟩ := h88
          refine hG.iret dX20_done_91 rfl ?_ (by omega) (by omega) trivial
          exact ⟨v, R9, A9, ho.trans ho9, rfl, h2, F2⟩
        · refine hG.iconst (v := 1) dX20_done_83 rfl ?_
          refine hG.goto (tgt := 88) dX20_done_84 rfl ?_
          have hgr : frI I q (ob ciX9 [.int (nI kk), .int R.st, .int (nI j)]) q (ob ciX9 (grp (gco kk i j))) := by rw [gco_grp (by have := hw.1.1; omega) (by have := hw.1.1; omega), ← hst]; exact frI_s
          rw [show decide (s = 1) = true from decide_eq_true c_80] at ho
          refine hG.callV dX20_done_88 kv_X20_45 (Rcv.raw hF.h cl_X2) (sp_X2_board (w := true) hΓ hZ hF hgr (gco_lt hk3 (by have := hw.1.1; omega) (by have := hw.1.1; omega)) hw.2.2.2.1.1 hw.2.2.2.1.2.1 hw.2.2.2.1.2.2 (hw.2.2.1.1.dn g1) (hw.2.2.1.2.1.up g1 g2) (hw.2.2.1.2.2.up g1 g2)) rfl rfl (Nat.le_of_ble_eq_true rfl) (by decide) (by omega) (by omega) (fun r88 I88 L88 hI88 h88 => ?_) (fun E q I' L' hI hx => hG.out (by simp) (by rw [ho]; exact hx) (by omega) (by omega) trivial)
          obtain ⟨v, R9, A9, ho9, rfl, h2, F2⟩ := h88
          refine hG.iret dX20_done_91 rfl ?_ (by omega) (by omega) trivial
          exact ⟨v, R9, A9, ho.trans ho9, rfl, h2, F2⟩
