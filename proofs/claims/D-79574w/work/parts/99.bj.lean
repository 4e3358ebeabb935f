/-! the ferry: the deeds of a text done, read -/
/-- a text's deeds done one after another -/
def daF : List Cm → Nat → Rv → Rv ⊕ (Int32 × Int32)
  | [], _, R => .inl R
  | c :: cs, i, R => match outC c R with
    | .inl (_, R2) => daF cs (i + 1) R2
    | .inr (.inl _) => .inr (20, nI i)
    | .inr (.inr p) => .inr p
theorem da_s {c : Cm} {cs : List Cm} {i : Nat} {R R2 : Rv} {v : Int32} (h : outC c R = .inl (v, R2)) : daF (c :: cs) i R = daF cs (i + 1) R2 := by
  show (match outC c R with
    | .inl (_, R2) => daF cs (i + 1) R2
    | .inr (.inl _) => .inr (20, nI i)
    | .inr (.inr p) => .inr p) = _
  rw [h]
theorem da_b {c : Cm} {cs : List Cm} {i : Nat} {R : Rv} {b : Bool} (h : outC c R = .inr (.inl b)) : daF (c :: cs) i R = .inr (20, nI i) := by
  show (match outC c R with
    | .inl (_, R2) => daF cs (i + 1) R2
    | .inr (.inl _) => .inr (20, nI i)
    | .inr (.inr p) => .inr p) = _
  rw [h]
theorem da_p {c : Cm} {cs : List Cm} {i : Nat} {R : Rv} {p : Int32 × Int32} (h : outC c R = .inr (.inr p)) : daF (c :: cs) i R = .inr p := by
  show (match outC c R with
    | .inl (_, R2) => daF cs (i + 1) R2
    | .inr (.inl _) => .inr (20, nI i)
    | .inr (.inr p) => .inr p) = _
  rw [h]
theorem da_wf {N : Nat} : ∀ {cs : List Cm} {i : Nat} {R R2 : Rv}, Wf N R → N + cs.length ≤ 400 → daF cs i R = .inl R2 → Wf (N + cs.length) R2
  | [], _, R, R2, h, _, e => by cases e; exact h
  | c :: cs, i, R, R2, h, hN, e => by
    have hl : (c :: cs).length = cs.length + 1 := rfl
    cases ho : outC c R with
    | inl q =>
      obtain ⟨v, R3⟩ := q
      rw [da_s ho] at e
      have h1 := OW.out h (by omega) v R3 ho
      have h2 := da_wf h1 (by omega) e
      rw [hl, show N + (cs.length + 1) = N + 1 + cs.length by omega]
      exact h2
    | inr q => cases q with
      | inl b => rw [da_b ho] at e; cases e
      | inr p => rw [da_p ho] at e; cases e
def ciD (c : Cm) : Nat := match c with
  | (0, _) => ciX24
  | (1, _) => ciX25
  | (2, _) => ciX21
  | (3, _) => ciX19
  | (4, _) => ciX20
  | (5, _) => ciX16
  | _ => ciX18
theorem kf_X1_33_J15 : LkF RX1 33 RJ15 ⟨"java/util/Iterator", "hasNext", "()Z"⟩ yJ15_hasNext 0 := ⟨q1806, q443, q445, q94, ⟨by decide +kernel, by decide +kernel, by decide +kernel⟩, q441, q440, q446, q444, q442⟩
theorem kf_X1_39_J15 : LkF RX1 39 RJ15 ⟨"java/util/Iterator", "next", "()Ljava/lang/Object;"⟩ yJ15_next 0 := ⟨q1808, q458, q460, q94, ⟨by decide +kernel, by decide +kernel, by decide +kernel⟩, q457, q456, q461, q459, q442⟩
theorem kf_X1_362_J2 : LkF RX1 362 RJ2 ⟨"java/util/List", "iterator", "()Ljava/util/Iterator;"⟩ yJ2_iterator 0 := ⟨q2871, q414, q416, q77, ⟨by decide +kernel, by decide +kernel, by decide +kernel⟩, q412, q411, q417, q415, q413⟩
set_option maxHeartbeats 4000000 in
set_option maxRecDepth 100000 in
theorem sp_X1_doAll {l : Launch} {s0 : State} {D : va_G} {I : AI} {L : AL} {dE ca : Nat} {ad : Nat → Nat} (hΓ : Gam l s0 D) (hZ : Std s0 D dE ca ad) (hNc : NcX s0) {la r N : Nat} {R : Rv} {A : RA} {mo : Int32} {xs : List Nat} {cs : List Cm} (hla : L la = some (liC dE mo xs)) (hds : DsA I xs cs) (h : RvO dE I L r R A) (hlan : la ∉ RN r A) (hw : Wf N R) (hN : N + cs.length ≤ 23) (h5 : cs.length ≤ 5) : SpcW l s0 D yX1_doAll 16 [.ref la, .ref r] I L 18510 65020 (fun q I' L' => q = none ∧ ∃ (R' : Rv) (A' : RA), daF cs 0 R = .inl R' ∧ RvO dE I' L' r R' A' ∧ Far L (RN r A) (RN r A') L') (fun E q I' L' => E = RX7 ∧ ∃ (p : Int32 × Int32) (A' : RA), daF cs 0 R = .inr p ∧ I' q (rfE p.1 p.2) ∧ Far L (RN r A) (RN r A') L') := by
  refine SpcW.of hΓ cX1_doAll 6 none [(29, 39, 42, 7), (29, 39, 42, 1)] q3201 (by decide +kernel) (by decide) (Nat.le_of_ble_eq_true rfl) (fun G GX hG => ?_)
  refine hG.iconst (v := 0) dX1_doAll_0 rfl ?_
  refine hG.istore_n dX1_doAll_1 (by decide) ?_
  refine hG.aload_n dX1_doAll_2 rfl ?_
  refine hG.callF dX1_doAll_3 kf_X1_362_J2 (Rcv.li hla) cl_J2 (sp_J2_iterator hΓ hla) rfl rfl (Nat.le_of_ble_eq_true rfl) (by decide) (by omega) (by omega) (fun r3 I3 L3 hI3 h3 => ?_) (fun _ _ _ _ _ h => h.elim)
  obtain ⟨rfl, it, hita, hitn, rfl, rfl⟩ := h3
  refine hG.astore_n dX1_doAll_8 (by decide) ?_
  have hlaL := hla
  have hl9 := hds.len
  have loop : ∀ (cs2 : List Cm) (i : Nat) (R1 : Rv) (A1 : RA) (I1 : AI) (L1 : AL) (lr : Int32) (N1 : Nat), ile I I1 → i + cs2.length = cs.length → cs.drop i = cs2 → daF cs 0 R = daF cs2 i R1 → Wf N1 R1 → N1 + cs2.length ≤ 23 → L1 it = some (obC ciJ15 [.int (nI i), .int lr, .int mo, .ref la]) → L1 la = some (liC dE mo xs) → RvO dE I1 L1 r R1 A1 → it ∉ RN r A1 → la ∉ RN r A1 → Far L (RN r A) (RN r A1) L1 → G 9 [(0, .ref la), (1, .ref r), (2, .int (nI i)), (3, .ref it)] [] I1 L1 (1 + 3700 * i) (4 + 13000 * i) := by
    intro cs2
    induction cs2 with
    | nil =>
      intro i R1 A1 I1 L1 lr N1 hI1 hiw hdr hda hw1 hN1 hit hla1 h1 hit1 hlan hF
      have hiw : i = cs.length := hiw
      refine hG.aload_n dX1_doAll_9 rfl ?_
      refine hG.callF dX1_doAll_10 kf_X1_33_J15 (Rcv.raw hit cl_J15) cl_J15 (sp_J15_hasNext hΓ (by omega) hla1 hit) rfl rfl (Nat.le_of_ble_eq_true rfl) (by decide) (by omega) (by omega) (fun r10 I10 L10 hI10 h10 => ?_) (fun _ _ _ _ _ h => h.elim)
      obtain ⟨rfl, rfl, rfl⟩ := h10
      refine hG.if_eq (tgt := 61) dX1_doAll_15 rfl (fun c_15 => ?_) (fun c_15 => absurd (by rw [decide_eq_false (by omega)]; rfl) c_15)
      refine hG.vret dX1_doAll_61 rfl ?_ (by omega) (by omega) trivial
      exact ⟨rfl, R1, A1, hda, h1, hF⟩
    | cons c cs2 ih =>
      intro i R1 A1 I1 L1 lr N1 hI1 hiw hdr hda hw1 hN1 hit hla1 h1 hit1 hlan hF
      have hil : i < cs.length := by rw [List.length_cons] at hiw; omega
      obtain ⟨y, hy, hD0⟩ := hds.get (i := i) (c := c) (by have e := List.getElem?_drop (xs := cs) (i := i) (j := 0); rw [hdr] at e; exact e.symm)
      have hD := hD0.mono hI1
      refine hG.aload_n dX1_doAll_9 rfl ?_
      refine hG.callF dX1_doAll_10 kf_X1_33_J15 (Rcv.raw hit cl_J15) cl_J15 (sp_J15_hasNext hΓ (by omega) hla1 hit) rfl rfl (Nat.le_of_ble_eq_true rfl) (by decide) (by omega) (by omega) (fun r10 I10 L10 hI10 h10 => ?_) (fun _ _ _ _ _ h => h.elim)
      obtain ⟨rfl, rfl, rfl⟩ := h10
      refine hG.if_eq (tgt := 61) dX1_doAll_15 rfl (fun c_15 => absurd c_15 (by rw [decide_eq_true (by omega)]; decide)) (fun c_15 => ?_)
      refine hG.aload_n dX1_doAll_18 rfl ?_
      refine hG.callF dX1_doAll_19 kf_X1_39_J15 (Rcv.raw hit cl_J15) cl_J15 (sp_J15_next hΓ hy hla1 hit) rfl rfl (Nat.le_of_ble_eq_true rfl) (by decide) (by omega) (by omega) (fun r19 I19 L19 hI19 h19 => ?_) (fun _ _ _ _ _ h => h.elim)
      obtain ⟨rfl, rfl, rfl⟩ := h19
      have kc : G 27 [(0, .ref la), (1, .ref r), (2, .int (nI i)), (3, .ref it)] [.ref y] I1 (up1 L1 it (some (obC ciJ15 [.int (nI (i + 1)), .int (nI i), .int mo, .ref la]))) (1 + 3700 * i) (4 + 13000 * i) → G 24 [(0, .ref la), (1, .ref r), (2, .int (nI i)), (3, .ref it)] [.ref y] I1 (up1 L1 it (some (obC ciJ15 [.int (nI (i + 1)), .int (nI i), .int mo, .ref la]))) (1 + 3700 * i) (4 + 13000 * i) := by
        intro kk
        obtain ⟨n, a, b, e, f⟩ := c
        rcases n with _ | _ | _ | _ | _ | _ | n
        · refine hG.castY dX1_doAll_24 q3202 (Rcv.imm hD cl_X24) q1858 ?_
          exact kk
        · refine hG.castY dX1_doAll_24 q3202 (Rcv.imm hD cl_X25) q2056 ?_
          exact kk
        · refine hG.castY dX1_doAll_24 q3202 (Rcv.imm hD cl_X21) q2026 ?_
          exact kk
        · refine hG.castY dX1_doAll_24 q3202 (Rcv.imm hD cl_X19) q1842 ?_
          exact kk
        · refine hG.castY dX1_doAll_24 q3202 (Rcv.imm hD cl_X20) q1745 ?_
          exact kk
        · refine hG.castY dX1_doAll_24 q3202 (Rcv.imm hD cl_X16) q1622 ?_
          exact kk
        · refine hG.castY dX1_doAll_24 q3202 (Rcv.imm hD cl_X18) q2197 ?_
          exact kk
      refine kc ?_
      refine hG.astore dX1_doAll_27 (by decide) ?_
      refine hG.lsb [(0, .ref la), (1, .ref r), (2, .int (nI i)), (3, .ref it), (4, .ref y)] ⟨rfl, rfl, rfl, rfl, rfl, trivial⟩ ?_
      have hlit : la ≠ it := fun e => by rw [e, hitn] at hlaL; cases hlaL
      have h2 : RvO dE I1 (up1 L1 it (some (obC ciJ15 [.int (nI (i + 1)), .int (nI i), .int mo, .ref la]))) r R1 A1 := h1.aw ile_rf hit1 _
      have hwc := hw1.wc (by rw [List.length_cons] at hN1; omega)
      have hF2 : Far L (RN r A) (RN r A1) (up1 L1 it (some (obC ciJ15 [.int (nI (i + 1)), .int (nI i), .int mo, .ref la]))) := fun z y9 hz hn => ⟨(hF z y9 hz hn).1, (up1_n (ne_none hz hitn)).trans (hF z y9 hz hn).2⟩
      have kOk : ∀ (v : Int32) (R3 : Rv) (A3 : RA) (I3 : AI) (L3 : AL), ile I1 I3 → outC c R1 = .inl (v, R3) → RvO dE I3 L3 r R3 A3 → Far (up1 L1 it (some (obC ciJ15 [.int (nI (i + 1)), .int (nI i), .int mo, .ref la]))) (RN r A1) (RN r A3) L3 → G 37 [(0, .ref la), (1, .ref r), (2, .int (nI i)), (3, .ref it), (4, .ref y)] [.int v] I3 L3 (1 + 3700 * i + 3700) (4 + 13000 * i + 13000) := by
        intro v R3 A3 I3 L3 hI3 ho h9 f9
        refine hG.istore dX1_doAll_37 (by decide) ?_
        refine hG.goto (tgt := 55) dX1_doAll_39 rfl ?_
        refine hG.iinc dX1_doAll_55 rfl (by decide) ?_
        refine hG.goto (tgt := 9) dX1_doAll_58 rfl ?_
        rw [show nI i + Int32.ofInt 1 = nI (i + 1) from nI_1 i]
        exact hG.lsb [(0, .ref la), (1, .ref r), (2, .int (nI (i + 1))), (3, .ref it)] ⟨rfl, rfl, rfl, rfl, trivial⟩ (hG.wid (k' := 1 + 3700 * (i + 1)) (n' := 4 + 13000 * (i + 1)) (by omega) (by omega) (ih (i + 1) R3 A3 I3 L3 (nI i) (N1 + 1) (ile_tr hI1 hI3) (by rw [← hiw, List.length_cons]; omega) (by rw [← List.drop_drop, hdr]; rfl) (hda.trans (da_s ho)) (OW.out hw1 (by rw [List.length_cons] at hN1; omega) v R3 ho) (by rw [List.length_cons] at hN1; omega) (f9 it _ up1_s hit1).2 (f9 la _ ((up1_n hlit).trans hla1) hlan).2 h9 (f9 it _ up1_s hit1).1 (f9 la _ ((up1_n hlit).trans hla1) hlan).1 (fun z y9 hz hn => by
          obtain ⟨g1, g2⟩ := hF z y9 hz hn
          have g3 := f9 z y9 ((up1_n (ne_none hz hitn)).trans g2) g1
          exact g3)))
      have kEx : ∀ (E : String) (q : Nat) (I3 : AI) (L3 : AL), ile I1 I3 → xO (outC c R1) (up1 L1 it (some (obC ciJ15 [.int (nI (i + 1)), .int (nI i), .int mo, .ref la]))) E q I3 L3 → GX 32 [(0, .ref la), (1, .ref r), (2, .int (nI i)), (3, .ref it), (4, .ref y)] [] E q I3 L3 (1 + 3700 * i + 3700) (4 + 13000 * i + 13000) := by
        intro E q I3 L3 hI hxo
        obtain ⟨rfl, ⟨b, e1, rfl⟩ | ⟨p, e1, rfl, e3⟩⟩ := hxo
        · cases b
          · refine hG.catch_ [] { startPc := 29, endPc := 39, handlerPc := 42, catchType := 7 } [{ startPc := 29, endPc := 39, handlerPc := 42, catchType := 1 }] rfl (fun z hz => (nomatch hz)) rfl (by decide) q1647 q1649 ?_
            refine hG.astore dX1_doAll_42 (by decide) ?_
            refine hG.new dX1_doAll_44 nw_X1_16 (by omega) (by omega) (fun q9 hLq9 hIq9 => ?_)
            refine hG.dup dX1_doAll_47 rfl ?_
            refine hG.bipush (v := 20) dX1_doAll_48 rfl ?_
            refine hG.iload_n dX1_doAll_50 rfl ?_
            refine hG.callI dX1_doAll_51 ki_X1_18 (sp_X7_init hΓ up1_s) rfl rfl (Nat.le_of_ble_eq_true rfl) (by decide) (by omega) (by omega) (fun r51 I51 L51 hI51 h51 => ?_) (fun _ _ _ _ _ h => h.elim)
            obtain ⟨rfl, rfl, rfl⟩ := h51
            rw [up1_up1]
            refine hG.fr up1_s ?_
            rw [up1_up1, show up1 (up1 L1 it (some (obC ciJ15 [.int (nI (i + 1)), .int (nI i), .int mo, .ref la]))) q9 none = (up1 L1 it (some (obC ciJ15 [.int (nI (i + 1)), .int (nI i), .int mo, .ref la]))) by rw [← hLq9, up1_self]]
            refine hG.athrow dX1_doAll_54 (Rcv.imm frI_s cl_X7) ?_
            exact hG.out (by simp) ⟨rfl, (20, nI i), A1, hda.trans (da_b e1), frI_s, hF2⟩ (by omega) (by omega) trivial
          · refine hG.catch_ [{ startPc := 29, endPc := 39, handlerPc := 42, catchType := 7 }] { startPc := 29, endPc := 39, handlerPc := 42, catchType := 1 } [] rfl (fun z hz => ?_) rfl (by decide) q1685 q885 ?_
            · rw [List.mem_singleton.mp hz]
              exact Or.inr ⟨by decide, RJ33, q1647, hNc.2.2.2.2⟩
            refine hG.astore dX1_doAll_42 (by decide) ?_
            refine hG.new dX1_doAll_44 nw_X1_16 (by omega) (by omega) (fun q9 hLq9 hIq9 => ?_)
            refine hG.dup dX1_doAll_47 rfl ?_
            refine hG.bipush (v := 20) dX1_doAll_48 rfl ?_
            refine hG.iload_n dX1_doAll_50 rfl ?_
            refine hG.callI dX1_doAll_51 ki_X1_18 (sp_X7_init hΓ up1_s) rfl rfl (Nat.le_of_ble_eq_true rfl) (by decide) (by omega) (by omega) (fun r51 I51 L51 hI51 h51 => ?_) (fun _ _ _ _ _ h => h.elim)
            obtain ⟨rfl, rfl, rfl⟩ := h51
            rw [up1_up1]
            refine hG.fr up1_s ?_
            rw [up1_up1, show up1 (up1 L1 it (some (obC ciJ15 [.int (nI (i + 1)), .int (nI i), .int mo, .ref la]))) q9 none = (up1 L1 it (some (obC ciJ15 [.int (nI (i + 1)), .int (nI i), .int mo, .ref la]))) by rw [← hLq9, up1_self]]
            refine hG.athrow dX1_doAll_54 (Rcv.imm frI_s cl_X7) ?_
            exact hG.out (by simp) ⟨rfl, (20, nI i), A1, hda.trans (da_b e1), frI_s, hF2⟩ (by omega) (by omega) trivial
        · refine hG.outP (fun z hz => ?_) ⟨rfl, p, A1, hda.trans (da_p e1), e3, hF2⟩ (by omega) (by omega) trivial
          simp only [List.map_cons, List.map_nil, List.mem_cons, List.not_mem_nil, or_false] at hz
          rcases hz with rfl | rfl
          · exact Or.inr ⟨by decide, RJ33, q1647, hNc.2.2.1⟩
          · exact Or.inr ⟨by decide, RJ14, q1685, hNc.2.2.2.1⟩
      obtain ⟨n, a, b, e, f⟩ := c
      rcases n with _ | _ | _ | _ | _ | _ | n
      · refine hG.aload dX1_doAll_29 rfl ?_
        refine hG.aload_n dX1_doAll_31 rfl ?_
        refine hG.callF dX1_doAll_32 kf_X1_133_X24 (Rcv.imm hD cl_X24) cl_X24 (sp_X24_done hΓ hZ h2 hwc hD) rfl rfl (Nat.le_of_ble_eq_true rfl) (by decide) (by omega) (by omega) (fun r32 I32 L32 hI32 h32 => ?_) kEx
        obtain ⟨v, R3, A3, ho, rfl, h9, f9⟩ := h32
        exact kOk v R3 A3 _ _ hI32 ho h9 f9
      · refine hG.aload dX1_doAll_29 rfl ?_
        refine hG.aload_n dX1_doAll_31 rfl ?_
        refine hG.callF dX1_doAll_32 kf_X1_133_X25 (Rcv.imm hD cl_X25) cl_X25 (sp_X25_done hΓ hZ h2 hwc hD) rfl rfl (Nat.le_of_ble_eq_true rfl) (by decide) (by omega) (by omega) (fun r32 I32 L32 hI32 h32 => ?_) kEx
        obtain ⟨v, R3, A3, ho, rfl, h9, f9⟩ := h32
        exact kOk v R3 A3 _ _ hI32 ho h9 f9
      · refine hG.aload dX1_doAll_29 rfl ?_
        refine hG.aload_n dX1_doAll_31 rfl ?_
        refine hG.callF dX1_doAll_32 kf_X1_133_X21 (Rcv.imm hD cl_X21) cl_X21 (sp_X21_done hΓ hZ h2 hwc hD) rfl rfl (Nat.le_of_ble_eq_true rfl) (by decide) (by omega) (by omega) (fun r32 I32 L32 hI32 h32 => ?_) kEx
        obtain ⟨v, R3, A3, ho, rfl, h9, f9⟩ := h32
        exact kOk v R3 A3 _ _ hI32 ho h9 f9
      · refine hG.aload dX1_doAll_29 rfl ?_
        refine hG.aload_n dX1_doAll_31 rfl ?_
        refine hG.callF dX1_doAll_32 kf_X1_133_X19 (Rcv.imm hD cl_X19) cl_X19 (sp_X19_done hΓ hZ h2 hwc hD) rfl rfl (Nat.le_of_ble_eq_true rfl) (by decide) (by omega) (by omega) (fun r32 I32 L32 hI32 h32 => ?_) kEx
        obtain ⟨v, R3, A3, ho, rfl, h9, f9⟩ := h32
        exact kOk v R3 A3 _ _ hI32 ho h9 f9
      · refine hG.aload dX1_doAll_29 rfl ?_
        refine hG.aload_n dX1_doAll_31 rfl ?_
        refine hG.callF dX1_doAll_32 kf_X1_133_X20 (Rcv.imm hD cl_X20) cl_X20 (sp_X20_done hΓ hZ h2 hwc hD) rfl rfl (Nat.le_of_ble_eq_true rfl) (by decide) (by omega) (by omega) (fun r32 I32 L32 hI32 h32 => ?_) kEx
        obtain ⟨v, R3, A3, ho, rfl, h9, f9⟩ := h32
        exact kOk v R3 A3 _ _ hI32 ho h9 f9
      · refine hG.aload dX1_doAll_29 rfl ?_
        refine hG.aload_n dX1_doAll_31 rfl ?_
        refine hG.callF dX1_doAll_32 kf_X1_133_X16 (Rcv.imm hD cl_X16) cl_X16 (sp_X16_done hΓ hZ h2 hwc hD) rfl rfl (Nat.le_of_ble_eq_true rfl) (by decide) (by omega) (by omega) (fun r32 I32 L32 hI32 h32 => ?_) kEx
        obtain ⟨v, R3, A3, ho, rfl, h9, f9⟩ := h32
        exact kOk v R3 A3 _ _ hI32 ho h9 f9
      · refine hG.aload dX1_doAll_29 rfl ?_
        refine hG.aload_n dX1_doAll_31 rfl ?_
        refine hG.callF dX1_doAll_32 kf_X1_133_X18 (Rcv.imm hD cl_X18) cl_X18 (sp_X18_done hΓ hZ h2 hwc hD) rfl rfl (Nat.le_of_ble_eq_true rfl) (by decide) (by omega) (by omega) (fun r32 I32 L32 hI32 h32 => ?_) kEx
        obtain ⟨v, R3, A3, ho, rfl, h9, f9⟩ := h32
        exact kOk v R3 A3 _ _ hI32 ho h9 f9
  exact hG.lsb [(0, .ref la), (1, .ref r), (2, .int (nI 0)), (3, .ref it)] ⟨rfl, rfl, rfl, rfl, trivial⟩ (loop cs 0 R A I _ (-1) N ile_rf (Nat.zero_add _) rfl rfl hw hN up1_s ((up1_n hita.symm).trans hla) (h.nw ile_rf hitn _) (fun hm => h.dom it hm hitn) hlan (fun z y hz hn => ⟨hn, (up1_n (ne_none hz hitn)).trans hz⟩))
