/-! the ferry: read -/
def rdO (R : Rv) (t : List Nat) : Out := match txF t with
  | .inl _ => .inr (.inl true)
  | .inr cs => match daF cs 0 R with
    | .inl R2 => .inl (nI cs.length, R2)
    | .inr p => .inr (.inr p)
def rdI (F : Fy) (t : List Nat) : Fy := match txF t with
  | .inl p => (F.wIp []).wFa (nI p)
  | .inr _ => F.wIp []
theorem rdI_f {F : Fy} {t : List Nat} {p : Nat} (h : txF t = .inl p) : rdI F t = (F.wIp []).wFa (nI p) := by
  unfold rdI
  rw [h]
theorem rdI_s {F : Fy} {t : List Nat} {cs : List Cm} (h : txF t = .inr cs) : rdI F t = F.wIp [] := by
  unfold rdI
  rw [h]
theorem rdO_f {R : Rv} {t : List Nat} {p : Nat} (h : txF t = .inl p) : rdO R t = .inr (.inl true) := by
  unfold rdO
  rw [h]
theorem rdO_s {R : Rv} {t : List Nat} {cs : List Cm} (h : txF t = .inr cs) : rdO R t = (match daF cs 0 R with
    | .inl R2 => .inl (nI cs.length, R2)
    | .inr p => .inr (.inr p)) := by
  unfold rdO
  rw [h]
theorem kv_X1_413 : LkV RX1 413 yX1_taken 0 := ⟨q2940, q2942, qs21, q73, by decide +kernel, by decide +kernel, by decide +kernel⟩
theorem ks_X1_416 : LkS RX1 416 yX1_doAll 2 := ⟨q3199, q3200, q73, by decide +kernel, by decide +kernel, by decide +kernel⟩
set_option maxHeartbeats 4000000 in
set_option maxRecDepth 100000 in
theorem sp_X1_read {l : Launch} {s0 : State} {D : va_G} {I : AI} {L : AL} {dE ca : Nat} {ad : Nat → Nat} {o : Option Nat} (hΓ : Gam l s0 D) (hZ : Std s0 D dE ca ad) (hNc : NcX s0) (hT : StX s0 D o) {x N : Nat} {F : Fy} {A : FA} (hF : FeO dE I L x F A) (hW : WfF N F) {k : Nat} {ml : Int32} {t : List Nat} (hin : L (FA.ip A) = some (sbC 60 k ml t)) (hk : k ≤ 1) (htc : ∀ c ∈ t, c < 65536) (h24 : t.length ≤ 24) (hN : N + t.length ≤ 23) : SpcW l s0 D yX1_read 18 [.ref x] I L 22000 190000 (pC dE (rdO F.rv t) x (rdI F t) L) (xC dE (rdO F.rv t) x (rdI F t) L) := by
  refine SpcW.of hΓ cX1_read 4 (some FieldType.int) [(22, 27, 30, 16)] q2939 (by decide +kernel) (by decide) (Nat.le_of_ble_eq_true rfl) (fun G GX hG => ?_)
  obtain ⟨hx, -⟩ := id hF
  refine hG.aload_n dX1_read_0 rfl ?_
  refine hG.callVW dX1_read_1 kv_X1_413 (Rcv.raw hx cl_X1) (sp_X1_taken hΓ hZ hT hF hin hk htc h24) rfl rfl (Nat.le_of_ble_eq_true rfl) (by decide) (by omega) (by omega) (fun r1 I1 L1 hI1 h1 => ?_) (fun _ _ _ _ _ h => h.elim)
  rcases h1 with ⟨p9, x1, rfl, hF1, hf1⟩ | ⟨cs, xs, la, mo, x1, rfl, hla, hds, h5c, hF1, hf1, hlaL⟩
  · refine hG.astore_nN dX1_read_4 (by decide) ?_
    refine hG.aload_nN dX1_read_5 rfl ?_
    refine hG.ifnullN (tgt := 13) dX1_read_6 rfl ?_
    refine hG.iconst (v := 0) dX1_read_13 rfl ?_
    refine hG.callS dX1_read_14 ks_X1_68 (sp_X1_require (b := false) hΓ) rfl rfl (Nat.le_of_ble_eq_true rfl) (by decide) (by omega) (by omega) (fun r14 I14 L14 hI14 h14 => ?_) (fun E q I' L' hI ⟨e1, e2, e3⟩ => hG.out (by intro z hz; simp only [List.map_cons, List.map_nil, List.mem_singleton] at hz; subst hz; rfl) ⟨Or.inl ⟨true, rdO_f x1, e1⟩, A, by rw [rdO_f x1, rdI_f x1, ← e3]; exact hF1.mono hI (fun _ _ h => h), e3 ▸ hf1⟩ (by omega) (by omega) trivial)
    exact absurd h14.2.1 (by decide)
  · have hF2 : FeO dE I1 L1 x (F.wIp []) A := hF1.mono ile_rf (fun z y hz => (up1_n (fun (e : z = la) => by rw [e, up1_s] at hz; cases hz)).symm.trans hz)
    obtain ⟨hx2, hr2, hpq2, hpa2, -⟩ := id hF2
    refine hG.astore_n dX1_read_4 (by decide) ?_
    refine hG.aload_n dX1_read_5 rfl ?_
    refine hG.ifnull dX1_read_6 ?_
    refine hG.iconst (v := 1) dX1_read_9 rfl ?_
    refine hG.goto (tgt := 14) dX1_read_10 rfl ?_
    refine hG.callS dX1_read_14 ks_X1_68 (sp_X1_require (b := true) hΓ) rfl rfl (Nat.le_of_ble_eq_true rfl) (by decide) (by omega) (by omega) (fun r14 I14 L14 hI14 h14 => ?_) (fun E q I' L' hI ⟨e1, e2, e3⟩ => absurd e2 (by decide))
    obtain ⟨rfl, -, rfl, rfl⟩ := h14
    refine hG.aload_n dX1_read_17 rfl ?_
    refine hG.callV dX1_read_18 kv_X1_129 (Rcv.raw hx2 cl_X1) (sp_X1_draft hΓ hZ hx2 hr2 hW.1 (by omega)) rfl rfl (Nat.le_of_ble_eq_true rfl) (by decide) (by omega) (by omega) (fun r18 I18 L18 hI18 h18 => ?_) (fun _ _ _ _ _ h => h.elim)
    obtain ⟨r2, A2, rfl, h2, F1⟩ := h18
    have hL18 : ∀ z y, L1 z = some y → L18 z = some y := fun z y hz => (F1 z y hz (by simp)).2
    refine hG.astore_n dX1_read_21 (by decide) ?_
    refine hG.lsb [(0, .ref x), (1, .ref la), (2, .ref r2)] ⟨rfl, rfl, rfl, trivial⟩ ?_
    have kx24 : ∀ (E : String) (q : Nat) (I' : AI) (L' : AL), ile I18 I' → (E = RX7 ∧ ∃ (p : Int32 × Int32) (A' : RA), daF cs 0 F.rv = .inr p ∧ I' q (rfE p.1 p.2) ∧ Far L18 (RN r2 A2) (RN r2 A') L') → GX 24 [(0, .ref x), (1, .ref la), (2, .ref r2)] [] E q I' L' (0 + 2620 + 1 + 311 + 18510) (0 + 113000 + 6 + 3470 + 65020) := by
      rintro E q I' L' hI ⟨rfl, p, A4, hda, e3, F4⟩
      have ho : rdO F.rv t = .inr (.inr p) := (rdO_s x1).trans (by rw [hda])
      have hL4 : ∀ z y, L1 z = some y → L' z = some y := fun z y hz => by
        have q1 := F1 z y hz (by simp)
        exact (F4 z y q1.2 q1.1).2
      have hx4 := hL4 _ _ hx2
      refine hG.catch_ [] { startPc := 22, endPc := 27, handlerPc := 30, catchType := 16 } [] rfl (fun z hz => (nomatch hz)) rfl (by decide) q400 q1698 ?_
      refine hG.astore_n dX1_read_30 (by decide) ?_
      refine hG.aload_n dX1_read_31 rfl ?_
      refine hG.aload_n dX1_read_32 rfl ?_
      refine hG.get dX1_read_33 fg_X1_143_X7 (Or.inr e3) rfl ?_
      refine hG.aload_n dX1_read_36 rfl ?_
      refine hG.get dX1_read_37 fg_X1_144_X7 (Or.inr e3) rfl ?_
      refine hG.callV dX1_read_40 kv_X1_145 (Rcv.raw hx4 cl_X1) (sp_X1_refuse hΓ hx4) rfl rfl (Nat.le_of_ble_eq_true rfl) (by decide) (by omega) (by omega) (fun r40 I40 L40 hI40 h40 => ?_) (fun _ _ _ _ _ h => h.elim)
      obtain ⟨qe, rfl, hqe, rfl⟩ := h40
      refine hG.athrow dX1_read_43 (Rcv.imm hqe cl_J35) ?_
      refine hG.out (by intro z hz; simp only [List.map_cons, List.map_nil, List.mem_singleton] at hz; subst hz; rfl) ⟨Or.inr ⟨p, ho, rfl⟩, A, ?_, ?_⟩ (by omega) (by omega) trivial
      · rw [ho, rdI_s x1]
        exact (hF2.mono (ile_tr hI18 (ile_tr hI hI40)) hL4).nums F.fa p.1 p.2
      · exact fun z e hz hn => (up1_n hn).trans (hL4 z _ (hf1 z e hz hn))
    refine hG.aload_n dX1_read_22 rfl ?_
    refine hG.aload_n dX1_read_23 rfl ?_
    refine hG.callSW dX1_read_24 ks_X1_416 (sp_X1_doAll hΓ hZ hNc (hL18 _ _ hla) (hds.mono hI18) h2 (F1 _ _ hla (by simp)).1 hW.1 (by omega) (by omega)) rfl rfl (Nat.le_of_ble_eq_true rfl) (by decide) (by omega) (by omega) (fun r24 I24 L24 hI24 h24 => ?_) kx24
    obtain ⟨rfl, R2, A3, hda, h3, F3⟩ := h24
    have ho : rdO F.rv t = .inl (nI cs.length, R2) := (rdO_s x1).trans (by rw [hda])
    have hLk : ∀ z y, L1 z = some y → z ∉ RN r2 A3 ∧ L24 z = some y := fun z y hz => by
      have q1 := F1 z y hz (by simp)
      exact F3 z y q1.2 q1.1
    refine hG.clR (cutL L24 (RN r2 A3)) h3 (fun z y hz hza => cutL_i hz) ?_
    have hr3 : L1 r2 = none := by
      cases hy : L1 r2 with
      | none => rfl
      | some y => exact absurd (List.mem_cons_self) (hLk r2 y hy).1
    have hL3 : ∀ z y, L1 z = some y → up1 (cutL L24 (RN r2 A3)) r2 (some (rvC dE R2)) z = some y := fun z y hz => (up1_n (ne_none hz hr3)).trans ((cutL_n (hLk z y hz).1).trans (hLk z y hz).2)
    generalize hLL : up1 (cutL L24 (RN r2 A3)) r2 (some (rvC dE R2)) = L3 at hL3 ⊢
    have hr23 : L3 r2 = some (rvC dE R2) := by rw [← hLL]; exact up1_s
    refine hG.goto (tgt := 44) dX1_read_27 rfl ?_
    refine hG.aload_n dX1_read_44 rfl ?_
    refine hG.aload_n dX1_read_45 rfl ?_
    refine hG.callV dX1_read_46 kv_X1_139 (Rcv.raw (hL3 _ _ hx2) cl_X1) (sp_X1_replace hΓ (hL3 _ _ hx2) (hL3 _ _ hr2) (hL3 _ _ hpq2) (by rw [hpa2.len]; exact hW.2.2.1) (fun z hz => by obtain ⟨R, hR⟩ := hpa2.mem z hz; exact ⟨R, hL3 _ _ hR⟩)) rfl rfl (Nat.le_of_ble_eq_true rfl) (by decide) (by omega) (by omega) (fun r46 I46 L46 hI46 h46 => ?_) (fun _ _ _ _ _ h => h.elim)
    obtain ⟨rfl, rfl, rfl⟩ := h46
    have hla9 : ∀ c1 c2 : Option Cel, up1 (up1 L3 (FA.pq A) c1) x c2 la = some (liC dE mo xs) := fun c1 c2 => (up1_n (ne_val (hL3 _ _ hla) (hL3 _ _ hx2) (fun e => by cases e))).trans ((up1_n (ne_val (hL3 _ _ hla) (hL3 _ _ hpq2) (ne_kind (by decide)))).trans (hL3 _ _ hla))
    refine hG.aload_n dX1_read_49 rfl ?_
    refine hG.callF dX1_read_50 kf_X1_342_J2 (Rcv.li (hla9 _ _)) cl_J2 (sp_J2_size hΓ (hla9 _ _)) rfl rfl (Nat.le_of_ble_eq_true rfl) (by decide) (by omega) (by omega) (fun r50 I50 L50 hI50 h50 => ?_) (fun _ _ _ _ _ h => h.elim)
    obtain ⟨rfl, rfl, rfl⟩ := h50
    rw [hds.len]
    refine hG.iret dX1_read_55 rfl ?_ (by omega) (by omega) trivial
    refine ⟨nI cs.length, R2, (r2, FA.pq A, FA.ip A, FA.ln A, (FA.r A :: FA.xs A).take 8, FA.sv A), ho, rfl, ?_, fun z e hz hn => (up1_n hn).trans ((up1_n (ne_val (hf1 z e hz hn) hpq2 (fun e => by cases e))).trans (hL3 z _ (hf1 z e hz hn)))⟩
    rw [ho, rdI_s x1]
    exact hF2.chg (ile_tr hI18 (ile_tr hI24 hI46)) up1_s ((up1_n (ne_val hr23 (hL3 _ _ hx2) (fun e => by cases e))).trans ((up1_n (ne_val hr23 (hL3 _ _ hpq2) (ne_kind (by decide)))).trans hr23)) ((up1_n (ne_val (hL3 _ _ hpq2) (hL3 _ _ hx2) (fun e => by cases e))).trans up1_s) (fun z y hz n1 n2 => (up1_n n1).trans ((up1_n n2).trans (hL3 z y hz))) hr3
