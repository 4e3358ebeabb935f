/-! a deed done to the ferry -/
theorem FeO.chg {dE : Nat} {I J : AI} {L L' : AL} {x : Nat} {F : Fy} {A : FA} {r2 : Nat} {R2 : Rv} (h : FeO dE I L x F A) (hI : ile I J) (h1 : L' x = some (feC r2 (FA.pq A) (FA.ip A) (FA.ln A) F.fa F.re F.de (FA.sv A))) (h2 : L' r2 = some (rvC dE R2)) (h3 : L' (FA.pq A) = some (dqC ((FA.r A :: FA.xs A).take 8))) (hk : ∀ z y, L z = some y → z ≠ x → z ≠ FA.pq A → L' z = some y) (hf : L r2 = none) : FeO dE J L' x ((F.wRv R2).wPa (pushP F.rv F.pa)) (r2, FA.pq A, FA.ip A, FA.ln A, (FA.r A :: FA.xs A).take 8, FA.sv A) := by
  obtain ⟨g1, g2, g3, g4, ⟨k, ml, t, g5, g6, g7, g75, g8⟩, g9, g10, g11⟩ := h
  have kr : ∀ z R, L z = some (rvC dE R) → L' z = some (rvC dE R) := fun z R hz => hk z _ hz (ne_val hz g1 (fun e => by cases e)) (ne_val hz g3 (ne_kind (by decide)))
  have ks : ∀ z y b k2 ml2 cs, L z = some y → y = sbC b k2 ml2 cs → L' z = some y := fun z y b k2 ml2 cs hz e => by
    subst e
    exact hk z _ hz (ne_val hz g1 (fun e => by cases e)) (ne_val hz g3 (ne_kind (by decide)))
  have gc : RvL dE L (FA.r A :: FA.xs A) (F.rv :: F.pa) := ⟨g2, g4⟩
  refine ⟨h1, h2, h3, (gc.take 8).mono (fun z hz y hy => ?_), ⟨k, ml, t, g5, g6, g7, g75, ks _ _ _ _ _ _ g8 rfl⟩, ?_, ?_, ?_⟩
  · obtain ⟨R, hR⟩ := gc.mem z (List.mem_of_mem_take hz)
    rw [hR] at hy
    cases hy
    exact kr z R hR
  · obtain ⟨cs, q1, q2, q3, q4⟩ := g9
    refine ⟨cs, q1, q2, q3, ?_⟩
    rcases q4 with ⟨q5, ml2, q6⟩ | q5
    · exact Or.inl ⟨q5, ml2, ks _ _ _ _ _ _ q6 rfl⟩
    · exact Or.inr (q5.mono hI)
  · show SvO dE L' (FA.sv A) F.sv
    refine g10.mono (fun z hz y hy => ?_)
    cases hA : FA.sv A with
    | none => rw [hA] at hz; exact absurd hz (by simp)
    | some s =>
      rw [hA] at hz g10
      cases hS : F.sv with
      | none => rw [hS] at g10; exact g10.elim
      | some S =>
        rw [hS] at g10
        have hzs : z = s := by simpa using hz
        subst hzs
        have g10 : L z = some (rvC dE S) := g10
        rw [g10] at hy
        cases hy
        exact kr z S g10
  · show (r2 :: ((FA.r A :: FA.xs A).take 8 ++ (FA.sv A).toList)).Nodup
    have hsub : ((FA.r A :: FA.xs A).take 8 ++ (FA.sv A).toList).Sublist (FA.r A :: (FA.xs A ++ (FA.sv A).toList)) := by
      rw [← List.cons_append]
      exact (List.take_sublist _ _).append (List.Sublist.refl _)
    refine List.nodup_cons.mpr ⟨fun hm => ?_, g11.sublist hsub⟩
    rcases List.mem_append.mp hm with q | q
    · obtain ⟨R, hR⟩ := gc.mem r2 (List.mem_of_mem_take q)
      rw [hR] at hf
      cases hf
    · cases hA : FA.sv A with
      | none => rw [hA] at q; exact absurd q (by simp)
      | some s =>
        rw [hA] at q g10
        have hzs : r2 = s := by simpa using q
        cases hS : F.sv with
        | none => rw [hS] at g10; exact g10.elim
        | some S =>
          rw [hS] at g10
          have g10 : L s = some (rvC dE S) := g10
          rw [← hzs, hf] at g10
          cases g10
abbrev pC (dE : Nat) (o : Out) (x : Nat) (F : Fy) (L : AL) : Option Value → AI → AL → Prop := fun q I' L' => ∃ (v : Int32) (R2 : Rv) (A' : FA), o = .inl (v, R2) ∧ q = some (.int v) ∧ FeO dE I' L' x (chF F o) A' ∧ FrX x L L'
abbrev xC (dE : Nat) (o : Out) (x : Nat) (F : Fy) (L : AL) : String → Nat → AI → AL → Prop := fun E _ I' L' => ((∃ b : Bool, o = .inr (.inl b) ∧ E = (match b with | true => RJ14 | false => RJ33)) ∨ ∃ p : Int32 × Int32, o = .inr (.inr p) ∧ E = RJ35) ∧ ∃ A' : FA, FeO dE I' L' x (chF F o) A' ∧ FrX x L L'
theorem WfF.wc {N : Nat} {F : Fy} (h : WfF N F) (hN : N ≤ 22) : Wc F.rv := h.1.wc (by omega)
theorem fg_X1_143_X7 : LkG RX1 143 ciX7 6 := ⟨RX7, TX7, 8, tyX7, _, cls_X7, by decide, Or.inl rfl, Or.inr ⟨_, q1715⟩⟩
theorem fg_X1_144_X7 : LkG RX1 144 ciX7 7 := ⟨RX7, TX7, 8, tyX7, _, cls_X7, by decide, Or.inl rfl, Or.inr ⟨_, q1717⟩⟩
theorem kv_X1_145 : LkV RX1 145 yX1_refuse 2 := ⟨q2271, q2273, qs17, q73, by decide +kernel, by decide +kernel, by decide +kernel⟩
theorem kv_X1_129 : LkV RX1 129 yX1_draft 0 := ⟨q401, q403, qs1, q73, by decide +kernel, by decide +kernel, by decide +kernel⟩
theorem kf_X1_133_X5 : LkF RX1 133 RX5 ⟨"BraidedFerry$Deed", "done", "(LBraidedFerry$River;)I"⟩ yX5_done 1 := ⟨q1619, q1990, q1992, q88, ⟨by decide +kernel, by decide +kernel, by decide +kernel⟩, q1621, q1620, q1993, q1991, q1989⟩
theorem kv_X1_139 : LkV RX1 139 yX1_replace 1 := ⟨q2218, q2220, qs14, q73, by decide +kernel, by decide +kernel, by decide +kernel⟩
set_option maxHeartbeats 4000000 in
set_option maxRecDepth 100000 in
theorem sp_X1_change_X5 {l : Launch} {s0 : State} {D : va_G} {I : AI} {L : AL} {dE ca : Nat} {ad : Nat → Nat} (hΓ : Gam l s0 D) (hZ : Std s0 D dE ca ad) (hNc : NcX s0) {x N a : Nat} {F : Fy} {A : FA} (hF : FeO dE I L x F A) (hW : WfF N F) (hN : N ≤ 22) {y : Nat} {c : T3} (hd : I a (ob ciX5 [.ref y])) (hd2 : I y (t3E ciX6 c)) : SpcW l s0 D yX1_change 16 [.ref x, .ref a] I L 4020 16480 (pC dE (digO c F.rv) x F L) (xC dE (digO c F.rv) x F L) := by
  refine SpcW.of hΓ cX1_change 4 (some FieldType.int) [(5, 19, 20, 16)] q399 (by decide +kernel) (by decide) (Nat.le_of_ble_eq_true rfl) (fun G GX hG => ?_)
  obtain ⟨hx, hr, hpq, hpa, hip, hln, hsv, hnd⟩ := id hF
  refine hG.aload_n dX1_change_0 rfl ?_
  refine hG.callV dX1_change_1 kv_X1_129 (Rcv.raw hx cl_X1) (sp_X1_draft hΓ hZ hx hr hW.1 (by omega)) rfl rfl (Nat.le_of_ble_eq_true rfl) (by decide) (by omega) (by omega) (fun r1 I1 L1 hI1 h1 => ?_) (fun _ _ _ _ _ h => h.elim)
  obtain ⟨r2, A2, rfl, h2, F1⟩ := h1
  have hL1 : ∀ z y, L z = some y → L1 z = some y := fun z y hz => (F1 z y hz (by simp)).2
  have hF1 := hF.mono hI1 hL1
  have hx1 := hL1 _ _ hx
  refine hG.astore_n dX1_change_4 (by decide) ?_
  refine hG.lsb [(0, .ref x), (1, .ref a), (2, .ref r2)] ⟨rfl, rfl, rfl, trivial⟩ ?_
  have kx7 : ∀ (E : String) (q : Nat) (I' : AI) (L' : AL), ile I1 I' → xO (digO c F.rv) L1 E q I' L' → GX 7 [(0, .ref x), (1, .ref a), (2, .ref r2)] [] E q I' L' (0 + 311 + 3700) (0 + 3470 + 13000) := by
    intro E q I' L' hI hxo
    obtain ⟨rfl, ⟨b, e1, rfl⟩ | ⟨p, e1, rfl, e3⟩⟩ := hxo
    · refine hG.outP (fun z hz => ?_) ⟨Or.inl ⟨b, e1, rfl⟩, A, by rw [e1]; exact hF1.mono hI (fun _ _ h => h), FrX.sub hL1⟩ (by omega) (by omega) trivial
      simp only [List.map_cons, List.map_nil, List.mem_singleton] at hz
      subst hz
      refine Or.inr ⟨by decide, RX7, q400, ?_⟩
      cases b
      · exact hNc.2.1
      · exact hNc.1
    · refine hG.catch_ [] { startPc := 5, endPc := 19, handlerPc := 20, catchType := 16 } [] rfl (fun z hz => (nomatch hz)) rfl (by decide) q400 q1698 ?_
      refine hG.astore_n dX1_change_20 (by decide) ?_
      refine hG.aload_n dX1_change_21 rfl ?_
      refine hG.aload_n dX1_change_22 rfl ?_
      refine hG.get dX1_change_23 fg_X1_143_X7 (Or.inr e3) rfl ?_
      refine hG.aload_n dX1_change_26 rfl ?_
      refine hG.get dX1_change_27 fg_X1_144_X7 (Or.inr e3) rfl ?_
      refine hG.callV dX1_change_30 kv_X1_145 (Rcv.raw hx1 cl_X1) (sp_X1_refuse hΓ hx1) rfl rfl (Nat.le_of_ble_eq_true rfl) (by decide) (by omega) (by omega) (fun r30 I30 L30 hI30 h30 => ?_) (fun _ _ _ _ _ h => h.elim)
      obtain ⟨qe, rfl, hqe, rfl⟩ := h30
      refine hG.athrow dX1_change_33 (Rcv.imm hqe cl_J35) ?_
      refine hG.out (by intro z hz; simp only [List.map_cons, List.map_nil, List.mem_singleton] at hz; subst hz; rfl) ⟨Or.inr ⟨p, e1, rfl⟩, A, ?_, ?_⟩ (by omega) (by omega) trivial
      · rw [e1]
        exact (hF1.mono (ile_tr hI hI30) (fun _ _ h => h)).nums F.fa p.1 p.2
      · exact fun z e hz hn => (up1_n hn).trans (hL1 z _ hz)
  refine hG.aload_n dX1_change_5 rfl ?_
  refine hG.aload_n dX1_change_6 rfl ?_
  refine hG.callF dX1_change_7 kf_X1_133_X5 (Rcv.imm (hI1 _ _ hd) cl_X5) cl_X5 (sp_X5_done hΓ hZ h2 (hW.wc hN) (hI1 _ _ hd) (hI1 _ _ hd2)) rfl rfl (Nat.le_of_ble_eq_true rfl) (by decide) (by omega) (by omega) (fun r7 I7 L7 hI7 h7 => ?_) kx7
  obtain ⟨v, R2, A3, ho, rfl, h3, F3⟩ := h7
  have hLk : ∀ z y, L z = some y → z ∉ RN r2 A3 ∧ L7 z = some y := fun z y hz => by
    have q1 := F1 z y hz (by simp)
    exact F3 z y q1.2 q1.1
  refine hG.clR (cutL L7 (RN r2 A3)) h3 (fun z y hz hza => cutL_i hz) ?_
  have hr2 : L r2 = none := by
    cases hy : L r2 with
    | none => rfl
    | some y => exact absurd (List.mem_cons_self) (hLk r2 y hy).1
  have hL3 : ∀ z y, L z = some y → up1 (cutL L7 (RN r2 A3)) r2 (some (rvC dE R2)) z = some y := fun z y hz => (up1_n (ne_none hz hr2)).trans ((cutL_n (hLk z y hz).1).trans (hLk z y hz).2)
  generalize hLL : up1 (cutL L7 (RN r2 A3)) r2 (some (rvC dE R2)) = L3 at hL3 ⊢
  have hr23 : L3 r2 = some (rvC dE R2) := by rw [← hLL]; exact up1_s
  refine hG.istore_n dX1_change_12 (by decide) ?_
  refine hG.aload_n dX1_change_13 rfl ?_
  refine hG.aload_n dX1_change_14 rfl ?_
  refine hG.callV dX1_change_15 kv_X1_139 (Rcv.raw (hL3 _ _ hx) cl_X1) (sp_X1_replace hΓ (hL3 _ _ hx) (hL3 _ _ hr) (hL3 _ _ hpq) (by rw [hpa.len]; exact hW.2.2.1) (fun z hz => by obtain ⟨R, hR⟩ := hpa.mem z hz; exact ⟨R, hL3 _ _ hR⟩)) rfl rfl (Nat.le_of_ble_eq_true rfl) (by decide) (by omega) (by omega) (fun r15 I15 L15 hI15 h15 => ?_) (fun _ _ _ _ _ h => h.elim)
  obtain ⟨rfl, rfl, rfl⟩ := h15
  refine hG.iload_n dX1_change_18 rfl ?_
  refine hG.iret dX1_change_19 rfl ?_ (by omega) (by omega) trivial
  refine ⟨v, R2, (r2, FA.pq A, FA.ip A, FA.ln A, (FA.r A :: FA.xs A).take 8, FA.sv A), ho, rfl, ?_, fun z e hz hn => (up1_n hn).trans ((up1_n (ne_val hz hpq (fun e => by cases e))).trans (hL3 z _ hz))⟩
  rw [ho]
  exact hF.chg (ile_tr hI1 (ile_tr hI7 hI15)) up1_s ((up1_n (ne_val hr23 (hL3 _ _ hx) (fun e => by cases e))).trans ((up1_n (ne_val hr23 (hL3 _ _ hpq) (ne_kind (by decide)))).trans hr23)) ((up1_n (ne_val (hL3 _ _ hpq) (hL3 _ _ hx) (fun e => by cases e))).trans up1_s) (fun z y hz n1 n2 => (up1_n n1).trans ((up1_n n2).trans (hL3 z y hz))) hr2
theorem kf_X1_133_X13 : LkF RX1 133 RX13 ⟨"BraidedFerry$Deed", "done", "(LBraidedFerry$River;)I"⟩ yX13_done 1 := ⟨q1619, q2134, q2136, q127, ⟨by decide +kernel, by decide +kernel, by decide +kernel⟩, q1621, q1620, q2137, q2135, q2133⟩
set_option maxHeartbeats 4000000 in
set_option maxRecDepth 100000 in
theorem sp_X1_change_X13 {l : Launch} {s0 : State} {D : va_G} {I : AI} {L : AL} {dE ca : Nat} {ad : Nat → Nat} (hΓ : Gam l s0 D) (hZ : Std s0 D dE ca ad) (hNc : NcX s0) {x N a : Nat} {F : Fy} {A : FA} (hF : FeO dE I L x F A) (hW : WfF N F) (hN : N ≤ 22) {n w : Int32} (hd : I a (ob ciX13 [.int n, .int w])) : SpcW l s0 D yX1_change 16 [.ref x, .ref a] I L 4020 16480 (pC dE (splO F.rv n w) x F L) (xC dE (splO F.rv n w) x F L) := by
  refine SpcW.of hΓ cX1_change 4 (some FieldType.int) [(5, 19, 20, 16)] q399 (by decide +kernel) (by decide) (Nat.le_of_ble_eq_true rfl) (fun G GX hG => ?_)
  obtain ⟨hx, hr, hpq, hpa, hip, hln, hsv, hnd⟩ := id hF
  refine hG.aload_n dX1_change_0 rfl ?_
  refine hG.callV dX1_change_1 kv_X1_129 (Rcv.raw hx cl_X1) (sp_X1_draft hΓ hZ hx hr hW.1 (by omega)) rfl rfl (Nat.le_of_ble_eq_true rfl) (by decide) (by omega) (by omega) (fun r1 I1 L1 hI1 h1 => ?_) (fun _ _ _ _ _ h => h.elim)
  obtain ⟨r2, A2, rfl, h2, F1⟩ := h1
  have hL1 : ∀ z y, L z = some y → L1 z = some y := fun z y hz => (F1 z y hz (by simp)).2
  have hF1 := hF.mono hI1 hL1
  have hx1 := hL1 _ _ hx
  refine hG.astore_n dX1_change_4 (by decide) ?_
  refine hG.lsb [(0, .ref x), (1, .ref a), (2, .ref r2)] ⟨rfl, rfl, rfl, trivial⟩ ?_
  have kx7 : ∀ (E : String) (q : Nat) (I' : AI) (L' : AL), ile I1 I' → xO (splO F.rv n w) L1 E q I' L' → GX 7 [(0, .ref x), (1, .ref a), (2, .ref r2)] [] E q I' L' (0 + 311 + 3700) (0 + 3470 + 13000) := by
    intro E q I' L' hI hxo
    obtain ⟨rfl, ⟨b, e1, rfl⟩ | ⟨p, e1, rfl, e3⟩⟩ := hxo
    · refine hG.outP (fun z hz => ?_) ⟨Or.inl ⟨b, e1, rfl⟩, A, by rw [e1]; exact hF1.mono hI (fun _ _ h => h), FrX.sub hL1⟩ (by omega) (by omega) trivial
      simp only [List.map_cons, List.map_nil, List.mem_singleton] at hz
      subst hz
      refine Or.inr ⟨by decide, RX7, q400, ?_⟩
      cases b
      · exact hNc.2.1
      · exact hNc.1
    · refine hG.catch_ [] { startPc := 5, endPc := 19, handlerPc := 20, catchType := 16 } [] rfl (fun z hz => (nomatch hz)) rfl (by decide) q400 q1698 ?_
      refine hG.astore_n dX1_change_20 (by decide) ?_
      refine hG.aload_n dX1_change_21 rfl ?_
      refine hG.aload_n dX1_change_22 rfl ?_
      refine hG.get dX1_change_23 fg_X1_143_X7 (Or.inr e3) rfl ?_
      refine hG.aload_n dX1_change_26 rfl ?_
      refine hG.get dX1_change_27 fg_X1_144_X7 (Or.inr e3) rfl ?_
      refine hG.callV dX1_change_30 kv_X1_145 (Rcv.raw hx1 cl_X1) (sp_X1_refuse hΓ hx1) rfl rfl (Nat.le_of_ble_eq_true rfl) (by decide) (by omega) (by omega) (fun r30 I30 L30 hI30 h30 => ?_) (fun _ _ _ _ _ h => h.elim)
      obtain ⟨qe, rfl, hqe, rfl⟩ := h30
      refine hG.athrow dX1_change_33 (Rcv.imm hqe cl_J35) ?_
      refine hG.out (by intro z hz; simp only [List.map_cons, List.map_nil, List.mem_singleton] at hz; subst hz; rfl) ⟨Or.inr ⟨p, e1, rfl⟩, A, ?_, ?_⟩ (by omega) (by omega) trivial
      · rw [e1]
        exact (hF1.mono (ile_tr hI hI30) (fun _ _ h => h)).nums F.fa p.1 p.2
      · exact fun z e hz hn => (up1_n hn).trans (hL1 z _ hz)
  refine hG.aload_n dX1_change_5 rfl ?_
  refine hG.aload_n dX1_change_6 rfl ?_
  refine hG.callF dX1_change_7 kf_X1_133_X13 (Rcv.imm (hI1 _ _ hd) cl_X13) cl_X13 (sp_X13_done hΓ hZ h2 (hW.wc hN) (hI1 _ _ hd)) rfl rfl (Nat.le_of_ble_eq_true rfl) (by decide) (by omega) (by omega) (fun r7 I7 L7 hI7 h7 => ?_) kx7
  obtain ⟨v, R2, A3, ho, rfl, h3, F3⟩ := h7
  have hLk : ∀ z y, L z = some y → z ∉ RN r2 A3 ∧ L7 z = some y := fun z y hz => by
    have q1 := F1 z y hz (by simp)
    exact F3 z y q1.2 q1.1
  refine hG.clR (cutL L7 (RN r2 A3)) h3 (fun z y hz hza => cutL_i hz) ?_
  have hr2 : L r2 = none := by
    cases hy : L r2 with
    | none => rfl
    | some y => exact absurd (List.mem_cons_self) (hLk r2 y hy).1
  have hL3 : ∀ z y, L z = some y → up1 (cutL L7 (RN r2 A3)) r2 (some (rvC dE R2)) z = some y := fun z y hz => (up1_n (ne_none hz hr2)).trans ((cutL_n (hLk z y hz).1).trans (hLk z y hz).2)
  generalize hLL : up1 (cutL L7 (RN r2 A3)) r2 (some (rvC dE R2)) = L3 at hL3 ⊢
  have hr23 : L3 r2 = some (rvC dE R2) := by rw [← hLL]; exact up1_s
  refine hG.istore_n dX1_change_12 (by decide) ?_
  refine hG.aload_n dX1_change_13 rfl ?_
  refine hG.aload_n dX1_change_14 rfl ?_
  refine hG.callV dX1_change_15 kv_X1_139 (Rcv.raw (hL3 _ _ hx) cl_X1) (sp_X1_replace hΓ (hL3 _ _ hx) (hL3 _ _ hr) (hL3 _ _ hpq) (by rw [hpa.len]; exact hW.2.2.1) (fun z hz => by obtain ⟨R, hR⟩ := hpa.mem z hz; exact ⟨R, hL3 _ _ hR⟩)) rfl rfl (Nat.le_of_ble_eq_true rfl) (by decide) (by omega) (by omega) (fun r15 I15 L15 hI15 h15 => ?_) (fun _ _ _ _ _ h => h.elim)
  obtain ⟨rfl, rfl, rfl⟩ := h15
  refine hG.iload_n dX1_change_18 rfl ?_
  refine hG.iret dX1_change_19 rfl ?_ (by omega) (by omega) trivial
  refine ⟨v, R2, (r2, FA.pq A, FA.ip A, FA.ln A, (FA.r A :: FA.xs A).take 8, FA.sv A), ho, rfl, ?_, fun z e hz hn => (up1_n hn).trans ((up1_n (ne_val hz hpq (fun e => by cases e))).trans (hL3 z _ hz))⟩
  rw [ho]
  exact hF.chg (ile_tr hI1 (ile_tr hI7 hI15)) up1_s ((up1_n (ne_val hr23 (hL3 _ _ hx) (fun e => by cases e))).trans ((up1_n (ne_val hr23 (hL3 _ _ hpq) (ne_kind (by decide)))).trans hr23)) ((up1_n (ne_val (hL3 _ _ hpq) (hL3 _ _ hx) (fun e => by cases e))).trans up1_s) (fun z y hz n1 n2 => (up1_n n1).trans ((up1_n n2).trans (hL3 z y hz))) hr2
theorem kf_X1_133_X14 : LkF RX1 133 RX14 ⟨"BraidedFerry$Deed", "done", "(LBraidedFerry$River;)I"⟩ yX14_done 1 := ⟨q1619, q2093, q2095, q128, ⟨by decide +kernel, by decide +kernel, by decide +kernel⟩, q1621, q1620, q2096, q2094, q2092⟩
set_option maxHeartbeats 4000000 in
set_option maxRecDepth 100000 in
theorem sp_X1_change_X14 {l : Launch} {s0 : State} {D : va_G} {I : AI} {L : AL} {dE ca : Nat} {ad : Nat → Nat} (hΓ : Gam l s0 D) (hZ : Std s0 D dE ca ad) (hNc : NcX s0) {x N a : Nat} {F : Fy} {A : FA} (hF : FeO dE I L x F A) (hW : WfF N F) (hN : N ≤ 22) {n w : Int32} (hd : I a (ob ciX14 [.int n, .int w])) : SpcW l s0 D yX1_change 16 [.ref x, .ref a] I L 4020 16480 (pC dE (shfO F.rv n w) x F L) (xC dE (shfO F.rv n w) x F L) := by
  refine SpcW.of hΓ cX1_change 4 (some FieldType.int) [(5, 19, 20, 16)] q399 (by decide +kernel) (by decide) (Nat.le_of_ble_eq_true rfl) (fun G GX hG => ?_)
  obtain ⟨hx, hr, hpq, hpa, hip, hln, hsv, hnd⟩ := id hF
  refine hG.aload_n dX1_change_0 rfl ?_
  refine hG.callV dX1_change_1 kv_X1_129 (Rcv.raw hx cl_X1) (sp_X1_draft hΓ hZ hx hr hW.1 (by omega)) rfl rfl (Nat.le_of_ble_eq_true rfl) (by decide) (by omega) (by omega) (fun r1 I1 L1 hI1 h1 => ?_) (fun _ _ _ _ _ h => h.elim)
  obtain ⟨r2, A2, rfl, h2, F1⟩ := h1
  have hL1 : ∀ z y, L z = some y → L1 z = some y := fun z y hz => (F1 z y hz (by simp)).2
  have hF1 := hF.mono hI1 hL1
  have hx1 := hL1 _ _ hx
  refine hG.astore_n dX1_change_4 (by decide) ?_
  refine hG.lsb [(0, .ref x), (1, .ref a), (2, .ref r2)] ⟨rfl, rfl, rfl, trivial⟩ ?_
  have kx7 : ∀ (E : String) (q : Nat) (I' : AI) (L' : AL), ile I1 I' → xO (shfO F.rv n w) L1 E q I' L' → GX 7 [(0, .ref x), (1, .ref a), (2, .ref r2)] [] E q I' L' (0 + 311 + 3700) (0 + 3470 + 13000) := by
    intro E q I' L' hI hxo
    obtain ⟨rfl, ⟨b, e1, rfl⟩ | ⟨p, e1, rfl, e3⟩⟩ := hxo
    · refine hG.outP (fun z hz => ?_) ⟨Or.inl ⟨b, e1, rfl⟩, A, by rw [e1]; exact hF1.mono hI (fun _ _ h => h), FrX.sub hL1⟩ (by omega) (by omega) trivial
      simp only [List.map_cons, List.map_nil, List.mem_singleton] at hz
      subst hz
      refine Or.inr ⟨by decide, RX7, q400, ?_⟩
      cases b
      · exact hNc.2.1
      · exact hNc.1
    · refine hG.catch_ [] { startPc := 5, endPc := 19, handlerPc := 20, catchType := 16 } [] rfl (fun z hz => (nomatch hz)) rfl (by decide) q400 q1698 ?_
      refine hG.astore_n dX1_change_20 (by decide) ?_
      refine hG.aload_n dX1_change_21 rfl ?_
      refine hG.aload_n dX1_change_22 rfl ?_
      refine hG.get dX1_change_23 fg_X1_143_X7 (Or.inr e3) rfl ?_
      refine hG.aload_n dX1_change_26 rfl ?_
      refine hG.get dX1_change_27 fg_X1_144_X7 (Or.inr e3) rfl ?_
      refine hG.callV dX1_change_30 kv_X1_145 (Rcv.raw hx1 cl_X1) (sp_X1_refuse hΓ hx1) rfl rfl (Nat.le_of_ble_eq_true rfl) (by decide) (by omega) (by omega) (fun r30 I30 L30 hI30 h30 => ?_) (fun _ _ _ _ _ h => h.elim)
      obtain ⟨qe, rfl, hqe, rfl⟩ := h30
      refine hG.athrow dX1_change_33 (Rcv.imm hqe cl_J35) ?_
      refine hG.out (by intro z hz; simp only [List.map_cons, List.map_nil, List.mem_singleton] at hz; subst hz; rfl) ⟨Or.inr ⟨p, e1, rfl⟩, A, ?_, ?_⟩ (by omega) (by omega) trivial
      · rw [e1]
        exact (hF1.mono (ile_tr hI hI30) (fun _ _ h => h)).nums F.fa p.1 p.2
      · exact fun z e hz hn => (up1_n hn).trans (hL1 z _ hz)
  refine hG.aload_n dX1_change_5 rfl ?_
  refine hG.aload_n dX1_change_6 rfl ?_
  refine hG.callF dX1_change_7 kf_X1_133_X14 (Rcv.imm (hI1 _ _ hd) cl_X14) cl_X14 (sp_X14_done hΓ hZ h2 (hW.wc hN) (hI1 _ _ hd)) rfl rfl (Nat.le_of_ble_eq_true rfl) (by decide) (by omega) (by omega) (fun r7 I7 L7 hI7 h7 => ?_) kx7
  obtain ⟨v, R2, A3, ho, rfl, h3, F3⟩ := h7
  have hLk : ∀ z y, L z = some y → z ∉ RN r2 A3 ∧ L7 z = some y := fun z y hz => by
    have q1 := F1 z y hz (by simp)
    exact F3 z y q1.2 q1.1
  refine hG.clR (cutL L7 (RN r2 A3)) h3 (fun z y hz hza => cutL_i hz) ?_
  have hr2 : L r2 = none := by
    cases hy : L r2 with
    | none => rfl
    | some y => exact absurd (List.mem_cons_self) (hLk r2 y hy).1
  have hL3 : ∀ z y, L z = some y → up1 (cutL L7 (RN r2 A3)) r2 (some (rvC dE R2)) z = some y := fun z y hz => (up1_n (ne_none hz hr2)).trans ((cutL_n (hLk z y hz).1).trans (hLk z y hz).2)
  generalize hLL : up1 (cutL L7 (RN r2 A3)) r2 (some (rvC dE R2)) = L3 at hL3 ⊢
  have hr23 : L3 r2 = some (rvC dE R2) := by rw [← hLL]; exact up1_s
  refine hG.istore_n dX1_change_12 (by decide) ?_
  refine hG.aload_n dX1_change_13 rfl ?_
  refine hG.aload_n dX1_change_14 rfl ?_
  refine hG.callV dX1_change_15 kv_X1_139 (Rcv.raw (hL3 _ _ hx) cl_X1) (sp_X1_replace hΓ (hL3 _ _ hx) (hL3 _ _ hr) (hL3 _ _ hpq) (by rw [hpa.len]; exact hW.2.2.1) (fun z hz => by obtain ⟨R, hR⟩ := hpa.mem z hz; exact ⟨R, hL3 _ _ hR⟩)) rfl rfl (Nat.le_of_ble_eq_true rfl) (by decide) (by omega) (by omega) (fun r15 I15 L15 hI15 h15 => ?_) (fun _ _ _ _ _ h => h.elim)
  obtain ⟨rfl, rfl, rfl⟩ := h15
  refine hG.iload_n dX1_change_18 rfl ?_
  refine hG.iret dX1_change_19 rfl ?_ (by omega) (by omega) trivial
  refine ⟨v, R2, (r2, FA.pq A, FA.ip A, FA.ln A, (FA.r A :: FA.xs A).take 8, FA.sv A), ho, rfl, ?_, fun z e hz hn => (up1_n hn).trans ((up1_n (ne_val hz hpq (fun e => by cases e))).trans (hL3 z _ hz))⟩
  rw [ho]
  exact hF.chg (ile_tr hI1 (ile_tr hI7 hI15)) up1_s ((up1_n (ne_val hr23 (hL3 _ _ hx) (fun e => by cases e))).trans ((up1_n (ne_val hr23 (hL3 _ _ hpq) (ne_kind (by decide)))).trans hr23)) ((up1_n (ne_val (hL3 _ _ hpq) (hL3 _ _ hx) (fun e => by cases e))).trans up1_s) (fun z y hz n1 n2 => (up1_n n1).trans ((up1_n n2).trans (hL3 z y hz))) hr2
theorem kf_X1_133_X15 : LkF RX1 133 RX15 ⟨"BraidedFerry$Deed", "done", "(LBraidedFerry$River;)I"⟩ yX15_done 1 := ⟨q1619, q2000, q2002, q129, ⟨by decide +kernel, by decide +kernel, by decide +kernel⟩, q1621, q1620, q2003, q2001, q1999⟩
set_option maxHeartbeats 4000000 in
set_option maxRecDepth 100000 in
theorem sp_X1_change_X15 {l : Launch} {s0 : State} {D : va_G} {I : AI} {L : AL} {dE ca : Nat} {ad : Nat → Nat} (hΓ : Gam l s0 D) (hZ : Std s0 D dE ca ad) (hNc : NcX s0) {x N a : Nat} {F : Fy} {A : FA} (hF : FeO dE I L x F A) (hW : WfF N F) (hN : N ≤ 22) {u v w : Int32} (hd : I a (ob ciX15 [.int u, .int v, .int w])) : SpcW l s0 D yX1_change 16 [.ref x, .ref a] I L 4020 16480 (pC dE (floO u v w F.rv) x F L) (xC dE (floO u v w F.rv) x F L) := by
  refine SpcW.of hΓ cX1_change 4 (some FieldType.int) [(5, 19, 20, 16)] q399 (by decide +kernel) (by decide) (Nat.le_of_ble_eq_true rfl) (fun G GX hG => ?_)
  obtain ⟨hx, hr, hpq, hpa, hip, hln, hsv, hnd⟩ := id hF
  refine hG.aload_n dX1_change_0 rfl ?_
  refine hG.callV dX1_change_1 kv_X1_129 (Rcv.raw hx cl_X1) (sp_X1_draft hΓ hZ hx hr hW.1 (by omega)) rfl rfl (Nat.le_of_ble_eq_true rfl) (by decide) (by omega) (by omega) (fun r1 I1 L1 hI1 h1 => ?_) (fun _ _ _ _ _ h => h.elim)
  obtain ⟨r2, A2, rfl, h2, F1⟩ := h1
  have hL1 : ∀ z y, L z = some y → L1 z = some y := fun z y hz => (F1 z y hz (by simp)).2
  have hF1 := hF.mono hI1 hL1
  have hx1 := hL1 _ _ hx
  refine hG.astore_n dX1_change_4 (by decide) ?_
  refine hG.lsb [(0, .ref x), (1, .ref a), (2, .ref r2)] ⟨rfl, rfl, rfl, trivial⟩ ?_
  have kx7 : ∀ (E : String) (q : Nat) (I' : AI) (L' : AL), ile I1 I' → xO (floO u v w F.rv) L1 E q I' L' → GX 7 [(0, .ref x), (1, .ref a), (2, .ref r2)] [] E q I' L' (0 + 311 + 3700) (0 + 3470 + 13000) := by
    intro E q I' L' hI hxo
    obtain ⟨rfl, ⟨b, e1, rfl⟩ | ⟨p, e1, rfl, e3⟩⟩ := hxo
    · refine hG.outP (fun z hz => ?_) ⟨Or.inl ⟨b, e1, rfl⟩, A, by rw [e1]; exact hF1.mono hI (fun _ _ h => h), FrX.sub hL1⟩ (by omega) (by omega) trivial
      simp only [List.map_cons, List.map_nil, List.mem_singleton] at hz
      subst hz
      refine Or.inr ⟨by decide, RX7, q400, ?_⟩
      cases b
      · exact hNc.2.1
      · exact hNc.1
    · refine hG.catch_ [] { startPc := 5, endPc := 19, handlerPc := 20, catchType := 16 } [] rfl (fun z hz => (nomatch hz)) rfl (by decide) q400 q1698 ?_
      refine hG.astore_n dX1_change_20 (by decide) ?_
      refine hG.aload_n dX1_change_21 rfl ?_
      refine hG.aload_n dX1_change_22 rfl ?_
      refine hG.get dX1_change_23 fg_X1_143_X7 (Or.inr e3) rfl ?_
      refine hG.aload_n dX1_change_26 rfl ?_
      refine hG.get dX1_change_27 fg_X1_144_X7 (Or.inr e3) rfl ?_
      refine hG.callV dX1_change_30 kv_X1_145 (Rcv.raw hx1 cl_X1) (sp_X1_refuse hΓ hx1) rfl rfl (Nat.le_of_ble_eq_true rfl) (by decide) (by omega) (by omega) (fun r30 I30 L30 hI30 h30 => ?_) (fun _ _ _ _ _ h => h.elim)
      obtain ⟨qe, rfl, hqe, rfl⟩ := h30
      refine hG.athrow dX1_change_33 (Rcv.imm hqe cl_J35) ?_
      refine hG.out (by intro z hz; simp only [List.map_cons, List.map_nil, List.mem_singleton] at hz; subst hz; rfl) ⟨Or.inr ⟨p, e1, rfl⟩, A, ?_, ?_⟩ (by omega) (by omega) trivial
      · rw [e1]
        exact (hF1.mono (ile_tr hI hI30) (fun _ _ h => h)).nums F.fa p.1 p.2
      · exact fun z e hz hn => (up1_n hn).trans (hL1 z _ hz)
  refine hG.aload_n dX1_change_5 rfl ?_
  refine hG.aload_n dX1_change_6 rfl ?_
  refine hG.callF dX1_change_7 kf_X1_133_X15 (Rcv.imm (hI1 _ _ hd) cl_X15) cl_X15 (sp_X15_done hΓ hZ h2 (hW.wc hN) (hI1 _ _ hd)) rfl rfl (Nat.le_of_ble_eq_true rfl) (by decide) (by omega) (by omega) (fun r7 I7 L7 hI7 h7 => ?_) kx7
  obtain ⟨v, R2, A3, ho, rfl, h3, F3⟩ := h7
  have hLk : ∀ z y, L z = some y → z ∉ RN r2 A3 ∧ L7 z = some y := fun z y hz => by
    have q1 := F1 z y hz (by simp)
    exact F3 z y q1.2 q1.1
  refine hG.clR (cutL L7 (RN r2 A3)) h3 (fun z y hz hza => cutL_i hz) ?_
  have hr2 : L r2 = none := by
    cases hy : L r2 with
    | none => rfl
    | some y => exact absurd (List.mem_cons_self) (hLk r2 y hy).1
  have hL3 : ∀ z y, L z = some y → up1 (cutL L7 (RN r2 A3)) r2 (some (rvC dE R2)) z = some y := fun z y hz => (up1_n (ne_none hz hr2)).trans ((cutL_n (hLk z y hz).1).trans (hLk z y hz).2)
  generalize hLL : up1 (cutL L7 (RN r2 A3)) r2 (some (rvC dE R2)) = L3 at hL3 ⊢
  have hr23 : L3 r2 = some (rvC dE R2) := by rw [← hLL]; exact up1_s
  refine hG.istore_n dX1_change_12 (by decide) ?_
  refine hG.aload_n dX1_change_13 rfl ?_
  refine hG.aload_n dX1_change_14 rfl ?_
  refine hG.callV dX1_change_15 kv_X1_139 (Rcv.raw (hL3 _ _ hx) cl_X1) (sp_X1_replace hΓ (hL3 _ _ hx) (hL3 _ _ hr) (hL3 _ _ hpq) (by rw [hpa.len]; exact hW.2.2.1) (fun z hz => by obtain ⟨R, hR⟩ := hpa.mem z hz; exact ⟨R, hL3 _ _ hR⟩)) rfl rfl (Nat.le_of_ble_eq_true rfl) (by decide) (by omega) (by omega) (fun r15 I15 L15 hI15 h15 => ?_) (fun _ _ _ _ _ h => h.elim)
  obtain ⟨rfl, rfl, rfl⟩ := h15
  refine hG.iload_n dX1_change_18 rfl ?_
  refine hG.iret dX1_change_19 rfl ?_ (by omega) (by omega) trivial
  refine ⟨v, R2, (r2, FA.pq A, FA.ip A, FA.ln A, (FA.r A :: FA.xs A).take 8, FA.sv A), ho, rfl, ?_, fun z e hz hn => (up1_n hn).trans ((up1_n (ne_val hz hpq (fun e => by cases e))).trans (hL3 z _ hz))⟩
  rw [ho]
  exact hF.chg (ile_tr hI1 (ile_tr hI7 hI15)) up1_s ((up1_n (ne_val hr23 (hL3 _ _ hx) (fun e => by cases e))).trans ((up1_n (ne_val hr23 (hL3 _ _ hpq) (ne_kind (by decide)))).trans hr23)) ((up1_n (ne_val (hL3 _ _ hpq) (hL3 _ _ hx) (fun e => by cases e))).trans up1_s) (fun z y hz n1 n2 => (up1_n n1).trans ((up1_n n2).trans (hL3 z y hz))) hr2
theorem kf_X1_133_X16 : LkF RX1 133 RX16 ⟨"BraidedFerry$Deed", "done", "(LBraidedFerry$River;)I"⟩ yX16_done 1 := ⟨q1619, q1623, q1625, q130, ⟨by decide +kernel, by decide +kernel, by decide +kernel⟩, q1621, q1620, q1626, q1624, q1622⟩
set_option maxHeartbeats 4000000 in
set_option maxRecDepth 100000 in
theorem sp_X1_change_X16 {l : Launch} {s0 : State} {D : va_G} {I : AI} {L : AL} {dE ca : Nat} {ad : Nat → Nat} (hΓ : Gam l s0 D) (hZ : Std s0 D dE ca ad) (hNc : NcX s0) {x N a : Nat} {F : Fy} {A : FA} (hF : FeO dE I L x F A) (hW : WfF N F) (hN : N ≤ 22) {n s : Int32} (hd : I a (ob ciX16 [.int n, .int s])) : SpcW l s0 D yX1_change 16 [.ref x, .ref a] I L 4020 16480 (pC dE (ancO n s F.rv) x F L) (xC dE (ancO n s F.rv) x F L) := by
  refine SpcW.of hΓ cX1_change 4 (some FieldType.int) [(5, 19, 20, 16)] q399 (by decide +kernel) (by decide) (Nat.le_of_ble_eq_true rfl) (fun G GX hG => ?_)
  obtain ⟨hx, hr, hpq, hpa, hip, hln, hsv, hnd⟩ := id hF
  refine hG.aload_n dX1_change_0 rfl ?_
  refine hG.callV dX1_change_1 kv_X1_129 (Rcv.raw hx cl_X1) (sp_X1_draft hΓ hZ hx hr hW.1 (by omega)) rfl rfl (Nat.le_of_ble_eq_true rfl) (by decide) (by omega) (by omega) (fun r1 I1 L1 hI1 h1 => ?_) (fun _ _ _ _ _ h => h.elim)
  obtain ⟨r2, A2, rfl, h2, F1⟩ := h1
  have hL1 : ∀ z y, L z = some y → L1 z = some y := fun z y hz => (F1 z y hz (by simp)).2
  have hF1 := hF.mono hI1 hL1
  have hx1 := hL1 _ _ hx
  refine hG.astore_n dX1_change_4 (by decide) ?_
  refine hG.lsb [(0, .ref x), (1, .ref a), (2, .ref r2)] ⟨rfl, rfl, rfl, trivial⟩ ?_
  have kx7 : ∀ (E : String) (q : Nat) (I' : AI) (L' : AL), ile I1 I' → xO (ancO n s F.rv) L1 E q I' L' → GX 7 [(0, .ref x), (1, .ref a), (2, .ref r2)] [] E q I' L' (0 + 311 + 3700) (0 + 3470 + 13000) := by
    intro E q I' L' hI hxo
    obtain ⟨rfl, ⟨b, e1, rfl⟩ | ⟨p, e1, rfl, e3⟩⟩ := hxo
    · refine hG.outP (fun z hz => ?_) ⟨Or.inl ⟨b, e1, rfl⟩, A, by rw [e1]; exact hF1.mono hI (fun _ _ h => h), FrX.sub hL1⟩ (by omega) (by omega) trivial
      simp only [List.map_cons, List.map_nil, List.mem_singleton] at hz
      subst hz
      refine Or.inr ⟨by decide, RX7, q400, ?_⟩
      cases b
      · exact hNc.2.1
      · exact hNc.1
    · refine hG.catch_ [] { startPc := 5, endPc := 19, handlerPc := 20, catchType := 16 } [] rfl (fun z hz => (nomatch hz)) rfl (by decide) q400 q1698 ?_
      refine hG.astore_n dX1_change_20 (by decide) ?_
      refine hG.aload_n dX1_change_21 rfl ?_
      refine hG.aload_n dX1_change_22 rfl ?_
      refine hG.get dX1_change_23 fg_X1_143_X7 (Or.inr e3) rfl ?_
      refine hG.aload_n dX1_change_26 rfl ?_
      refine hG.get dX1_change_27 fg_X1_144_X7 (Or.inr e3) rfl ?_
      refine hG.callV dX1_change_30 kv_X1_145 (Rcv.raw hx1 cl_X1) (sp_X1_refuse hΓ hx1) rfl rfl (Nat.le_of_ble_eq_true rfl) (by decide) (by omega) (by omega) (fun r30 I30 L30 hI30 h30 => ?_) (fun _ _ _ _ _ h => h.elim)
      obtain ⟨qe, rfl, hqe, rfl⟩ := h30
      refine hG.athrow dX1_change_33 (Rcv.imm hqe cl_J35) ?_
      refine hG.out (by intro z hz; simp only [List.map_cons, List.map_nil, List.mem_singleton] at hz; subst hz; rfl) ⟨Or.inr ⟨p, e1, rfl⟩, A, ?_, ?_⟩ (by omega) (by omega) trivial
      · rw [e1]
        exact (hF1.mono (ile_tr hI hI30) (fun _ _ h => h)).nums F.fa p.1 p.2
      · exact fun z e hz hn => (up1_n hn).trans (hL1 z _ hz)
  refine hG.aload_n dX1_change_5 rfl ?_
  refine hG.aload_n dX1_change_6 rfl ?_
  refine hG.callF dX1_change_7 kf_X1_133_X16 (Rcv.imm (hI1 _ _ hd) cl_X16) cl_X16 (sp_X16_done hΓ hZ h2 (hW.wc hN) (hI1 _ _ hd)) rfl rfl (Nat.le_of_ble_eq_true rfl) (by decide) (by omega) (by omega) (fun r7 I7 L7 hI7 h7 => ?_) kx7
  obtain ⟨v, R2, A3, ho, rfl, h3, F3⟩ := h7
  have hLk : ∀ z y, L z = some y → z ∉ RN r2 A3 ∧ L7 z = some y := fun z y hz => by
    have q1 := F1 z y hz (by simp)
    exact F3 z y q1.2 q1.1
  refine hG.clR (cutL L7 (RN r2 A3)) h3 (fun z y hz hza => cutL_i hz) ?_
  have hr2 : L r2 = none := by
    cases hy : L r2 with
    | none => rfl
    | some y => exact absurd (List.mem_cons_self) (hLk r2 y hy).1
  have hL3 : ∀ z y, L z = some y → up1 (cutL L7 (RN r2 A3)) r2 (some (rvC dE R2)) z = some y := fun z y hz => (up1_n (ne_none hz hr2)).trans ((cutL_n (hLk z y hz).1).trans (hLk z y hz).2)
  generalize hLL : up1 (cutL L7 (RN r2 A3)) r2 (some (rvC dE R2)) = L3 at hL3 ⊢
  have hr23 : L3 r2 = some (rvC dE R2) := by rw [← hLL]; exact up1_s
  refine hG.istore_n dX1_change_12 (by decide) ?_
  refine hG.aload_n dX1_change_13 rfl ?_
  refine hG.aload_n dX1_change_14 rfl ?_
  refine hG.callV dX1_change_15 kv_X1_139 (Rcv.raw (hL3 _ _ hx) cl_X1) (sp_X1_replace hΓ (hL3 _ _ hx) (hL3 _ _ hr) (hL3 _ _ hpq) (by rw [hpa.len]; exact hW.2.2.1) (fun z hz => by obtain ⟨R, hR⟩ := hpa.mem z hz; exact ⟨R, hL3 _ _ hR⟩)) rfl rfl (Nat.le_of_ble_eq_true rfl) (by decide) (by omega) (by omega) (fun r15 I15 L15 hI15 h15 => ?_) (fun _ _ _ _ _ h => h.elim)
  obtain ⟨rfl, rfl, rfl⟩ := h15
  refine hG.iload_n dX1_change_18 rfl ?_
  refine hG.iret dX1_change_19 rfl ?_ (by omega) (by omega) trivial
  refine ⟨v, R2, (r2, FA.pq A, FA.ip A, FA.ln A, (FA.r A :: FA.xs A).take 8, FA.sv A), ho, rfl, ?_, fun z e hz hn => (up1_n hn).trans ((up1_n (ne_val hz hpq (fun e => by cases e))).trans (hL3 z _ hz))⟩
  rw [ho]
  exact hF.chg (ile_tr hI1 (ile_tr hI7 hI15)) up1_s ((up1_n (ne_val hr23 (hL3 _ _ hx) (fun e => by cases e))).trans ((up1_n (ne_val hr23 (hL3 _ _ hpq) (ne_kind (by decide)))).trans hr23)) ((up1_n (ne_val (hL3 _ _ hpq) (hL3 _ _ hx) (fun e => by cases e))).trans up1_s) (fun z y hz n1 n2 => (up1_n n1).trans ((up1_n n2).trans (hL3 z y hz))) hr2
theorem kf_X1_133_X18 : LkF RX1 133 RX18 ⟨"BraidedFerry$Deed", "done", "(LBraidedFerry$River;)I"⟩ yX18_done 1 := ⟨q1619, q2198, q2200, q132, ⟨by decide +kernel, by decide +kernel, by decide +kernel⟩, q1621, q1620, q2201, q2199, q2197⟩
set_option maxHeartbeats 4000000 in
set_option maxRecDepth 100000 in
theorem sp_X1_change_X18 {l : Launch} {s0 : State} {D : va_G} {I : AI} {L : AL} {dE ca : Nat} {ad : Nat → Nat} (hΓ : Gam l s0 D) (hZ : Std s0 D dE ca ad) (hNc : NcX s0) {x N a : Nat} {F : Fy} {A : FA} (hF : FeO dE I L x F A) (hW : WfF N F) (hN : N ≤ 22) {n : Int32} (hd : I a (ob ciX18 [.int n])) : SpcW l s0 D yX1_change 16 [.ref x, .ref a] I L 4020 16480 (pC dE (weiO n F.rv) x F L) (xC dE (weiO n F.rv) x F L) := by
  refine SpcW.of hΓ cX1_change 4 (some FieldType.int) [(5, 19, 20, 16)] q399 (by decide +kernel) (by decide) (Nat.le_of_ble_eq_true rfl) (fun G GX hG => ?_)
  obtain ⟨hx, hr, hpq, hpa, hip, hln, hsv, hnd⟩ := id hF
  refine hG.aload_n dX1_change_0 rfl ?_
  refine hG.callV dX1_change_1 kv_X1_129 (Rcv.raw hx cl_X1) (sp_X1_draft hΓ hZ hx hr hW.1 (by omega)) rfl rfl (Nat.le_of_ble_eq_true rfl) (by decide) (by omega) (by omega) (fun r1 I1 L1 hI1 h1 => ?_) (fun _ _ _ _ _ h => h.elim)
  obtain ⟨r2, A2, rfl, h2, F1⟩ := h1
  have hL1 : ∀ z y, L z = some y → L1 z = some y := fun z y hz => (F1 z y hz (by simp)).2
  have hF1 := hF.mono hI1 hL1
  have hx1 := hL1 _ _ hx
  refine hG.astore_n dX1_change_4 (by decide) ?_
  refine hG.lsb [(0, .ref x), (1, .ref a), (2, .ref r2)] ⟨rfl, rfl, rfl, trivial⟩ ?_
  have kx7 : ∀ (E : String) (q : Nat) (I' : AI) (L' : AL), ile I1 I' → xO (weiO n F.rv) L1 E q I' L' → GX 7 [(0, .ref x), (1, .ref a), (2, .ref r2)] [] E q I' L' (0 + 311 + 3700) (0 + 3470 + 13000) := by
    intro E q I' L' hI hxo
    obtain ⟨rfl, ⟨b, e1, rfl⟩ | ⟨p, e1, rfl, e3⟩⟩ := hxo
    · refine hG.outP (fun z hz => ?_) ⟨Or.inl ⟨b, e1, rfl⟩, A, by rw [e1]; exact hF1.mono hI (fun _ _ h => h), FrX.sub hL1⟩ (by omega) (by omega) trivial
      simp only [List.map_cons, List.map_nil, List.mem_singleton] at hz
      subst hz
      refine Or.inr ⟨by decide, RX7, q400, ?_⟩
      cases b
      · exact hNc.2.1
      · exact hNc.1
    · refine hG.catch_ [] { startPc := 5, endPc := 19, handlerPc := 20, catchType := 16 } [] rfl (fun z hz => (nomatch hz)) rfl (by decide) q400 q1698 ?_
      refine hG.astore_n dX1_change_20 (by decide) ?_
      refine hG.aload_n dX1_change_21 rfl ?_
      refine hG.aload_n dX1_change_22 rfl ?_
      refine hG.get dX1_change_23 fg_X1_143_X7 (Or.inr e3) rfl ?_
      refine hG.aload_n dX1_change_26 rfl ?_
      refine hG.get dX1_change_27 fg_X1_144_X7 (Or.inr e3) rfl ?_
      refine hG.callV dX1_change_30 kv_X1_145 (Rcv.raw hx1 cl_X1) (sp_X1_refuse hΓ hx1) rfl rfl (Nat.le_of_ble_eq_true rfl) (by decide) (by omega) (by omega) (fun r30 I30 L30 hI30 h30 => ?_) (fun _ _ _ _ _ h => h.elim)
      obtain ⟨qe, rfl, hqe, rfl⟩ := h30
      refine hG.athrow dX1_change_33 (Rcv.imm hqe cl_J35) ?_
      refine hG.out (by intro z hz; simp only [List.map_cons, List.map_nil, List.mem_singleton] at hz; subst hz; rfl) ⟨Or.inr ⟨p, e1, rfl⟩, A, ?_, ?_⟩ (by omega) (by omega) trivial
      · rw [e1]
        exact (hF1.mono (ile_tr hI hI30) (fun _ _ h => h)).nums F.fa p.1 p.2
      · exact fun z e hz hn => (up1_n hn).trans (hL1 z _ hz)
  refine hG.aload_n dX1_change_5 rfl ?_
  refine hG.aload_n dX1_change_6 rfl ?_
  refine hG.callF dX1_change_7 kf_X1_133_X18 (Rcv.imm (hI1 _ _ hd) cl_X18) cl_X18 (sp_X18_done hΓ hZ h2 (hW.wc hN) (hI1 _ _ hd)) rfl rfl (Nat.le_of_ble_eq_true rfl) (by decide) (by omega) (by omega) (fun r7 I7 L7 hI7 h7 => ?_) kx7
  obtain ⟨v, R2, A3, ho, rfl, h3, F3⟩ := h7
  have hLk : ∀ z y, L z = some y → z ∉ RN r2 A3 ∧ L7 z = some y := fun z y hz => by
    have q1 := F1 z y hz (by simp)
    exact F3 z y q1.2 q1.1
  refine hG.clR (cutL L7 (RN r2 A3)) h3 (fun z y hz hza => cutL_i hz) ?_
  have hr2 : L r2 = none := by
    cases hy : L r2 with
    | none => rfl
    | some y => exact absurd (List.mem_cons_self) (hLk r2 y hy).1
  have hL3 : ∀ z y, L z = some y → up1 (cutL L7 (RN r2 A3)) r2 (some (rvC dE R2)) z = some y := fun z y hz => (up1_n (ne_none hz hr2)).trans ((cutL_n (hLk z y hz).1).trans (hLk z y hz).2)
  generalize hLL : up1 (cutL L7 (RN r2 A3)) r2 (some (rvC dE R2)) = L3 at hL3 ⊢
  have hr23 : L3 r2 = some (rvC dE R2) := by rw [← hLL]; exact up1_s
  refine hG.istore_n dX1_change_12 (by decide) ?_
  refine hG.aload_n dX1_change_13 rfl ?_
  refine hG.aload_n dX1_change_14 rfl ?_
  refine hG.callV dX1_change_15 kv_X1_139 (Rcv.raw (hL3 _ _ hx) cl_X1) (sp_X1_replace hΓ (hL3 _ _ hx) (hL3 _ _ hr) (hL3 _ _ hpq) (by rw [hpa.len]; exact hW.2.2.1) (fun z hz => by obtain ⟨R, hR⟩ := hpa.mem z hz; exact ⟨R, hL3 _ _ hR⟩)) rfl rfl (Nat.le_of_ble_eq_true rfl) (by decide) (by omega) (by omega) (fun r15 I15 L15 hI15 h15 => ?_) (fun _ _ _ _ _ h => h.elim)
  obtain ⟨rfl, rfl, rfl⟩ := h15
  refine hG.iload_n dX1_change_18 rfl ?_
  refine hG.iret dX1_change_19 rfl ?_ (by omega) (by omega) trivial
  refine ⟨v, R2, (r2, FA.pq A, FA.ip A, FA.ln A, (FA.r A :: FA.xs A).take 8, FA.sv A), ho, rfl, ?_, fun z e hz hn => (up1_n hn).trans ((up1_n (ne_val hz hpq (fun e => by cases e))).trans (hL3 z _ hz))⟩
  rw [ho]
  exact hF.chg (ile_tr hI1 (ile_tr hI7 hI15)) up1_s ((up1_n (ne_val hr23 (hL3 _ _ hx) (fun e => by cases e))).trans ((up1_n (ne_val hr23 (hL3 _ _ hpq) (ne_kind (by decide)))).trans hr23)) ((up1_n (ne_val (hL3 _ _ hpq) (hL3 _ _ hx) (fun e => by cases e))).trans up1_s) (fun z y hz n1 n2 => (up1_n n1).trans ((up1_n n2).trans (hL3 z y hz))) hr2
theorem kf_X1_133_X19 : LkF RX1 133 RX19 ⟨"BraidedFerry$Deed", "done", "(LBraidedFerry$River;)I"⟩ yX19_done 1 := ⟨q1619, q1843, q1845, q133, ⟨by decide +kernel, by decide +kernel, by decide +kernel⟩, q1621, q1620, q1846, q1844, q1842⟩
set_option maxHeartbeats 4000000 in
set_option maxRecDepth 100000 in
theorem sp_X1_change_X19 {l : Launch} {s0 : State} {D : va_G} {I : AI} {L : AL} {dE ca : Nat} {ad : Nat → Nat} (hΓ : Gam l s0 D) (hZ : Std s0 D dE ca ad) (hNc : NcX s0) {x N a : Nat} {F : Fy} {A : FA} (hF : FeO dE I L x F A) (hW : WfF N F) (hN : N ≤ 22) {u f t n : Int32} (hd : I a (ob ciX19 [.int f, .int t, .int u, .int n])) : SpcW l s0 D yX1_change 16 [.ref x, .ref a] I L 4020 16480 (pC dE (comO u f t n F.rv) x F L) (xC dE (comO u f t n F.rv) x F L) := by
  refine SpcW.of hΓ cX1_change 4 (some FieldType.int) [(5, 19, 20, 16)] q399 (by decide +kernel) (by decide) (Nat.le_of_ble_eq_true rfl) (fun G GX hG => ?_)
  obtain ⟨hx, hr, hpq, hpa, hip, hln, hsv, hnd⟩ := id hF
  refine hG.aload_n dX1_change_0 rfl ?_
  refine hG.callV dX1_change_1 kv_X1_129 (Rcv.raw hx cl_X1) (sp_X1_draft hΓ hZ hx hr hW.1 (by omega)) rfl rfl (Nat.le_of_ble_eq_true rfl) (by decide) (by omega) (by omega) (fun r1 I1 L1 hI1 h1 => ?_) (fun _ _ _ _ _ h => h.elim)
  obtain ⟨r2, A2, rfl, h2, F1⟩ := h1
  have hL1 : ∀ z y, L z = some y → L1 z = some y := fun z y hz => (F1 z y hz (by simp)).2
  have hF1 := hF.mono hI1 hL1
  have hx1 := hL1 _ _ hx
  refine hG.astore_n dX1_change_4 (by decide) ?_
  refine hG.lsb [(0, .ref x), (1, .ref a), (2, .ref r2)] ⟨rfl, rfl, rfl, trivial⟩ ?_
  have kx7 : ∀ (E : String) (q : Nat) (I' : AI) (L' : AL), ile I1 I' → xO (comO u f t n F.rv) L1 E q I' L' → GX 7 [(0, .ref x), (1, .ref a), (2, .ref r2)] [] E q I' L' (0 + 311 + 3700) (0 + 3470 + 13000) := by
    intro E q I' L' hI hxo
    obtain ⟨rfl, ⟨b, e1, rfl⟩ | ⟨p, e1, rfl, e3⟩⟩ := hxo
    · refine hG.outP (fun z hz => ?_) ⟨Or.inl ⟨b, e1, rfl⟩, A, by rw [e1]; exact hF1.mono hI (fun _ _ h => h), FrX.sub hL1⟩ (by omega) (by omega) trivial
      simp only [List.map_cons, List.map_nil, List.mem_singleton] at hz
      subst hz
      refine Or.inr ⟨by decide, RX7, q400, ?_⟩
      cases b
      · exact hNc.2.1
      · exact hNc.1
    · refine hG.catch_ [] { startPc := 5, endPc := 19, handlerPc := 20, catchType := 16 } [] rfl (fun z hz => (nomatch hz)) rfl (by decide) q400 q1698 ?_
      refine hG.astore_n dX1_change_20 (by decide) ?_
      refine hG.aload_n dX1_change_21 rfl ?_
      refine hG.aload_n dX1_change_22 rfl ?_
      refine hG.get dX1_change_23 fg_X1_143_X7 (Or.inr e3) rfl ?_
      refine hG.aload_n dX1_change_26 rfl ?_
      refine hG.get dX1_change_27 fg_X1_144_X7 (Or.inr e3) rfl ?_
      refine hG.callV dX1_change_30 kv_X1_145 (Rcv.raw hx1 cl_X1) (sp_X1_refuse hΓ hx1) rfl rfl (Nat.le_of_ble_eq_true rfl) (by decide) (by omega) (by omega) (fun r30 I30 L30 hI30 h30 => ?_) (fun _ _ _ _ _ h => h.elim)
      obtain ⟨qe, rfl, hqe, rfl⟩ := h30
      refine hG.athrow dX1_change_33 (Rcv.imm hqe cl_J35) ?_
      refine hG.out (by intro z hz; simp only [List.map_cons, List.map_nil, List.mem_singleton] at hz; subst hz; rfl) ⟨Or.inr ⟨p, e1, rfl⟩, A, ?_, ?_⟩ (by omega) (by omega) trivial
      · rw [e1]
        exact (hF1.mono (ile_tr hI hI30) (fun _ _ h => h)).nums F.fa p.1 p.2
      · exact fun z e hz hn => (up1_n hn).trans (hL1 z _ hz)
  refine hG.aload_n dX1_change_5 rfl ?_
  refine hG.aload_n dX1_change_6 rfl ?_
  refine hG.callF dX1_change_7 kf_X1_133_X19 (Rcv.imm (hI1 _ _ hd) cl_X19) cl_X19 (sp_X19_done hΓ hZ h2 (hW.wc hN) (hI1 _ _ hd)) rfl rfl (Nat.le_of_ble_eq_true rfl) (by decide) (by omega) (by omega) (fun r7 I7 L7 hI7 h7 => ?_) kx7
  obtain ⟨v, R2, A3, ho, rfl, h3, F3⟩ := h7
  have hLk : ∀ z y, L z = some y → z ∉ RN r2 A3 ∧ L7 z = some y := fun z y hz => by
    have q1 := F1 z y hz (by simp)
    exact F3 z y q1.2 q1.1
  refine hG.clR (cutL L7 (RN r2 A3)) h3 (fun z y hz hza => cutL_i hz) ?_
  have hr2 : L r2 = none := by
    cases hy : L r2 with
    | none => rfl
    | some y => exact absurd (List.mem_cons_self) (hLk r2 y hy).1
  have hL3 : ∀ z y, L z = some y → up1 (cutL L7 (RN r2 A3)) r2 (some (rvC dE R2)) z = some y := fun z y hz => (up1_n (ne_none hz hr2)).trans ((cutL_n (hLk z y hz).1).trans (hLk z y hz).2)
  generalize hLL : up1 (cutL L7 (RN r2 A3)) r2 (some (rvC dE R2)) = L3 at hL3 ⊢
  have hr23 : L3 r2 = some (rvC dE R2) := by rw [← hLL]; exact up1_s
  refine hG.istore_n dX1_change_12 (by decide) ?_
  refine hG.aload_n dX1_change_13 rfl ?_
  refine hG.aload_n dX1_change_14 rfl ?_
  refine hG.callV dX1_change_15 kv_X1_139 (Rcv.raw (hL3 _ _ hx) cl_X1) (sp_X1_replace hΓ (hL3 _ _ hx) (hL3 _ _ hr) (hL3 _ _ hpq) (by rw [hpa.len]; exact hW.2.2.1) (fun z hz => by obtain ⟨R, hR⟩ := hpa.mem z hz; exact ⟨R, hL3 _ _ hR⟩)) rfl rfl (Nat.le_of_ble_eq_true rfl) (by decide) (by omega) (by omega) (fun r15 I15 L15 hI15 h15 => ?_) (fun _ _ _ _ _ h => h.elim)
  obtain ⟨rfl, rfl, rfl⟩ := h15
  refine hG.iload_n dX1_change_18 rfl ?_
  refine hG.iret dX1_change_19 rfl ?_ (by omega) (by omega) trivial
  refine ⟨v, R2, (r2, FA.pq A, FA.ip A, FA.ln A, (FA.r A :: FA.xs A).take 8, FA.sv A), ho, rfl, ?_, fun z e hz hn => (up1_n hn).trans ((up1_n (ne_val hz hpq (fun e => by cases e))).trans (hL3 z _ hz))⟩
  rw [ho]
  exact hF.chg (ile_tr hI1 (ile_tr hI7 hI15)) up1_s ((up1_n (ne_val hr23 (hL3 _ _ hx) (fun e => by cases e))).trans ((up1_n (ne_val hr23 (hL3 _ _ hpq) (ne_kind (by decide)))).trans hr23)) ((up1_n (ne_val (hL3 _ _ hpq) (hL3 _ _ hx) (fun e => by cases e))).trans up1_s) (fun z y hz n1 n2 => (up1_n n1).trans ((up1_n n2).trans (hL3 z y hz))) hr2
theorem kf_X1_133_X20 : LkF RX1 133 RX20 ⟨"BraidedFerry$Deed", "done", "(LBraidedFerry$River;)I"⟩ yX20_done 1 := ⟨q1619, q1746, q1748, q134, ⟨by decide +kernel, by decide +kernel, by decide +kernel⟩, q1621, q1620, q1749, q1747, q1745⟩
set_option maxHeartbeats 4000000 in
set_option maxRecDepth 100000 in
theorem sp_X1_change_X20 {l : Launch} {s0 : State} {D : va_G} {I : AI} {L : AL} {dE ca : Nat} {ad : Nat → Nat} (hΓ : Gam l s0 D) (hZ : Std s0 D dE ca ad) (hNc : NcX s0) {x N a : Nat} {F : Fy} {A : FA} (hF : FeO dE I L x F A) (hW : WfF N F) (hN : N ≤ 22) {u t n s : Int32} (hd : I a (ob ciX20 [.int u, .int t, .int n, .int s])) : SpcW l s0 D yX1_change 16 [.ref x, .ref a] I L 4020 16480 (pC dE (boaO u t n s F.rv) x F L) (xC dE (boaO u t n s F.rv) x F L) := by
  refine SpcW.of hΓ cX1_change 4 (some FieldType.int) [(5, 19, 20, 16)] q399 (by decide +kernel) (by decide) (Nat.le_of_ble_eq_true rfl) (fun G GX hG => ?_)
  obtain ⟨hx, hr, hpq, hpa, hip, hln, hsv, hnd⟩ := id hF
  refine hG.aload_n dX1_change_0 rfl ?_
  refine hG.callV dX1_change_1 kv_X1_129 (Rcv.raw hx cl_X1) (sp_X1_draft hΓ hZ hx hr hW.1 (by omega)) rfl rfl (Nat.le_of_ble_eq_true rfl) (by decide) (by omega) (by omega) (fun r1 I1 L1 hI1 h1 => ?_) (fun _ _ _ _ _ h => h.elim)
  obtain ⟨r2, A2, rfl, h2, F1⟩ := h1
  have hL1 : ∀ z y, L z = some y → L1 z = some y := fun z y hz => (F1 z y hz (by simp)).2
  have hF1 := hF.mono hI1 hL1
  have hx1 := hL1 _ _ hx
  refine hG.astore_n dX1_change_4 (by decide) ?_
  refine hG.lsb [(0, .ref x), (1, .ref a), (2, .ref r2)] ⟨rfl, rfl, rfl, trivial⟩ ?_
  have kx7 : ∀ (E : String) (q : Nat) (I' : AI) (L' : AL), ile I1 I' → xO (boaO u t n s F.rv) L1 E q I' L' → GX 7 [(0, .ref x), (1, .ref a), (2, .ref r2)] [] E q I' L' (0 + 311 + 3700) (0 + 3470 + 13000) := by
    intro E q I' L' hI hxo
    obtain ⟨rfl, ⟨b, e1, rfl⟩ | ⟨p, e1, rfl, e3⟩⟩ := hxo
    · refine hG.outP (fun z hz => ?_) ⟨Or.inl ⟨b, e1, rfl⟩, A, by rw [e1]; exact hF1.mono hI (fun _ _ h => h), FrX.sub hL1⟩ (by omega) (by omega) trivial
      simp only [List.map_cons, List.map_nil, List.mem_singleton] at hz
      subst hz
      refine Or.inr ⟨by decide, RX7, q400, ?_⟩
      cases b
      · exact hNc.2.1
      · exact hNc.1
    · refine hG.catch_ [] { startPc := 5, endPc := 19, handlerPc := 20, catchType := 16 } [] rfl (fun z hz => (nomatch hz)) rfl (by decide) q400 q1698 ?_
      refine hG.astore_n dX1_change_20 (by decide) ?_
      refine hG.aload_n dX1_change_21 rfl ?_
      refine hG.aload_n dX1_change_22 rfl ?_
      refine hG.get dX1_change_23 fg_X1_143_X7 (Or.inr e3) rfl ?_
      refine hG.aload_n dX1_change_26 rfl ?_
      refine hG.get dX1_change_27 fg_X1_144_X7 (Or.inr e3) rfl ?_
      refine hG.callV dX1_change_30 kv_X1_145 (Rcv.raw hx1 cl_X1) (sp_X1_refuse hΓ hx1) rfl rfl (Nat.le_of_ble_eq_true rfl) (by decide) (by omega) (by omega) (fun r30 I30 L30 hI30 h30 => ?_) (fun _ _ _ _ _ h => h.elim)
      obtain ⟨qe, rfl, hqe, rfl⟩ := h30
      refine hG.athrow dX1_change_33 (Rcv.imm hqe cl_J35) ?_
      refine hG.out (by intro z hz; simp only [List.map_cons, List.map_nil, List.mem_singleton] at hz; subst hz; rfl) ⟨Or.inr ⟨p, e1, rfl⟩, A, ?_, ?_⟩ (by omega) (by omega) trivial
      · rw [e1]
        exact (hF1.mono (ile_tr hI hI30) (fun _ _ h => h)).nums F.fa p.1 p.2
      · exact fun z e hz hn => (up1_n hn).trans (hL1 z _ hz)
  refine hG.aload_n dX1_change_5 rfl ?_
  refine hG.aload_n dX1_change_6 rfl ?_
  refine hG.callF dX1_change_7 kf_X1_133_X20 (Rcv.imm (hI1 _ _ hd) cl_X20) cl_X20 (sp_X20_done hΓ hZ h2 (hW.wc hN) (hI1 _ _ hd)) rfl rfl (Nat.le_of_ble_eq_true rfl) (by decide) (by omega) (by omega) (fun r7 I7 L7 hI7 h7 => ?_) kx7
  obtain ⟨v, R2, A3, ho, rfl, h3, F3⟩ := h7
  have hLk : ∀ z y, L z = some y → z ∉ RN r2 A3 ∧ L7 z = some y := fun z y hz => by
    have q1 := F1 z y hz (by simp)
    exact F3 z y q1.2 q1.1
  refine hG.clR (cutL L7 (RN r2 A3)) h3 (fun z y hz hza => cutL_i hz) ?_
  have hr2 : L r2 = none := by
    cases hy : L r2 with
    | none => rfl
    | some y => exact absurd (List.mem_cons_self) (hLk r2 y hy).1
  have hL3 : ∀ z y, L z = some y → up1 (cutL L7 (RN r2 A3)) r2 (some (rvC dE R2)) z = some y := fun z y hz => (up1_n (ne_none hz hr2)).trans ((cutL_n (hLk z y hz).1).trans (hLk z y hz).2)
  generalize hLL : up1 (cutL L7 (RN r2 A3)) r2 (some (rvC dE R2)) = L3 at hL3 ⊢
  have hr23 : L3 r2 = some (rvC dE R2) := by rw [← hLL]; exact up1_s
  refine hG.istore_n dX1_change_12 (by decide) ?_
  refine hG.aload_n dX1_change_13 rfl ?_
  refine hG.aload_n dX1_change_14 rfl ?_
  refine hG.callV dX1_change_15 kv_X1_139 (Rcv.raw (hL3 _ _ hx) cl_X1) (sp_X1_replace hΓ (hL3 _ _ hx) (hL3 _ _ hr) (hL3 _ _ hpq) (by rw [hpa.len]; exact hW.2.2.1) (fun z hz => by obtain ⟨R, hR⟩ := hpa.mem z hz; exact ⟨R, hL3 _ _ hR⟩)) rfl rfl (Nat.le_of_ble_eq_true rfl) (by decide) (by omega) (by omega) (fun r15 I15 L15 hI15 h15 => ?_) (fun _ _ _ _ _ h => h.elim)
  obtain ⟨rfl, rfl, rfl⟩ := h15
  refine hG.iload_n dX1_change_18 rfl ?_
  refine hG.iret dX1_change_19 rfl ?_ (by omega) (by omega) trivial
  refine ⟨v, R2, (r2, FA.pq A, FA.ip A, FA.ln A, (FA.r A :: FA.xs A).take 8, FA.sv A), ho, rfl, ?_, fun z e hz hn => (up1_n hn).trans ((up1_n (ne_val hz hpq (fun e => by cases e))).trans (hL3 z _ hz))⟩
  rw [ho]
  exact hF.chg (ile_tr hI1 (ile_tr hI7 hI15)) up1_s ((up1_n (ne_val hr23 (hL3 _ _ hx) (fun e => by cases e))).trans ((up1_n (ne_val hr23 (hL3 _ _ hpq) (ne_kind (by decide)))).trans hr23)) ((up1_n (ne_val (hL3 _ _ hpq) (hL3 _ _ hx) (fun e => by cases e))).trans up1_s) (fun z y hz n1 n2 => (up1_n n1).trans ((up1_n n2).trans (hL3 z y hz))) hr2
theorem kf_X1_133_X21 : LkF RX1 133 RX21 ⟨"BraidedFerry$Deed", "done", "(LBraidedFerry$River;)I"⟩ yX21_done 1 := ⟨q1619, q2027, q2029, q135, ⟨by decide +kernel, by decide +kernel, by decide +kernel⟩, q1621, q1620, q2030, q2028, q2026⟩
set_option maxHeartbeats 4000000 in
set_option maxRecDepth 100000 in
theorem sp_X1_change_X21 {l : Launch} {s0 : State} {D : va_G} {I : AI} {L : AL} {dE ca : Nat} {ad : Nat → Nat} (hΓ : Gam l s0 D) (hZ : Std s0 D dE ca ad) (hNc : NcX s0) {x N a : Nat} {F : Fy} {A : FA} (hF : FeO dE I L x F A) (hW : WfF N F) (hN : N ≤ 22) (hd : I a (ob ciX21 [])) : SpcW l s0 D yX1_change 16 [.ref x, .ref a] I L 4020 16480 (pC dE (lndO F.rv) x F L) (xC dE (lndO F.rv) x F L) := by
  refine SpcW.of hΓ cX1_change 4 (some FieldType.int) [(5, 19, 20, 16)] q399 (by decide +kernel) (by decide) (Nat.le_of_ble_eq_true rfl) (fun G GX hG => ?_)
  obtain ⟨hx, hr, hpq, hpa, hip, hln, hsv, hnd⟩ := id hF
  refine hG.aload_n dX1_change_0 rfl ?_
  refine hG.callV dX1_change_1 kv_X1_129 (Rcv.raw hx cl_X1) (sp_X1_draft hΓ hZ hx hr hW.1 (by omega)) rfl rfl (Nat.le_of_ble_eq_true rfl) (by decide) (by omega) (by omega) (fun r1 I1 L1 hI1 h1 => ?_) (fun _ _ _ _ _ h => h.elim)
  obtain ⟨r2, A2, rfl, h2, F1⟩ := h1
  have hL1 : ∀ z y, L z = some y → L1 z = some y := fun z y hz => (F1 z y hz (by simp)).2
  have hF1 := hF.mono hI1 hL1
  have hx1 := hL1 _ _ hx
  refine hG.astore_n dX1_change_4 (by decide) ?_
  refine hG.lsb [(0, .ref x), (1, .ref a), (2, .ref r2)] ⟨rfl, rfl, rfl, trivial⟩ ?_
  have kx7 : ∀ (E : String) (q : Nat) (I' : AI) (L' : AL), ile I1 I' → xO (lndO F.rv) L1 E q I' L' → GX 7 [(0, .ref x), (1, .ref a), (2, .ref r2)] [] E q I' L' (0 + 311 + 3700) (0 + 3470 + 13000) := by
    intro E q I' L' hI hxo
    obtain ⟨rfl, ⟨b, e1, rfl⟩ | ⟨p, e1, rfl, e3⟩⟩ := hxo
    · refine hG.outP (fun z hz => ?_) ⟨Or.inl ⟨b, e1, rfl⟩, A, by rw [e1]; exact hF1.mono hI (fun _ _ h => h), FrX.sub hL1⟩ (by omega) (by omega) trivial
      simp only [List.map_cons, List.map_nil, List.mem_singleton] at hz
      subst hz
      refine Or.inr ⟨by decide, RX7, q400, ?_⟩
      cases b
      · exact hNc.2.1
      · exact hNc.1
    · refine hG.catch_ [] { startPc := 5, endPc := 19, handlerPc := 20, catchType := 16 } [] rfl (fun z hz => (nomatch hz)) rfl (by decide) q400 q1698 ?_
      refine hG.astore_n dX1_change_20 (by decide) ?_
      refine hG.aload_n dX1_change_21 rfl ?_
      refine hG.aload_n dX1_change_22 rfl ?_
      refine hG.get dX1_change_23 fg_X1_143_X7 (Or.inr e3) rfl ?_
      refine hG.aload_n dX1_change_26 rfl ?_
      refine hG.get dX1_change_27 fg_X1_144_X7 (Or.inr e3) rfl ?_
      refine hG.callV dX1_change_30 kv_X1_145 (Rcv.raw hx1 cl_X1) (sp_X1_refuse hΓ hx1) rfl rfl (Nat.le_of_ble_eq_true rfl) (by decide) (by omega) (by omega) (fun r30 I30 L30 hI30 h30 => ?_) (fun _ _ _ _ _ h => h.elim)
      obtain ⟨qe, rfl, hqe, rfl⟩ := h30
      refine hG.athrow dX1_change_33 (Rcv.imm hqe cl_J35) ?_
      refine hG.out (by intro z hz; simp only [List.map_cons, List.map_nil, List.mem_singleton] at hz; subst hz; rfl) ⟨Or.inr ⟨p, e1, rfl⟩, A, ?_, ?_⟩ (by omega) (by omega) trivial
      · rw [e1]
        exact (hF1.mono (ile_tr hI hI30) (fun _ _ h => h)).nums F.fa p.1 p.2
      · exact fun z e hz hn => (up1_n hn).trans (hL1 z _ hz)
  refine hG.aload_n dX1_change_5 rfl ?_
  refine hG.aload_n dX1_change_6 rfl ?_
  refine hG.callF dX1_change_7 kf_X1_133_X21 (Rcv.imm (hI1 _ _ hd) cl_X21) cl_X21 (sp_X21_done hΓ hZ h2 (hW.wc hN) (hI1 _ _ hd)) rfl rfl (Nat.le_of_ble_eq_true rfl) (by decide) (by omega) (by omega) (fun r7 I7 L7 hI7 h7 => ?_) kx7
  obtain ⟨v, R2, A3, ho, rfl, h3, F3⟩ := h7
  have hLk : ∀ z y, L z = some y → z ∉ RN r2 A3 ∧ L7 z = some y := fun z y hz => by
    have q1 := F1 z y hz (by simp)
    exact F3 z y q1.2 q1.1
  refine hG.clR (cutL L7 (RN r2 A3)) h3 (fun z y hz hza => cutL_i hz) ?_
  have hr2 : L r2 = none := by
    cases hy : L r2 with
    | none => rfl
    | some y => exact absurd (List.mem_cons_self) (hLk r2 y hy).1
  have hL3 : ∀ z y, L z = some y → up1 (cutL L7 (RN r2 A3)) r2 (some (rvC dE R2)) z = some y := fun z y hz => (up1_n (ne_none hz hr2)).trans ((cutL_n (hLk z y hz).1).trans (hLk z y hz).2)
  generalize hLL : up1 (cutL L7 (RN r2 A3)) r2 (some (rvC dE R2)) = L3 at hL3 ⊢
  have hr23 : L3 r2 = some (rvC dE R2) := by rw [← hLL]; exact up1_s
  refine hG.istore_n dX1_change_12 (by decide) ?_
  refine hG.aload_n dX1_change_13 rfl ?_
  refine hG.aload_n dX1_change_14 rfl ?_
  refine hG.callV dX1_change_15 kv_X1_139 (Rcv.raw (hL3 _ _ hx) cl_X1) (sp_X1_replace hΓ (hL3 _ _ hx) (hL3 _ _ hr) (hL3 _ _ hpq) (by rw [hpa.len]; exact hW.2.2.1) (fun z hz => by obtain ⟨R, hR⟩ := hpa.mem z hz; exact ⟨R, hL3 _ _ hR⟩)) rfl rfl (Nat.le_of_ble_eq_true rfl) (by decide) (by omega) (by omega) (fun r15 I15 L15 hI15 h15 => ?_) (fun _ _ _ _ _ h => h.elim)
  obtain ⟨rfl, rfl, rfl⟩ := h15
  refine hG.iload_n dX1_change_18 rfl ?_
  refine hG.iret dX1_change_19 rfl ?_ (by omega) (by omega) trivial
  refine ⟨v, R2, (r2, FA.pq A, FA.ip A, FA.ln A, (FA.r A :: FA.xs A).take 8, FA.sv A), ho, rfl, ?_, fun z e hz hn => (up1_n hn).trans ((up1_n (ne_val hz hpq (fun e => by cases e))).trans (hL3 z _ hz))⟩
  rw [ho]
  exact hF.chg (ile_tr hI1 (ile_tr hI7 hI15)) up1_s ((up1_n (ne_val hr23 (hL3 _ _ hx) (fun e => by cases e))).trans ((up1_n (ne_val hr23 (hL3 _ _ hpq) (ne_kind (by decide)))).trans hr23)) ((up1_n (ne_val (hL3 _ _ hpq) (hL3 _ _ hx) (fun e => by cases e))).trans up1_s) (fun z y hz n1 n2 => (up1_n n1).trans ((up1_n n2).trans (hL3 z y hz))) hr2
theorem kf_X1_133_X22 : LkF RX1 133 RX22 ⟨"BraidedFerry$Deed", "done", "(LBraidedFerry$River;)I"⟩ yX22_done 1 := ⟨q1619, q2073, q2075, q136, ⟨by decide +kernel, by decide +kernel, by decide +kernel⟩, q1621, q1620, q2076, q2074, q2072⟩
set_option maxHeartbeats 4000000 in
set_option maxRecDepth 100000 in
theorem sp_X1_change_X22 {l : Launch} {s0 : State} {D : va_G} {I : AI} {L : AL} {dE ca : Nat} {ad : Nat → Nat} (hΓ : Gam l s0 D) (hZ : Std s0 D dE ca ad) (hNc : NcX s0) {x N a : Nat} {F : Fy} {A : FA} (hF : FeO dE I L x F A) (hW : WfF N F) (hN : N ≤ 22) {u : Nat} {n : Int32} (hk : u < 3) (hd : I a (ob ciX22 [.int (nI u), .int n])) : SpcW l s0 D yX1_change 16 [.ref x, .ref a] I L 4020 16480 (pC dE (farO u n F.rv) x F L) (xC dE (farO u n F.rv) x F L) := by
  refine SpcW.of hΓ cX1_change 4 (some FieldType.int) [(5, 19, 20, 16)] q399 (by decide +kernel) (by decide) (Nat.le_of_ble_eq_true rfl) (fun G GX hG => ?_)
  obtain ⟨hx, hr, hpq, hpa, hip, hln, hsv, hnd⟩ := id hF
  refine hG.aload_n dX1_change_0 rfl ?_
  refine hG.callV dX1_change_1 kv_X1_129 (Rcv.raw hx cl_X1) (sp_X1_draft hΓ hZ hx hr hW.1 (by omega)) rfl rfl (Nat.le_of_ble_eq_true rfl) (by decide) (by omega) (by omega) (fun r1 I1 L1 hI1 h1 => ?_) (fun _ _ _ _ _ h => h.elim)
  obtain ⟨r2, A2, rfl, h2, F1⟩ := h1
  have hL1 : ∀ z y, L z = some y → L1 z = some y := fun z y hz => (F1 z y hz (by simp)).2
  have hF1 := hF.mono hI1 hL1
  have hx1 := hL1 _ _ hx
  refine hG.astore_n dX1_change_4 (by decide) ?_
  refine hG.lsb [(0, .ref x), (1, .ref a), (2, .ref r2)] ⟨rfl, rfl, rfl, trivial⟩ ?_
  have kx7 : ∀ (E : String) (q : Nat) (I' : AI) (L' : AL), ile I1 I' → xO (farO u n F.rv) L1 E q I' L' → GX 7 [(0, .ref x), (1, .ref a), (2, .ref r2)] [] E q I' L' (0 + 311 + 3700) (0 + 3470 + 13000) := by
    intro E q I' L' hI hxo
    obtain ⟨rfl, ⟨b, e1, rfl⟩ | ⟨p, e1, rfl, e3⟩⟩ := hxo
    · refine hG.outP (fun z hz => ?_) ⟨Or.inl ⟨b, e1, rfl⟩, A, by rw [e1]; exact hF1.mono hI (fun _ _ h => h), FrX.sub hL1⟩ (by omega) (by omega) trivial
      simp only [List.map_cons, List.map_nil, List.mem_singleton] at hz
      subst hz
      refine Or.inr ⟨by decide, RX7, q400, ?_⟩
      cases b
      · exact hNc.2.1
      · exact hNc.1
    · refine hG.catch_ [] { startPc := 5, endPc := 19, handlerPc := 20, catchType := 16 } [] rfl (fun z hz => (nomatch hz)) rfl (by decide) q400 q1698 ?_
      refine hG.astore_n dX1_change_20 (by decide) ?_
      refine hG.aload_n dX1_change_21 rfl ?_
      refine hG.aload_n dX1_change_22 rfl ?_
      refine hG.get dX1_change_23 fg_X1_143_X7 (Or.inr e3) rfl ?_
      refine hG.aload_n dX1_change_26 rfl ?_
      refine hG.get dX1_change_27 fg_X1_144_X7 (Or.inr e3) rfl ?_
      refine hG.callV dX1_change_30 kv_X1_145 (Rcv.raw hx1 cl_X1) (sp_X1_refuse hΓ hx1) rfl rfl (Nat.le_of_ble_eq_true rfl) (by decide) (by omega) (by omega) (fun r30 I30 L30 hI30 h30 => ?_) (fun _ _ _ _ _ h => h.elim)
      obtain ⟨qe, rfl, hqe, rfl⟩ := h30
      refine hG.athrow dX1_change_33 (Rcv.imm hqe cl_J35) ?_
      refine hG.out (by intro z hz; simp only [List.map_cons, List.map_nil, List.mem_singleton] at hz; subst hz; rfl) ⟨Or.inr ⟨p, e1, rfl⟩, A, ?_, ?_⟩ (by omega) (by omega) trivial
      · rw [e1]
        exact (hF1.mono (ile_tr hI hI30) (fun _ _ h => h)).nums F.fa p.1 p.2
      · exact fun z e hz hn => (up1_n hn).trans (hL1 z _ hz)
  refine hG.aload_n dX1_change_5 rfl ?_
  refine hG.aload_n dX1_change_6 rfl ?_
  refine hG.callF dX1_change_7 kf_X1_133_X22 (Rcv.imm (hI1 _ _ hd) cl_X22) cl_X22 (sp_X22_done hΓ hZ h2 (hW.wc hN) hk (hI1 _ _ hd)) rfl rfl (Nat.le_of_ble_eq_true rfl) (by decide) (by omega) (by omega) (fun r7 I7 L7 hI7 h7 => ?_) kx7
  obtain ⟨v, R2, A3, ho, rfl, h3, F3⟩ := h7
  have hLk : ∀ z y, L z = some y → z ∉ RN r2 A3 ∧ L7 z = some y := fun z y hz => by
    have q1 := F1 z y hz (by simp)
    exact F3 z y q1.2 q1.1
  refine hG.clR (cutL L7 (RN r2 A3)) h3 (fun z y hz hza => cutL_i hz) ?_
  have hr2 : L r2 = none := by
    cases hy : L r2 with
    | none => rfl
    | some y => exact absurd (List.mem_cons_self) (hLk r2 y hy).1
  have hL3 : ∀ z y, L z = some y → up1 (cutL L7 (RN r2 A3)) r2 (some (rvC dE R2)) z = some y := fun z y hz => (up1_n (ne_none hz hr2)).trans ((cutL_n (hLk z y hz).1).trans (hLk z y hz).2)
  generalize hLL : up1 (cutL L7 (RN r2 A3)) r2 (some (rvC dE R2)) = L3 at hL3 ⊢
  have hr23 : L3 r2 = some (rvC dE R2) := by rw [← hLL]; exact up1_s
  refine hG.istore_n dX1_change_12 (by decide) ?_
  refine hG.aload_n dX1_change_13 rfl ?_
  refine hG.aload_n dX1_change_14 rfl ?_
  refine hG.callV dX1_change_15 kv_X1_139 (Rcv.raw (hL3 _ _ hx) cl_X1) (sp_X1_replace hΓ (hL3 _ _ hx) (hL3 _ _ hr) (hL3 _ _ hpq) (by rw [hpa.len]; exact hW.2.2.1) (fun z hz => by obtain ⟨R, hR⟩ := hpa.mem z hz; exact ⟨R, hL3 _ _ hR⟩)) rfl rfl (Nat.le_of_ble_eq_true rfl) (by decide) (by omega) (by omega) (fun r15 I15 L15 hI15 h15 => ?_) (fun _ _ _ _ _ h => h.elim)
  obtain ⟨rfl, rfl, rfl⟩ := h15
  refine hG.iload_n dX1_change_18 rfl ?_
  refine hG.iret dX1_change_19 rfl ?_ (by omega) (by omega) trivial
  refine ⟨v, R2, (r2, FA.pq A, FA.ip A, FA.ln A, (FA.r A :: FA.xs A).take 8, FA.sv A), ho, rfl, ?_, fun z e hz hn => (up1_n hn).trans ((up1_n (ne_val hz hpq (fun e => by cases e))).trans (hL3 z _ hz))⟩
  rw [ho]
  exact hF.chg (ile_tr hI1 (ile_tr hI7 hI15)) up1_s ((up1_n (ne_val hr23 (hL3 _ _ hx) (fun e => by cases e))).trans ((up1_n (ne_val hr23 (hL3 _ _ hpq) (ne_kind (by decide)))).trans hr23)) ((up1_n (ne_val (hL3 _ _ hpq) (hL3 _ _ hx) (fun e => by cases e))).trans up1_s) (fun z y hz n1 n2 => (up1_n n1).trans ((up1_n n2).trans (hL3 z y hz))) hr2
theorem kf_X1_133_X23 : LkF RX1 133 RX23 ⟨"BraidedFerry$Deed", "done", "(LBraidedFerry$River;)I"⟩ yX23_done 1 := ⟨q1619, q2083, q2085, q137, ⟨by decide +kernel, by decide +kernel, by decide +kernel⟩, q1621, q1620, q2086, q2084, q2082⟩
set_option maxHeartbeats 4000000 in
set_option maxRecDepth 100000 in
theorem sp_X1_change_X23 {l : Launch} {s0 : State} {D : va_G} {I : AI} {L : AL} {dE ca : Nat} {ad : Nat → Nat} (hΓ : Gam l s0 D) (hZ : Std s0 D dE ca ad) (hNc : NcX s0) {x N a : Nat} {F : Fy} {A : FA} (hF : FeO dE I L x F A) (hW : WfF N F) (hN : N ≤ 22) {n : Int32} (hd : I a (ob ciX23 [.int n])) : SpcW l s0 D yX1_change 16 [.ref x, .ref a] I L 4020 16480 (pC dE (ropO n F.rv) x F L) (xC dE (ropO n F.rv) x F L) := by
  refine SpcW.of hΓ cX1_change 4 (some FieldType.int) [(5, 19, 20, 16)] q399 (by decide +kernel) (by decide) (Nat.le_of_ble_eq_true rfl) (fun G GX hG => ?_)
  obtain ⟨hx, hr, hpq, hpa, hip, hln, hsv, hnd⟩ := id hF
  refine hG.aload_n dX1_change_0 rfl ?_
  refine hG.callV dX1_change_1 kv_X1_129 (Rcv.raw hx cl_X1) (sp_X1_draft hΓ hZ hx hr hW.1 (by omega)) rfl rfl (Nat.le_of_ble_eq_true rfl) (by decide) (by omega) (by omega) (fun r1 I1 L1 hI1 h1 => ?_) (fun _ _ _ _ _ h => h.elim)
  obtain ⟨r2, A2, rfl, h2, F1⟩ := h1
  have hL1 : ∀ z y, L z = some y → L1 z = some y := fun z y hz => (F1 z y hz (by simp)).2
  have hF1 := hF.mono hI1 hL1
  have hx1 := hL1 _ _ hx
  refine hG.astore_n dX1_change_4 (by decide) ?_
  refine hG.lsb [(0, .ref x), (1, .ref a), (2, .ref r2)] ⟨rfl, rfl, rfl, trivial⟩ ?_
  have kx7 : ∀ (E : String) (q : Nat) (I' : AI) (L' : AL), ile I1 I' → xO (ropO n F.rv) L1 E q I' L' → GX 7 [(0, .ref x), (1, .ref a), (2, .ref r2)] [] E q I' L' (0 + 311 + 3700) (0 + 3470 + 13000) := by
    intro E q I' L' hI hxo
    obtain ⟨rfl, ⟨b, e1, rfl⟩ | ⟨p, e1, rfl, e3⟩⟩ := hxo
    · refine hG.outP (fun z hz => ?_) ⟨Or.inl ⟨b, e1, rfl⟩, A, by rw [e1]; exact hF1.mono hI (fun _ _ h => h), FrX.sub hL1⟩ (by omega) (by omega) trivial
      simp only [List.map_cons, List.map_nil, List.mem_singleton] at hz
      subst hz
      refine Or.inr ⟨by decide, RX7, q400, ?_⟩
      cases b
      · exact hNc.2.1
      · exact hNc.1
    · refine hG.catch_ [] { startPc := 5, endPc := 19, handlerPc := 20, catchType := 16 } [] rfl (fun z hz => (nomatch hz)) rfl (by decide) q400 q1698 ?_
      refine hG.astore_n dX1_change_20 (by decide) ?_
      refine hG.aload_n dX1_change_21 rfl ?_
      refine hG.aload_n dX1_change_22 rfl ?_
      refine hG.get dX1_change_23 fg_X1_143_X7 (Or.inr e3) rfl ?_
      refine hG.aload_n dX1_change_26 rfl ?_
      refine hG.get dX1_change_27 fg_X1_144_X7 (Or.inr e3) rfl ?_
      refine hG.callV dX1_change_30 kv_X1_145 (Rcv.raw hx1 cl_X1) (sp_X1_refuse hΓ hx1) rfl rfl (Nat.le_of_ble_eq_true rfl) (by decide) (by omega) (by omega) (fun r30 I30 L30 hI30 h30 => ?_) (fun _ _ _ _ _ h => h.elim)
      obtain ⟨qe, rfl, hqe, rfl⟩ := h30
      refine hG.athrow dX1_change_33 (Rcv.imm hqe cl_J35) ?_
      refine hG.out (by intro z hz; simp only [List.map_cons, List.map_nil, List.mem_singleton] at hz; subst hz; rfl) ⟨Or.inr ⟨p, e1, rfl⟩, A, ?_, ?_⟩ (by omega) (by omega) trivial
      · rw [e1]
        exact (hF1.mono (ile_tr hI hI30) (fun _ _ h => h)).nums F.fa p.1 p.2
      · exact fun z e hz hn => (up1_n hn).trans (hL1 z _ hz)
  refine hG.aload_n dX1_change_5 rfl ?_
  refine hG.aload_n dX1_change_6 rfl ?_
  refine hG.callF dX1_change_7 kf_X1_133_X23 (Rcv.imm (hI1 _ _ hd) cl_X23) cl_X23 (sp_X23_done hΓ hZ h2 (hW.wc hN) (hI1 _ _ hd)) rfl rfl (Nat.le_of_ble_eq_true rfl) (by decide) (by omega) (by omega) (fun r7 I7 L7 hI7 h7 => ?_) kx7
  obtain ⟨v, R2, A3, ho, rfl, h3, F3⟩ := h7
  have hLk : ∀ z y, L z = some y → z ∉ RN r2 A3 ∧ L7 z = some y := fun z y hz => by
    have q1 := F1 z y hz (by simp)
    exact F3 z y q1.2 q1.1
  refine hG.clR (cutL L7 (RN r2 A3)) h3 (fun z y hz hza => cutL_i hz) ?_
  have hr2 : L r2 = none := by
    cases hy : L r2 with
    | none => rfl
    | some y => exact absurd (List.mem_cons_self) (hLk r2 y hy).1
  have hL3 : ∀ z y, L z = some y → up1 (cutL L7 (RN r2 A3)) r2 (some (rvC dE R2)) z = some y := fun z y hz => (up1_n (ne_none hz hr2)).trans ((cutL_n (hLk z y hz).1).trans (hLk z y hz).2)
  generalize hLL : up1 (cutL L7 (RN r2 A3)) r2 (some (rvC dE R2)) = L3 at hL3 ⊢
  have hr23 : L3 r2 = some (rvC dE R2) := by rw [← hLL]; exact up1_s
  refine hG.istore_n dX1_change_12 (by decide) ?_
  refine hG.aload_n dX1_change_13 rfl ?_
  refine hG.aload_n dX1_change_14 rfl ?_
  refine hG.callV dX1_change_15 kv_X1_139 (Rcv.raw (hL3 _ _ hx) cl_X1) (sp_X1_replace hΓ (hL3 _ _ hx) (hL3 _ _ hr) (hL3 _ _ hpq) (by rw [hpa.len]; exact hW.2.2.1) (fun z hz => by obtain ⟨R, hR⟩ := hpa.mem z hz; exact ⟨R, hL3 _ _ hR⟩)) rfl rfl (Nat.le_of_ble_eq_true rfl) (by decide) (by omega) (by omega) (fun r15 I15 L15 hI15 h15 => ?_) (fun _ _ _ _ _ h => h.elim)
  obtain ⟨rfl, rfl, rfl⟩ := h15
  refine hG.iload_n dX1_change_18 rfl ?_
  refine hG.iret dX1_change_19 rfl ?_ (by omega) (by omega) trivial
  refine ⟨v, R2, (r2, FA.pq A, FA.ip A, FA.ln A, (FA.r A :: FA.xs A).take 8, FA.sv A), ho, rfl, ?_, fun z e hz hn => (up1_n hn).trans ((up1_n (ne_val hz hpq (fun e => by cases e))).trans (hL3 z _ hz))⟩
  rw [ho]
  exact hF.chg (ile_tr hI1 (ile_tr hI7 hI15)) up1_s ((up1_n (ne_val hr23 (hL3 _ _ hx) (fun e => by cases e))).trans ((up1_n (ne_val hr23 (hL3 _ _ hpq) (ne_kind (by decide)))).trans hr23)) ((up1_n (ne_val (hL3 _ _ hpq) (hL3 _ _ hx) (fun e => by cases e))).trans up1_s) (fun z y hz n1 n2 => (up1_n n1).trans ((up1_n n2).trans (hL3 z y hz))) hr2
theorem kf_X1_133_X24 : LkF RX1 133 RX24 ⟨"BraidedFerry$Deed", "done", "(LBraidedFerry$River;)I"⟩ yX24_done 1 := ⟨q1619, q1859, q1861, q138, ⟨by decide +kernel, by decide +kernel, by decide +kernel⟩, q1621, q1620, q1862, q1860, q1858⟩
set_option maxHeartbeats 4000000 in
set_option maxRecDepth 100000 in
theorem sp_X1_change_X24 {l : Launch} {s0 : State} {D : va_G} {I : AI} {L : AL} {dE ca : Nat} {ad : Nat → Nat} (hΓ : Gam l s0 D) (hZ : Std s0 D dE ca ad) (hNc : NcX s0) {x N a : Nat} {F : Fy} {A : FA} (hF : FeO dE I L x F A) (hW : WfF N F) (hN : N ≤ 22) {w : Bool} (hd : I a (ob ciX24 [.int (b2i w)])) : SpcW l s0 D yX1_change 16 [.ref x, .ref a] I L 4020 16480 (pC dE (crsO F.rv w) x F L) (xC dE (crsO F.rv w) x F L) := by
  refine SpcW.of hΓ cX1_change 4 (some FieldType.int) [(5, 19, 20, 16)] q399 (by decide +kernel) (by decide) (Nat.le_of_ble_eq_true rfl) (fun G GX hG => ?_)
  obtain ⟨hx, hr, hpq, hpa, hip, hln, hsv, hnd⟩ := id hF
  refine hG.aload_n dX1_change_0 rfl ?_
  refine hG.callV dX1_change_1 kv_X1_129 (Rcv.raw hx cl_X1) (sp_X1_draft hΓ hZ hx hr hW.1 (by omega)) rfl rfl (Nat.le_of_ble_eq_true rfl) (by decide) (by omega) (by omega) (fun r1 I1 L1 hI1 h1 => ?_) (fun _ _ _ _ _ h => h.elim)
  obtain ⟨r2, A2, rfl, h2, F1⟩ := h1
  have hL1 : ∀ z y, L z = some y → L1 z = some y := fun z y hz => (F1 z y hz (by simp)).2
  have hF1 := hF.mono hI1 hL1
  have hx1 := hL1 _ _ hx
  refine hG.astore_n dX1_change_4 (by decide) ?_
  refine hG.lsb [(0, .ref x), (1, .ref a), (2, .ref r2)] ⟨rfl, rfl, rfl, trivial⟩ ?_
  have kx7 : ∀ (E : String) (q : Nat) (I' : AI) (L' : AL), ile I1 I' → xO (crsO F.rv w) L1 E q I' L' → GX 7 [(0, .ref x), (1, .ref a), (2, .ref r2)] [] E q I' L' (0 + 311 + 3700) (0 + 3470 + 13000) := by
    intro E q I' L' hI hxo
    obtain ⟨rfl, ⟨b, e1, rfl⟩ | ⟨p, e1, rfl, e3⟩⟩ := hxo
    · refine hG.outP (fun z hz => ?_) ⟨Or.inl ⟨b, e1, rfl⟩, A, by rw [e1]; exact hF1.mono hI (fun _ _ h => h), FrX.sub hL1⟩ (by omega) (by omega) trivial
      simp only [List.map_cons, List.map_nil, List.mem_singleton] at hz
      subst hz
      refine Or.inr ⟨by decide, RX7, q400, ?_⟩
      cases b
      · exact hNc.2.1
      · exact hNc.1
    · refine hG.catch_ [] { startPc := 5, endPc := 19, handlerPc := 20, catchType := 16 } [] rfl (fun z hz => (nomatch hz)) rfl (by decide) q400 q1698 ?_
      refine hG.astore_n dX1_change_20 (by decide) ?_
      refine hG.aload_n dX1_change_21 rfl ?_
      refine hG.aload_n dX1_change_22 rfl ?_
      refine hG.get dX1_change_23 fg_X1_143_X7 (Or.inr e3) rfl ?_
      refine hG.aload_n dX1_change_26 rfl ?_
      refine hG.get dX1_change_27 fg_X1_144_X7 (Or.inr e3) rfl ?_
      refine hG.callV dX1_change_30 kv_X1_145 (Rcv.raw hx1 cl_X1) (sp_X1_refuse hΓ hx1) rfl rfl (Nat.le_of_ble_eq_true rfl) (by decide) (by omega) (by omega) (fun r30 I30 L30 hI30 h30 => ?_) (fun _ _ _ _ _ h => h.elim)
      obtain ⟨qe, rfl, hqe, rfl⟩ := h30
      refine hG.athrow dX1_change_33 (Rcv.imm hqe cl_J35) ?_
      refine hG.out (by intro z hz; simp only [List.map_cons, List.map_nil, List.mem_singleton] at hz; subst hz; rfl) ⟨Or.inr ⟨p, e1, rfl⟩, A, ?_, ?_⟩ (by omega) (by omega) trivial
      · rw [e1]
        exact (hF1.mono (ile_tr hI hI30) (fun _ _ h => h)).nums F.fa p.1 p.2
      · exact fun z e hz hn => (up1_n hn).trans (hL1 z _ hz)
  refine hG.aload_n dX1_change_5 rfl ?_
  refine hG.aload_n dX1_change_6 rfl ?_
  refine hG.callF dX1_change_7 kf_X1_133_X24 (Rcv.imm (hI1 _ _ hd) cl_X24) cl_X24 (sp_X24_done hΓ hZ h2 (hW.wc hN) (hI1 _ _ hd)) rfl rfl (Nat.le_of_ble_eq_true rfl) (by decide) (by omega) (by omega) (fun r7 I7 L7 hI7 h7 => ?_) kx7
  obtain ⟨v, R2, A3, ho, rfl, h3, F3⟩ := h7
  have hLk : ∀ z y, L z = some y → z ∉ RN r2 A3 ∧ L7 z = some y := fun z y hz => by
    have q1 := F1 z y hz (by simp)
    exact F3 z y q1.2 q1.1
  refine hG.clR (cutL L7 (RN r2 A3)) h3 (fun z y hz hza => cutL_i hz) ?_
  have hr2 : L r2 = none := by
    cases hy : L r2 with
    | none => rfl
    | some y => exact absurd (List.mem_cons_self) (hLk r2 y hy).1
  have hL3 : ∀ z y, L z = some y → up1 (cutL L7 (RN r2 A3)) r2 (some (rvC dE R2)) z = some y := fun z y hz => (up1_n (ne_none hz hr2)).trans ((cutL_n (hLk z y hz).1).trans (hLk z y hz).2)
  generalize hLL : up1 (cutL L7 (RN r2 A3)) r2 (some (rvC dE R2)) = L3 at hL3 ⊢
  have hr23 : L3 r2 = some (rvC dE R2) := by rw [← hLL]; exact up1_s
  refine hG.istore_n dX1_change_12 (by decide) ?_
  refine hG.aload_n dX1_change_13 rfl ?_
  refine hG.aload_n dX1_change_14 rfl ?_
  refine hG.callV dX1_change_15 kv_X1_139 (Rcv.raw (hL3 _ _ hx) cl_X1) (sp_X1_replace hΓ (hL3 _ _ hx) (hL3 _ _ hr) (hL3 _ _ hpq) (by rw [hpa.len]; exact hW.2.2.1) (fun z hz => by obtain ⟨R, hR⟩ := hpa.mem z hz; exact ⟨R, hL3 _ _ hR⟩)) rfl rfl (Nat.le_of_ble_eq_true rfl) (by decide) (by omega) (by omega) (fun r15 I15 L15 hI15 h15 => ?_) (fun _ _ _ _ _ h => h.elim)
  obtain ⟨rfl, rfl, rfl⟩ := h15
  refine hG.iload_n dX1_change_18 rfl ?_
  refine hG.iret dX1_change_19 rfl ?_ (by omega) (by omega) trivial
  refine ⟨v, R2, (r2, FA.pq A, FA.ip A, FA.ln A, (FA.r A :: FA.xs A).take 8, FA.sv A), ho, rfl, ?_, fun z e hz hn => (up1_n hn).trans ((up1_n (ne_val hz hpq (fun e => by cases e))).trans (hL3 z _ hz))⟩
  rw [ho]
  exact hF.chg (ile_tr hI1 (ile_tr hI7 hI15)) up1_s ((up1_n (ne_val hr23 (hL3 _ _ hx) (fun e => by cases e))).trans ((up1_n (ne_val hr23 (hL3 _ _ hpq) (ne_kind (by decide)))).trans hr23)) ((up1_n (ne_val (hL3 _ _ hpq) (hL3 _ _ hx) (fun e => by cases e))).trans up1_s) (fun z y hz n1 n2 => (up1_n n1).trans ((up1_n n2).trans (hL3 z y hz))) hr2
theorem kf_X1_133_X25 : LkF RX1 133 RX25 ⟨"BraidedFerry$Deed", "done", "(LBraidedFerry$River;)I"⟩ yX25_done 1 := ⟨q1619, q2057, q2059, q139, ⟨by decide +kernel, by decide +kernel, by decide +kernel⟩, q1621, q1620, q2060, q2058, q2056⟩
set_option maxHeartbeats 4000000 in
set_option maxRecDepth 100000 in
theorem sp_X1_change_X25 {l : Launch} {s0 : State} {D : va_G} {I : AI} {L : AL} {dE ca : Nat} {ad : Nat → Nat} (hΓ : Gam l s0 D) (hZ : Std s0 D dE ca ad) (hNc : NcX s0) {x N a : Nat} {F : Fy} {A : FA} (hF : FeO dE I L x F A) (hW : WfF N F) (hN : N ≤ 22) {n : Int32} (hd : I a (ob ciX25 [.int n])) : SpcW l s0 D yX1_change 16 [.ref x, .ref a] I L 4020 16480 (pC dE (pasO n F.rv) x F L) (xC dE (pasO n F.rv) x F L) := by
  refine SpcW.of hΓ cX1_change 4 (some FieldType.int) [(5, 19, 20, 16)] q399 (by decide +kernel) (by decide) (Nat.le_of_ble_eq_true rfl) (fun G GX hG => ?_)
  obtain ⟨hx, hr, hpq, hpa, hip, hln, hsv, hnd⟩ := id hF
  refine hG.aload_n dX1_change_0 rfl ?_
  refine hG.callV dX1_change_1 kv_X1_129 (Rcv.raw hx cl_X1) (sp_X1_draft hΓ hZ hx hr hW.1 (by omega)) rfl rfl (Nat.le_of_ble_eq_true rfl) (by decide) (by omega) (by omega) (fun r1 I1 L1 hI1 h1 => ?_) (fun _ _ _ _ _ h => h.elim)
  obtain ⟨r2, A2, rfl, h2, F1⟩ := h1
  have hL1 : ∀ z y, L z = some y → L1 z = some y := fun z y hz => (F1 z y hz (by simp)).2
  have hF1 := hF.mono hI1 hL1
  have hx1 := hL1 _ _ hx
  refine hG.astore_n dX1_change_4 (by decide) ?_
  refine hG.lsb [(0, .ref x), (1, .ref a), (2, .ref r2)] ⟨rfl, rfl, rfl, trivial⟩ ?_
  have kx7 : ∀ (E : String) (q : Nat) (I' : AI) (L' : AL), ile I1 I' → xO (pasO n F.rv) L1 E q I' L' → GX 7 [(0, .ref x), (1, .ref a), (2, .ref r2)] [] E q I' L' (0 + 311 + 3700) (0 + 3470 + 13000) := by
    intro E q I' L' hI hxo
    obtain ⟨rfl, ⟨b, e1, rfl⟩ | ⟨p, e1, rfl, e3⟩⟩ := hxo
    · refine hG.outP (fun z hz => ?_) ⟨Or.inl ⟨b, e1, rfl⟩, A, by rw [e1]; exact hF1.mono hI (fun _ _ h => h), FrX.sub hL1⟩ (by omega) (by omega) trivial
      simp only [List.map_cons, List.map_nil, List.mem_singleton] at hz
      subst hz
      refine Or.inr ⟨by decide, RX7, q400, ?_⟩
      cases b
      · exact hNc.2.1
      · exact hNc.1
    · refine hG.catch_ [] { startPc := 5, endPc := 19, handlerPc := 20, catchType := 16 } [] rfl (fun z hz => (nomatch hz)) rfl (by decide) q400 q1698 ?_
      refine hG.astore_n dX1_change_20 (by decide) ?_
      refine hG.aload_n dX1_change_21 rfl ?_
      refine hG.aload_n dX1_change_22 rfl ?_
      refine hG.get dX1_change_23 fg_X1_143_X7 (Or.inr e3) rfl ?_
      refine hG.aload_n dX1_change_26 rfl ?_
      refine hG.get dX1_change_27 fg_X1_144_X7 (Or.inr e3) rfl ?_
      refine hG.callV dX1_change_30 kv_X1_145 (Rcv.raw hx1 cl_X1) (sp_X1_refuse hΓ hx1) rfl rfl (Nat.le_of_ble_eq_true rfl) (by decide) (by omega) (by omega) (fun r30 I30 L30 hI30 h30 => ?_) (fun _ _ _ _ _ h => h.elim)
      obtain ⟨qe, rfl, hqe, rfl⟩ := h30
      refine hG.athrow dX1_change_33 (Rcv.imm hqe cl_J35) ?_
      refine hG.out (by intro z hz; simp only [List.map_cons, List.map_nil, List.mem_singleton] at hz; subst hz; rfl) ⟨Or.inr ⟨p, e1, rfl⟩, A, ?_, ?_⟩ (by omega) (by omega) trivial
      · rw [e1]
        exact (hF1.mono (ile_tr hI hI30) (fun _ _ h => h)).nums F.fa p.1 p.2
      · exact fun z e hz hn => (up1_n hn).trans (hL1 z _ hz)
  refine hG.aload_n dX1_change_5 rfl ?_
  refine hG.aload_n dX1_change_6 rfl ?_
  refine hG.callF dX1_change_7 kf_X1_133_X25 (Rcv.imm (hI1 _ _ hd) cl_X25) cl_X25 (sp_X25_done hΓ hZ h2 (hW.wc hN) (hI1 _ _ hd)) rfl rfl (Nat.le_of_ble_eq_true rfl) (by decide) (by omega) (by omega) (fun r7 I7 L7 hI7 h7 => ?_) kx7
  obtain ⟨v, R2, A3, ho, rfl, h3, F3⟩ := h7
  have hLk : ∀ z y, L z = some y → z ∉ RN r2 A3 ∧ L7 z = some y := fun z y hz => by
    have q1 := F1 z y hz (by simp)
    exact F3 z y q1.2 q1.1
  refine hG.clR (cutL L7 (RN r2 A3)) h3 (fun z y hz hza => cutL_i hz) ?_
  have hr2 : L r2 = none := by
    cases hy : L r2 with
    | none => rfl
    | some y => exact absurd (List.mem_cons_self) (hLk r2 y hy).1
  have hL3 : ∀ z y, L z = some y → up1 (cutL L7 (RN r2 A3)) r2 (some (rvC dE R2)) z = some y := fun z y hz => (up1_n (ne_none hz hr2)).trans ((cutL_n (hLk z y hz).1).trans (hLk z y hz).2)
  generalize hLL : up1 (cutL L7 (RN r2 A3)) r2 (some (rvC dE R2)) = L3 at hL3 ⊢
  have hr23 : L3 r2 = some (rvC dE R2) := by rw [← hLL]; exact up1_s
  refine hG.istore_n dX1_change_12 (by decide) ?_
  refine hG.aload_n dX1_change_13 rfl ?_
  refine hG.aload_n dX1_change_14 rfl ?_
  refine hG.callV dX1_change_15 kv_X1_139 (Rcv.raw (hL3 _ _ hx) cl_X1) (sp_X1_replace hΓ (hL3 _ _ hx) (hL3 _ _ hr) (hL3 _ _ hpq) (by rw [hpa.len]; exact hW.2.2.1) (fun z hz => by obtain ⟨R, hR⟩ := hpa.mem z hz; exact ⟨R, hL3 _ _ hR⟩)) rfl rfl (Nat.le_of_ble_eq_true rfl) (by decide) (by omega) (by omega) (fun r15 I15 L15 hI15 h15 => ?_) (fun _ _ _ _ _ h => h.elim)
  obtain ⟨rfl, rfl, rfl⟩ := h15
  refine hG.iload_n dX1_change_18 rfl ?_
  refine hG.iret dX1_change_19 rfl ?_ (by omega) (by omega) trivial
  refine ⟨v, R2, (r2, FA.pq A, FA.ip A, FA.ln A, (FA.r A :: FA.xs A).take 8, FA.sv A), ho, rfl, ?_, fun z e hz hn => (up1_n hn).trans ((up1_n (ne_val hz hpq (fun e => by cases e))).trans (hL3 z _ hz))⟩
  rw [ho]
  exact hF.chg (ile_tr hI1 (ile_tr hI7 hI15)) up1_s ((up1_n (ne_val hr23 (hL3 _ _ hx) (fun e => by cases e))).trans ((up1_n (ne_val hr23 (hL3 _ _ hpq) (ne_kind (by decide)))).trans hr23)) ((up1_n (ne_val (hL3 _ _ hpq) (hL3 _ _ hx) (fun e => by cases e))).trans up1_s) (fun z y hz n1 n2 => (up1_n n1).trans ((up1_n n2).trans (hL3 z y hz))) hr2
