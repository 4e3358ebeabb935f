/-! the ferry: the line of a stop -/
def entT (x : Nat × Int32) : List Nat := nmN (x.1 / 49) ++ [32, 116, 111, 32] ++ dec (x.1 % 7) ++ [32, 120] ++ dec x.2.toNatClampNeg
def linE (s : Nat) (a : List Nat) (x : Nat × Int32) : List Nat := if x.1 / 7 % 7 = s then (if a = [] then entT x else a ++ [44, 32] ++ entT x) else a
def linA (s : Nat) (t : Tal) : List Nat := t.foldl (linE s) []
def linT (s : Nat) (t : Tal) : List Nat := if linA s t = [] then [110, 111, 98, 111, 100, 121] else linA s t
def linF (F : Fy) (n : Int32) : Fy × Int32 × Int32 := if inR n 0 (nI F.rv.ch.length) = true then (F.wLi ((linT n.toNatClampNeg F.rv.wa).map nI), 0, nI (linT n.toNatClampNeg F.rv.wa).length) else (F, 1, 0)
theorem linA_app (s : Nat) (t : Tal) (x : Nat × Int32) : linA s (t ++ [x]) = linE s (linA s t) x := by
  unfold linA
  rw [List.foldl_append]
  rfl
theorem nm_len (k : Nat) : (nmN k).length ≤ 5 := by
  unfold nmN
  split
  · decide
  · split <;> decide
theorem nm_c (k : Nat) : ∀ c ∈ nmN k, c < 256 := by
  unfold nmN
  split
  · decide
  · split <;> decide
theorem ent_c {x : Nat × Int32} (h : x.2.toNatClampNeg < 1000) : ∀ c ∈ entT x, c < 256 := by
  intro c hc
  unfold entT at hc
  rcases List.mem_append.mp hc with q | q
  · rcases List.mem_append.mp q with q | q
    · rcases List.mem_append.mp q with q | q
      · rcases List.mem_append.mp q with q | q
        · exact nm_c _ c q
        · simp at q; omega
      · exact dec_c (by omega) c q
    · simp at q; omega
  · exact dec_c h c q
theorem ent_len {x : Nat × Int32} : (entT x).length ≤ 15 ∧ 1 ≤ (entT x).length := by
  have h1 := nm_len (x.1 / 49)
  have h2 := dec_len x.2.toNatClampNeg
  have h3 : (dec (x.1 % 7)).length = 1 := by rw [dec_1 (by omega)]; rfl
  unfold entT
  simp only [List.length_append, List.length_cons, List.length_nil]
  omega
theorem lin_len {s : Nat} {a : List Nat} {x : Nat × Int32} : (linE s a x).length ≤ a.length + 17 := by
  have h1 := ent_len (x := x)
  unfold linE
  split
  · split
    · omega
    · simp only [List.length_append, List.length_cons, List.length_nil]
      omega
  · omega
theorem lin_c {s : Nat} {a : List Nat} {x : Nat × Int32} (h : x.2.toNatClampNeg < 1000) (ha : ∀ c ∈ a, c < 256) : ∀ c ∈ linE s a x, c < 256 := by
  intro c hc
  unfold linE at hc
  split at hc
  · split at hc
    · exact ent_c h c hc
    · rcases List.mem_append.mp hc with q | q
      · rcases List.mem_append.mp q with q | q
        · exact ha c q
        · simp at q; omega
      · exact ent_c h c q
  · exact ha c hc
theorem lin_0 {s : Nat} {x : Nat × Int32} (h : x.1 / 7 % 7 = s) : linE s [] x = entT x := (if_pos h).trans (if_pos rfl)
theorem lin_1 {s : Nat} {a : List Nat} {x : Nat × Int32} (h : x.1 / 7 % 7 = s) (ha : a ≠ []) : linE s a x = a ++ [44, 32] ++ entT x := (if_pos h).trans (if_neg ha)
theorem lin_n {s : Nat} {a : List Nat} {x : Nat × Int32} (h : ¬ x.1 / 7 % 7 = s) : linE s a x = a := if_neg h
theorem FeO.lin {dE : Nat} {I J : AI} {L L' : AL} {x : Nat} {F : Fy} {A : FA} {ln : Nat} {u : List Int32} (h : FeO dE I L x F A) (hI : ile I J) (h1 : L' x = some (feC (FA.r A) (FA.pq A) (FA.ip A) ln F.fa F.re F.de (FA.sv A))) (hk : ∀ z y, L z = some y → z ≠ x → L' z = some y) (hl : LnO J L' (FA.ip A) ln u) : FeO dE J L' x (F.wLi u) (FA.r A, FA.pq A, FA.ip A, ln, FA.xs A, FA.sv A) := by
  obtain ⟨g1, g2, g3, g4, ⟨k, ml, t, g5, g6, g7, g75, g8⟩, g9, g10, g11⟩ := h
  have kn : ∀ z y, L z = some y → (∀ e, y ≠ .inl e) → L' z = some y := fun z y hz hy => hk z y hz (fun e => by rw [e, g1] at hz; exact hy _ (Option.some.inj hz).symm)
  refine ⟨h1, kn _ _ g2 (fun e q => by cases q), kn _ _ g3 (fun e q => by cases q), g4.mono (fun z hz y hy => ?_), ⟨k, ml, t, g5, g6, g7, g75, kn _ _ g8 (fun e q => by cases q)⟩, hl, g10.mono (fun z hz y hy => ?_), g11⟩
  · obtain ⟨R, hR⟩ := g4.mem z hz
    rw [hR] at hy
    cases hy
    exact kn _ _ hR (fun e q => by cases q)
  · obtain ⟨R, hR⟩ := SvO.mem g10 z hz
    rw [hR] at hy
    cases hy
    exact kn _ _ hR (fun e q => by cases q)
theorem fg_X1_278_X9 : LkG RX1 278 ciX9 1 := ⟨RX9, TX9, 3, tyX9, _, cls_X9, by decide, Or.inl rfl, Or.inr ⟨_, q1767⟩⟩
theorem kv_X1_286 : LkV RX1 286 yJ8_append 1 := ⟨q2616, q896, q897, q84, by decide +kernel, by decide +kernel, by decide +kernel⟩
theorem fg_X1_290_X9 : LkG RX1 290 ciX9 0 := ⟨RX9, TX9, 3, tyX9, _, cls_X9, by decide, Or.inl rfl, Or.inr ⟨_, q1765⟩⟩
theorem ks_X1_293 : LkS RX1 293 yX10_nameOf 1 := ⟨q2617, q2618, q120, by decide +kernel, by decide +kernel, by decide +kernel⟩
theorem fg_X1_299_X9 : LkG RX1 299 ciX9 2 := ⟨RX9, TX9, 3, tyX9, _, cls_X9, by decide, Or.inl rfl, Or.inr ⟨_, q1771⟩⟩
theorem kv_X1_302 : LkV RX1 302 yJ8_append_2 1 := ⟨q2624, q991, q992, q84, by decide +kernel, by decide +kernel, by decide +kernel⟩
theorem kv_X1_307 : LkV RX1 307 yJ8_append_3 1 := ⟨q2626, q2627, q2628, q84, by decide +kernel, by decide +kernel, by decide +kernel⟩
theorem fg_X1_271_X3 : LkG RX1 271 ciX3 0 := ⟨RX3, TX3, 1, tyX3, _, cls_X3, by decide, Or.inl rfl, Or.inr ⟨_, q249⟩⟩
theorem kv_X1_275 : LkV RX1 275 yJ5_entrySet 0 := ⟨q2613, q662, q663, q81, by decide +kernel, by decide +kernel, by decide +kernel⟩
set_option maxHeartbeats 4000000 in
set_option maxRecDepth 100000 in
theorem sp_X1_line {l : Launch} {s0 : State} {D : va_G} {I : AI} {L : AL} {dE ca : Nat} {ad : Nat → Nat} {o : Option Nat} {d1 d2 : Nat} (hΓ : Gam l s0 D) (hZ : Std s0 D dE ca ad) {x N : Nat} {F : Fy} {A : FA} (hF : FeO dE I L x F A) (hW : WfF N F) (hN : N ≤ 22) (hT : StX s0 D o) (hDg : StD s0 D d1 d2) {n : Int32} : Spc l s0 D yX1_line 10 [.ref x, .int n] I L (80 + 9 * F.rv.wa.length) (1200 + 11700 * F.rv.wa.length) (pF dE (linF F n) x L) (xE1 RJ33 ((linF F n).2.1) L) := by
  refine Spc.of hΓ cX1_line 7 (some FieldType.int) q2612 (by decide +kernel) (by decide) (Nat.le_of_ble_eq_true rfl) (fun G GX hG => ?_)
  obtain ⟨hx, hr, hpq, hpa, hip, hln, hsv, hnd⟩ := id hF
  have hX := hT.v
  have hip9 : L (FA.ip A) ≠ none := by
    obtain ⟨_, _, _, _, _, _, _, h⟩ := hip
    rw [h]
    exact (fun h => nomatch h)
  refine hG.opR hr (fun B M g hf => ?_)
  have hxM := (hf x _ hx (ne_val hx hr (fun e => by cases e))).2
  refine hG.aload_n dX1_line_0 rfl ?_
  refine hG.get dX1_line_1 fg_X1_78_X1 (Or.inl hxM) rfl ?_
  refine hG.iload_n dX1_line_4 rfl ?_
  refine hG.callV dX1_line_5 kv_X1_240 (Rcv.raw g.h cl_X2) (sp_X2_stop hΓ hZ g) rfl rfl (Nat.le_of_ble_eq_true rfl) (by decide) (by omega) (by omega) (fun r5 I5 L5 hI5 h5 => ?_) (fun E q I' L' hI hx9 => by obtain ⟨e1, e2, rfl⟩ := hx9; exact hG.clRXs L hr (g.mono hI (fun _ _ _ h => h)) hf (hG.out (by simp) ⟨rfl, by rw [show linF F n = (F, 1, 0) from if_neg (bFT e2)], e1⟩ (by omega) (by omega) trivial))
  obtain ⟨rfl, rfl, rfl, hb1⟩ := h5
  have h6 := hW.1.ch6
  obtain ⟨s, hs6, rfl⟩ := idx_le (by omega) hb1
  refine hG.istore_n dX1_line_8 (by decide) ?_
  refine hG.new dX1_line_9 nw_X1_89 (by omega) (by omega) (fun tb hLtb hItb => ?_)
  refine hG.dup dX1_line_12 rfl ?_
  refine hG.callI dX1_line_13 ki_X1_91 (sp_J8_init (b := 400) hΓ hX (by decide) up1_s) rfl rfl (Nat.le_of_ble_eq_true rfl) (by decide) (by omega) (by omega) (fun r13 I13 L13 hI13 h13 => ?_) (fun _ _ _ _ _ h => h.elim)
  obtain ⟨rfl, rfl, rfl⟩ := h13
  rw [up1_up1]
  have hMtn : M tb = none := hLtb
  have hxtb : x ≠ tb := ne_none hxM hMtn
  have htbL : L tb = none := by
    cases hy : L tb with
    | none => rfl
    | some y =>
      by_cases e : tb = FA.r A
      · rw [e] at hMtn; exact absurd hMtn (g.dom _ (by simp [RN]))
      · cases hMtn.symm.trans (hf tb y hy e).2
  have htbi : tb ≠ FA.ip A := fun e => by rw [e] at htbL; exact absurd htbL hip9
  refine hG.astore_n dX1_line_16 (by decide) ?_
  refine hG.aload_n dX1_line_17 rfl ?_
  refine hG.get dX1_line_18 fg_X1_78_X1 (Or.inl ((up1_n hxtb).trans hxM)) rfl ?_
  refine hG.get dX1_line_21 fg_X1_246_X2 (Or.inl (g.nw ile_rf hMtn _).h) rfl ?_
  refine hG.opT (g.nw ile_rf hMtn _).h3 (fun mp mo es M2 hne hMa hMm ht hnc hlt hf2 => ?_)
  have htba : tb ≠ B.a3 := fun e => by rw [e, g.h3] at hMtn; cases hMtn
  have hMtb : M2 tb = some (sbC 400 0 0 []) := (hf2 tb _ up1_s htba).2
  have hmpt : mp ≠ tb := ne_val hMm hMtb (ne_kind (by decide))
  have hesl : es.length = F.rv.wa.length := by rw [← ht]; exact (List.length_map _).symm
  have hw22 := hW.1.ln.1
  refine hG.get dX1_line_24 fg_X1_271_X3 (Or.inl hMa) rfl ?_
  refine hG.callV dX1_line_27 kv_X1_275 (Rcv.mp hMm) (sp_J5_entrySet hΓ hMm) rfl rfl (Nat.le_of_ble_eq_true rfl) (by decide) (by omega) (by omega) (fun r27 I27 L27 hI27 h27 => ?_) (fun _ _ _ _ _ h => h.elim)
  obtain ⟨rfl, q, rfl, hq⟩ := h27
  refine hG.callF dX1_line_30 kf_X1_27_J21 (Rcv.imm hq cl_J21) cl_J21 (sp_J21_iterator hΓ hq hMm) rfl rfl (Nat.le_of_ble_eq_true rfl) (by decide) (by omega) (by omega) (fun r30 I30 L30 hI30 h30 => ?_) (fun _ _ _ _ _ h => h.elim)
  obtain ⟨rfl, it, hitn, hitm, rfl, rfl⟩ := h30
  refine hG.astore dX1_line_35 (by decide) ?_
  obtain ⟨I9, hI9e⟩ : ∃ I9, I9 = I27 := ⟨_, rfl⟩
  rw [← hI9e]
  have hI9 : ile I I9 := by rw [hI9e]; exact hI27
  have hitb : it ≠ tb := fun e => by rw [e, hMtb] at hitn; cases hitn
  have loop : ∀ (r i : Nat) (acc : List Nat) (ml : Int32) (cv : Value) (I1 : AI) (L1 : AL), i + r = es.length → acc = linA s (tal (es.take i)) → ile I9 I1 → L1 it = some (obC ciJ23 [va_rf (ads es)[i]?, cv, .int (mo), .int 0, .ref mp]) → L1 tb = some (sbC 400 0 ml acc) → (∀ z y, M2 z = some y → z ≠ tb → L1 z = some y) → acc.length ≤ 17 * i → (∀ c ∈ acc, c < 256) → G 37 [(0, .ref x), (2, .int (nI s)), (3, .ref tb), (4, .ref it)] [] I1 L1 (60 + 9 * i) (900 + 11700 * i) := by
    intro r
    induction r with
    | zero =>
      intro i acc ml cv I1 L1 hir hacc hI1 hit htb hk hln hcc
      have hi : es.length = i := by omega
      rw [ads_end (by omega)] at hit
      refine hG.aload dX1_line_37 rfl ?_
      refine hG.callF dX1_line_39 kf_X1_33_J23 (Rcv.raw hit cl_J23) cl_J23 (sp_J22_hasNext hΓ hit) rfl rfl (Nat.le_of_ble_eq_true rfl) (by decide) (by omega) (by omega) (fun r39 I39 L39 hI39 h39 => ?_) (fun _ _ _ _ _ h => h.elim)
      obtain ⟨rfl, rfl, rfl⟩ := h39
      refine hG.if_eq (tgt := 144) dX1_line_44 rfl (fun c_44 => ?_) (fun c_44 => absurd rfl c_44)
      rw [List.take_of_length_le (by omega), ht] at hacc
      refine hG.sub (S := up1 M2 tb (some (sbC 400 0 ml acc))) (fun z y hz => ?_) ?_
      · by_cases e : z = tb
        · subst e; rw [up1_s] at hz; rw [htb]; exact hz
        · rw [up1_n e] at hz; exact hk z y hz e
      refine hG.clT (up1 M tb (some (sbC 400 0 ml acc))) F.rv.wa hne ((up1_n htba.symm).trans hMa) ((up1_n hmpt).trans hMm) ht (fun z y hz hn => ?_) ?_
      · by_cases e : z = tb
        · subst e
          exact ⟨(hf2 z _ up1_s hn).1, by rw [up1_s] at hz ⊢; exact hz⟩
        · have q := hf2 z y (by rw [up1_n e] at hz ⊢; exact hz) hn
          exact ⟨q.1, (up1_n e).trans q.2⟩
      rw [show up1 (up1 M tb (some (sbC 400 0 ml acc))) B.a3 (some (taC F.rv.wa)) = up1 M tb (some (sbC 400 0 ml acc)) from by rw [← show up1 M tb (some (sbC 400 0 ml acc)) B.a3 = some (taC F.rv.wa) from (up1_n htba.symm).trans g.h3, up1_self]]
      refine hG.clRs (up1 L tb (some (sbC 400 0 ml acc))) ((up1_n (ne_none hr htbL)).trans hr) (g.nw (ile_tr hI9 hI1) hMtn _) (fun z y hz hn => ?_) ?_
      · by_cases e : z = tb
        · subst e
          exact ⟨fun hm => g.dom z hm hMtn, by rw [up1_s] at hz ⊢; exact hz⟩
        · have q := hf z y (by rw [up1_n e] at hz; exact hz) hn
          exact ⟨q.1, (up1_n e).trans q.2⟩
      refine hG.lsb [(0, .ref x), (3, .ref tb)] ⟨rfl, rfl, trivial⟩ ?_
      have hlt9 : acc.length ≤ 400 := by omega
      by_cases hac : acc = []
      · subst hac
        refine hG.aload_n dX1_line_144 rfl ?_
        refine hG.aload_n dX1_line_145 rfl ?_
        refine hG.callV dX1_line_146 kv_X1_281 (Rcv.sb up1_s) (sp_J8_length hΓ up1_s) rfl rfl (Nat.le_of_ble_eq_true rfl) (by decide) (by omega) (by omega) (fun r146 I146 L146 hI146 h146 => ?_) (fun _ _ _ _ _ h => h.elim)
        obtain ⟨rfl, rfl, rfl⟩ := h146
        refine hG.if_ne (tgt := 158) dX1_line_149 rfl (fun c_149 => absurd rfl c_149) (fun c_149 => ?_)
        refine hG.ldcTW dX1_line_152 (hT.tx 4 rfl) (fun s152 hs152 => ?_)
        refine hG.goto (tgt := 159) dX1_line_155 rfl ?_
        refine hG.put dX1_line_159 fp_X1_98_X1 ((up1_n hxtb).trans hx) rfl rfl (Nat.le_of_ble_eq_true rfl) ?_
        refine hG.aload_n dX1_line_162 rfl ?_
        refine hG.get dX1_line_163 fg_X1_98_X1 (Or.inl up1_s) rfl ?_
        refine hG.callF dX1_line_166 kf_X1_312_J9 (hs152.r _).rcv cl_J9 (sp_J9_length hΓ hX (hs152.r _)) rfl rfl (Nat.le_of_ble_eq_true rfl) (by decide) (by omega) (by omega) (fun r166 I166 L166 hI166 h166 => ?_) (fun _ _ _ _ _ h => h.elim)
        obtain ⟨rfl, rfl, rfl⟩ := h166
        refine hG.iret dX1_line_171 rfl ?_ (by omega) (by omega) trivial
        have hlt9 : linT s F.rv.wa = [110, 111, 98, 111, 100, 121] := if_pos hacc.symm
        have hv : linF F (nI s) = (F.wLi (List.map nI ([110, 111, 98, 111, 100, 121])), 0, nI ([110, 111, 98, 111, 100, 121]).length) := by
          unfold linF
          rw [if_pos hb1, nI_clamp (by omega), hlt9]
        refine ⟨by rw [hv], by rw [hv], (FA.r A, FA.pq A, FA.ip A, s152, FA.xs A, FA.sv A), ?_, fun z e hz hn => (up1_n hn).trans ((up1_n (ne_none hz htbL)).trans hz)⟩
        rw [hv]
        exact hF.lin (ile_tr hI9 hI1) up1_s (fun z y hz hn => (up1_n hn).trans ((up1_n (ne_none hz htbL)).trans hz)) ⟨[110, 111, 98, 111, 100, 121], rfl, (by decide), (by decide), Or.inr hs152⟩
      · skip
        refine hG.aload_n dX1_line_144 rfl ?_
        refine hG.aload_n dX1_line_145 rfl ?_
        refine hG.callV dX1_line_146 kv_X1_281 (Rcv.sb up1_s) (sp_J8_length hΓ up1_s) rfl rfl (Nat.le_of_ble_eq_true rfl) (by decide) (by omega) (by omega) (fun r146 I146 L146 hI146 h146 => ?_) (fun _ _ _ _ _ h => h.elim)
        obtain ⟨rfl, rfl, rfl⟩ := h146
        refine hG.if_ne (tgt := 158) dX1_line_149 rfl (fun c_149 => ?_) (fun c_149 => absurd c_149 (fun e => hac (List.eq_nil_of_length_eq_zero ((nI_eq (b := 0) (by omega) (by decide)).mp e))))
        refine hG.aload_n dX1_line_158 rfl ?_
        refine hG.put dX1_line_159 fp_X1_98_X1 ((up1_n hxtb).trans hx) rfl rfl (Nat.le_of_ble_eq_true rfl) ?_
        refine hG.aload_n dX1_line_162 rfl ?_
        refine hG.get dX1_line_163 fg_X1_98_X1 (Or.inl up1_s) rfl ?_
        refine hG.callF dX1_line_166 kf_X1_312_J8 (Rcv.sb ((up1_n hxtb.symm).trans up1_s)) cl_J8 (sp_J8_length hΓ ((up1_n hxtb.symm).trans up1_s)) rfl rfl (Nat.le_of_ble_eq_true rfl) (by decide) (by omega) (by omega) (fun r166 I166 L166 hI166 h166 => ?_) (fun _ _ _ _ _ h => h.elim)
        obtain ⟨rfl, rfl, rfl⟩ := h166
        refine hG.iret dX1_line_171 rfl ?_ (by omega) (by omega) trivial
        have hlt9 : linT s F.rv.wa = acc := (if_neg (hacc ▸ hac)).trans hacc.symm
        have hv : linF F (nI s) = (F.wLi (List.map nI (acc)), 0, nI (acc).length) := by
          unfold linF
          rw [if_pos hb1, nI_clamp (by omega), hlt9]
        refine ⟨by rw [hv], by rw [hv], (FA.r A, FA.pq A, FA.ip A, tb, FA.xs A, FA.sv A), ?_, fun z e hz hn => (up1_n hn).trans ((up1_n (ne_none hz htbL)).trans hz)⟩
        rw [hv]
        exact hF.lin (ile_tr hI9 hI1) up1_s (fun z y hz hn => (up1_n hn).trans ((up1_n (ne_none hz htbL)).trans hz)) ⟨acc, rfl, hcc, (by omega), Or.inl ⟨htbi, ml, (up1_n hxtb.symm).trans up1_s⟩⟩
    | succ r ih =>
      intro i acc ml cv I1 L1 hir hacc hI1 hit htb hk hln hcc
      obtain ⟨x9, hx9, hxm⟩ := get_lt (show i < es.length by omega)
      have hm1 : L1 mp = some (mpC mo es) := hk mp _ hMm hmpt
      have hc147 := hlt x9 hxm
      obtain ⟨n9, hn91, hx29⟩ : ∃ n9, n9 ≤ 999 ∧ x9.2.2 = nI n9 := by
        have q := hW.1.wa.ps x9.2 (by rw [← ht]; exact List.mem_map.mpr ⟨x9, hxm, rfl⟩)
        obtain ⟨j, hj, e⟩ := nI_of (fun q9 => lt_not.mp q9 (Int32.le_of_lt q.1))
        exact ⟨j, (nI_leI hj (by decide)).mp (e ▸ q.2), e⟩
      have hn9 : x9.2.2.toNatClampNeg < 1000 := by rw [hx29, nI_clamp (by omega)]; omega
      have hnl := nm_len (x9.2.1 / 49)
      have hdl := dec_len n9
      have hd7 : (dec (x9.2.1 % 7)).length = 1 := by rw [dec_1 (by omega)]; rfl
      by_cases hm9 : x9.2.1 / 7 % 7 = s
      · by_cases hac : acc = []
        · subst hac
          refine hG.aload dX1_line_37 rfl ?_
          refine hG.callF dX1_line_39 kf_X1_33_J23 (Rcv.raw hit cl_J23) cl_J23 (sp_J22_hasNext hΓ hit) rfl rfl (Nat.le_of_ble_eq_true rfl) (by decide) (by omega) (by omega) (fun r39 I39 L39 hI39 h39 => ?_) (fun _ _ _ _ _ h => h.elim)
          obtain ⟨rfl, rfl, rfl⟩ := h39
          refine hG.if_eq (tgt := 144) dX1_line_44 rfl (fun c_44 => absurd c_44 (by rw [ads_get hx9]; exact (by decide : ¬ b2i true = 0))) (fun c_44 => ?_)
          refine hG.aload dX1_line_47 rfl ?_
          refine hG.callF dX1_line_49 kf_X1_39_J23 (Rcv.raw hit cl_J23) cl_J23 (sp_J23_next hΓ hx9 hm1 hit) rfl rfl (Nat.le_of_ble_eq_true rfl) (by decide) (by omega) (by omega) (fun r49 I49 L49 hI49 h49 => ?_) (fun _ _ _ _ _ h => h.elim)
          obtain ⟨rfl, rfl, rfl⟩ := h49
          have h0m : ∀ c, (up1 L1 it c) mp = some (mpC mo es) := fun c => (up1_n hitm.symm).trans hm1
          have htb1 : ∀ c, (up1 L1 it c) tb = some (sbC 400 0 ml []) := fun c => (up1_n hitb.symm).trans htb
          refine hG.castY dX1_line_54 q1809 (Rcv.en (h0m _) hxm) q739 ?_
          refine hG.astore dX1_line_57 (by decide) ?_
          refine hG.aload dX1_line_59 rfl ?_
          refine hG.callF dX1_line_61 kf_X1_54_J31 (Rcv.en (h0m _) hxm) cl_J31 (sp_J30_getKey hΓ (h0m _) hxm) rfl rfl (Nat.le_of_ble_eq_true rfl) (by decide) (by omega) (by omega) (fun r61 I61 L61 hI61 h61 => ?_) (fun _ _ _ _ _ h => h.elim)
          obtain ⟨rfl, rfl, g9, rfl, hg⟩ := h61
          refine hG.castS dX1_line_66 q2560 (Rcv.imm hg cl_X9) cl_X9 ?_
          refine hG.astore dX1_line_69 (by decide) ?_
          refine hG.aload dX1_line_71 rfl ?_
          refine hG.get dX1_line_73 fg_X1_278_X9 (Or.inr hg) rfl ?_
          refine hG.iload_n dX1_line_76 rfl ?_
          refine hG.icmp_ne (tgt := 141) dX1_line_77 rfl (fun c_77 => absurd (congrArg nI hm9) c_77) (fun c_77 => ?_)
          refine hG.aload_n dX1_line_80 rfl ?_
          refine hG.aload_n dX1_line_81 rfl ?_
          refine hG.callV dX1_line_82 kv_X1_281 (Rcv.sb (htb1 _)) (sp_J8_length hΓ (htb1 _)) rfl rfl (Nat.le_of_ble_eq_true rfl) (by decide) (by omega) (by omega) (fun r82 I82 L82 hI82 h82 => ?_) (fun _ _ _ _ _ h => h.elim)
          obtain ⟨rfl, rfl, rfl⟩ := h82
          refine hG.if_le (tgt := 94) dX1_line_85 rfl (fun c_85 => ?_) (fun c_85 => absurd (by decide) c_85)
          refine hG.ldcT dX1_line_94 (hT.tx 0 rfl) (fun s94 hs94 => ?_)
          refine hG.callV dX1_line_96 kv_X1_286 (Rcv.sb (htb1 _)) (sp_J8_append0 hΓ hX (htb1 _) (hs94.r _) (by simp only [List.length_append, List.length_cons, List.length_nil] <;> omega)) rfl rfl (Nat.le_of_ble_eq_true rfl) (by decide) (by omega) (by omega) (fun r96 I96 L96 hI96 h96 => ?_) (fun _ _ _ _ _ h => h.elim)
          obtain ⟨rfl, rfl, rfl⟩ := h96
          refine hG.aload dX1_line_99 rfl ?_
          refine hG.get dX1_line_101 fg_X1_290_X9 (Or.inr hg) rfl ?_
          refine hG.callS dX1_line_104 ks_X1_293 (sp_X10_nameOf hΓ hT (k := x9.2.1 / 49) (by omega)) rfl rfl (Nat.le_of_ble_eq_true rfl) (by decide) (by omega) (by omega) (fun r104 I104 L104 hI104 h104 => ?_) (fun _ _ _ _ _ h => h.elim)
          obtain ⟨qn, rfl, rfl, rfl, hqn⟩ := h104
          refine hG.callV dX1_line_107 kv_X1_286 (Rcv.sb up1_s) (sp_J8_append0 hΓ hX up1_s (hqn.r _) (by simp only [List.length_append, List.length_cons, List.length_nil] <;> omega)) rfl rfl (Nat.le_of_ble_eq_true rfl) (by decide) (by omega) (by omega) (fun r107 I107 L107 hI107 h107 => ?_) (fun _ _ _ _ _ h => h.elim)
          obtain ⟨rfl, rfl, rfl⟩ := h107
          rw [up1_up1]
          refine hG.ldcTW dX1_line_110 (hT.tx 2 rfl) (fun s110 hs110 => ?_)
          refine hG.callV dX1_line_113 kv_X1_286 (Rcv.sb up1_s) (sp_J8_append0 hΓ hX up1_s (hs110.r _) (by simp only [List.length_append, List.length_cons, List.length_nil] <;> omega)) rfl rfl (Nat.le_of_ble_eq_true rfl) (by decide) (by omega) (by omega) (fun r113 I113 L113 hI113 h113 => ?_) (fun _ _ _ _ _ h => h.elim)
          obtain ⟨rfl, rfl, rfl⟩ := h113
          rw [up1_up1]
          refine hG.aload dX1_line_116 rfl ?_
          refine hG.get dX1_line_118 fg_X1_299_X9 (Or.inr hg) rfl ?_
          refine hG.callV dX1_line_121 kv_X1_302 (Rcv.sb up1_s) (sp_J8_append_2 (n := x9.2.1 % 7) hΓ hX up1_s hDg (by omega) (by simp only [List.length_append, List.length_cons, List.length_nil] <;> omega)) rfl rfl (Nat.le_of_ble_eq_true rfl) (by decide) (by omega) (by omega) (fun r121 I121 L121 hI121 h121 => ?_) (fun _ _ _ _ _ h => h.elim)
          obtain ⟨rfl, rfl, rfl⟩ := h121
          rw [up1_up1]
          refine hG.ldcTW dX1_line_124 (hT.tx 3 rfl) (fun s124 hs124 => ?_)
          refine hG.callV dX1_line_127 kv_X1_286 (Rcv.sb up1_s) (sp_J8_append0 hΓ hX up1_s (hs124.r _) (by simp only [List.length_append, List.length_cons, List.length_nil] <;> omega)) rfl rfl (Nat.le_of_ble_eq_true rfl) (by decide) (by omega) (by omega) (fun r127 I127 L127 hI127 h127 => ?_) (fun _ _ _ _ _ h => h.elim)
          obtain ⟨rfl, rfl, rfl⟩ := h127
          rw [up1_up1]
          refine hG.aload dX1_line_130 rfl ?_
          refine hG.callF dX1_line_132 kf_X1_45_J31 (Rcv.en ((up1_n hmpt).trans (h0m _)) hxm) cl_J31 (sp_J30_getValue hΓ ((up1_n hmpt).trans (h0m _)) hxm) rfl rfl (Nat.le_of_ble_eq_true rfl) (by decide) (by omega) (by omega) (fun r132 I132 L132 hI132 h132 => ?_) (fun _ _ _ _ _ h => h.elim)
          obtain ⟨rfl, rfl, v9, rfl, hv9⟩ := h132
          rw [hx29] at hv9
          refine hG.callV dX1_line_137 kv_X1_307 (Rcv.sb up1_s) (sp_J8_append_3 hΓ hX up1_s hDg (n := n9) (by omega) hv9 (by simp only [List.length_append, List.length_cons, List.length_nil] <;> omega)) rfl rfl (Nat.le_of_ble_eq_true rfl) (by decide) (by omega) (by omega) (fun r137 I137 L137 hI137 h137 => ?_) (fun _ _ _ _ _ h => h.elim)
          obtain ⟨rfl, rfl⟩ := h137
          rw [up1_up1]
          refine hG.pop dX1_line_140 rfl ?_
          refine hG.goto (tgt := 37) dX1_line_141 rfl ?_
          rw [show G = G from rfl]
          exact hG.lsb [(0, .ref x), (2, .int (nI s)), (3, .ref tb), (4, .ref it)] ⟨rfl, rfl, rfl, rfl, trivial⟩ (hG.wid (k' := 60 + 9 * (i + 1)) (n' := 900 + 11700 * (i + 1)) (by omega) (by omega) (ih (i + 1) (linE s [] x9.2) ml _ _ _ (by omega) (by rw [take_next hx9]; show _ = linA s (List.map (·.2) (es.take i ++ [x9])); rw [List.map_append]; show _ = linA s (List.map (·.2) (es.take i) ++ [x9.2]); rw [linA_app, hacc]) (ile_tr hI1 hI137) ((up1_n hitb).trans up1_s) (by rw [up1_s]; rw [lin_0 hm9]; unfold entT; rw [show x9.2.2.toNatClampNeg = n9 from by rw [hx29, nI_clamp (by omega)]]; simp only [List.nil_append, List.append_assoc]) (fun z y hz hn => (up1_n hn).trans ((up1_n (fun e => by rw [e, hitn] at hz; cases hz)).trans (hk z y hz hn))) (by have := lin_len (s := s) (a := []) (x := x9.2); omega) (lin_c hn9 hcc)))
        · skip
          refine hG.aload dX1_line_37 rfl ?_
          refine hG.callF dX1_line_39 kf_X1_33_J23 (Rcv.raw hit cl_J23) cl_J23 (sp_J22_hasNext hΓ hit) rfl rfl (Nat.le_of_ble_eq_true rfl) (by decide) (by omega) (by omega) (fun r39 I39 L39 hI39 h39 => ?_) (fun _ _ _ _ _ h => h.elim)
          obtain ⟨rfl, rfl, rfl⟩ := h39
          refine hG.if_eq (tgt := 144) dX1_line_44 rfl (fun c_44 => absurd c_44 (by rw [ads_get hx9]; exact (by decide : ¬ b2i true = 0))) (fun c_44 => ?_)
          refine hG.aload dX1_line_47 rfl ?_
          refine hG.callF dX1_line_49 kf_X1_39_J23 (Rcv.raw hit cl_J23) cl_J23 (sp_J23_next hΓ hx9 hm1 hit) rfl rfl (Nat.le_of_ble_eq_true rfl) (by decide) (by omega) (by omega) (fun r49 I49 L49 hI49 h49 => ?_) (fun _ _ _ _ _ h => h.elim)
          obtain ⟨rfl, rfl, rfl⟩ := h49
          have h0m : ∀ c, (up1 L1 it c) mp = some (mpC mo es) := fun c => (up1_n hitm.symm).trans hm1
          have htb1 : ∀ c, (up1 L1 it c) tb = some (sbC 400 0 ml acc) := fun c => (up1_n hitb.symm).trans htb
          refine hG.castY dX1_line_54 q1809 (Rcv.en (h0m _) hxm) q739 ?_
          refine hG.astore dX1_line_57 (by decide) ?_
          refine hG.aload dX1_line_59 rfl ?_
          refine hG.callF dX1_line_61 kf_X1_54_J31 (Rcv.en (h0m _) hxm) cl_J31 (sp_J30_getKey hΓ (h0m _) hxm) rfl rfl (Nat.le_of_ble_eq_true rfl) (by decide) (by omega) (by omega) (fun r61 I61 L61 hI61 h61 => ?_) (fun _ _ _ _ _ h => h.elim)
          obtain ⟨rfl, rfl, g9, rfl, hg⟩ := h61
          refine hG.castS dX1_line_66 q2560 (Rcv.imm hg cl_X9) cl_X9 ?_
          refine hG.astore dX1_line_69 (by decide) ?_
          refine hG.aload dX1_line_71 rfl ?_
          refine hG.get dX1_line_73 fg_X1_278_X9 (Or.inr hg) rfl ?_
          refine hG.iload_n dX1_line_76 rfl ?_
          refine hG.icmp_ne (tgt := 141) dX1_line_77 rfl (fun c_77 => absurd (congrArg nI hm9) c_77) (fun c_77 => ?_)
          refine hG.aload_n dX1_line_80 rfl ?_
          refine hG.aload_n dX1_line_81 rfl ?_
          refine hG.callV dX1_line_82 kv_X1_281 (Rcv.sb (htb1 _)) (sp_J8_length hΓ (htb1 _)) rfl rfl (Nat.le_of_ble_eq_true rfl) (by decide) (by omega) (by omega) (fun r82 I82 L82 hI82 h82 => ?_) (fun _ _ _ _ _ h => h.elim)
          obtain ⟨rfl, rfl, rfl⟩ := h82
          refine hG.if_le (tgt := 94) dX1_line_85 rfl (fun c_85 => absurd c_85 (fun e => by have q1 := (nI_leI (a := acc.length) (b := 0) (by omega) (by decide)).mp e; have q2 := List.length_pos_iff.mpr hac; omega)) (fun c_85 => ?_)
          refine hG.ldcTW dX1_line_88 (hT.tx 1 rfl) (fun s88 hs88 => ?_)
          refine hG.goto (tgt := 96) dX1_line_91 rfl ?_
          refine hG.callV dX1_line_96 kv_X1_286 (Rcv.sb (htb1 _)) (sp_J8_append0 hΓ hX (htb1 _) (hs88.r _) (by simp only [List.length_append, List.length_cons, List.length_nil] <;> omega)) rfl rfl (Nat.le_of_ble_eq_true rfl) (by decide) (by omega) (by omega) (fun r96 I96 L96 hI96 h96 => ?_) (fun _ _ _ _ _ h => h.elim)
          obtain ⟨rfl, rfl, rfl⟩ := h96
          refine hG.aload dX1_line_99 rfl ?_
          refine hG.get dX1_line_101 fg_X1_290_X9 (Or.inr hg) rfl ?_
          refine hG.callS dX1_line_104 ks_X1_293 (sp_X10_nameOf hΓ hT (k := x9.2.1 / 49) (by omega)) rfl rfl (Nat.le_of_ble_eq_true rfl) (by decide) (by omega) (by omega) (fun r104 I104 L104 hI104 h104 => ?_) (fun _ _ _ _ _ h => h.elim)
          obtain ⟨qn, rfl, rfl, rfl, hqn⟩ := h104
          refine hG.callV dX1_line_107 kv_X1_286 (Rcv.sb up1_s) (sp_J8_append0 hΓ hX up1_s (hqn.r _) (by simp only [List.length_append, List.length_cons, List.length_nil] <;> omega)) rfl rfl (Nat.le_of_ble_eq_true rfl) (by decide) (by omega) (by omega) (fun r107 I107 L107 hI107 h107 => ?_) (fun _ _ _ _ _ h => h.elim)
          obtain ⟨rfl, rfl, rfl⟩ := h107
          rw [up1_up1]
          refine hG.ldcTW dX1_line_110 (hT.tx 2 rfl) (fun s110 hs110 => ?_)
          refine hG.callV dX1_line_113 kv_X1_286 (Rcv.sb up1_s) (sp_J8_append0 hΓ hX up1_s (hs110.r _) (by simp only [List.length_append, List.length_cons, List.length_nil] <;> omega)) rfl rfl (Nat.le_of_ble_eq_true rfl) (by decide) (by omega) (by omega) (fun r113 I113 L113 hI113 h113 => ?_) (fun _ _ _ _ _ h => h.elim)
          obtain ⟨rfl, rfl, rfl⟩ := h113
          rw [up1_up1]
          refine hG.aload dX1_line_116 rfl ?_
          refine hG.get dX1_line_118 fg_X1_299_X9 (Or.inr hg) rfl ?_
          refine hG.callV dX1_line_121 kv_X1_302 (Rcv.sb up1_s) (sp_J8_append_2 (n := x9.2.1 % 7) hΓ hX up1_s hDg (by omega) (by simp only [List.length_append, List.length_cons, List.length_nil] <;> omega)) rfl rfl (Nat.le_of_ble_eq_true rfl) (by decide) (by omega) (by omega) (fun r121 I121 L121 hI121 h121 => ?_) (fun _ _ _ _ _ h => h.elim)
          obtain ⟨rfl, rfl, rfl⟩ := h121
          rw [up1_up1]
          refine hG.ldcTW dX1_line_124 (hT.tx 3 rfl) (fun s124 hs124 => ?_)
          refine hG.callV dX1_line_127 kv_X1_286 (Rcv.sb up1_s) (sp_J8_append0 hΓ hX up1_s (hs124.r _) (by simp only [List.length_append, List.length_cons, List.length_nil] <;> omega)) rfl rfl (Nat.le_of_ble_eq_true rfl) (by decide) (by omega) (by omega) (fun r127 I127 L127 hI127 h127 => ?_) (fun _ _ _ _ _ h => h.elim)
          obtain ⟨rfl, rfl, rfl⟩ := h127
          rw [up1_up1]
          refine hG.aload dX1_line_130 rfl ?_
          refine hG.callF dX1_line_132 kf_X1_45_J31 (Rcv.en ((up1_n hmpt).trans (h0m _)) hxm) cl_J31 (sp_J30_getValue hΓ ((up1_n hmpt).trans (h0m _)) hxm) rfl rfl (Nat.le_of_ble_eq_true rfl) (by decide) (by omega) (by omega) (fun r132 I132 L132 hI132 h132 => ?_) (fun _ _ _ _ _ h => h.elim)
          obtain ⟨rfl, rfl, v9, rfl, hv9⟩ := h132
          rw [hx29] at hv9
          refine hG.callV dX1_line_137 kv_X1_307 (Rcv.sb up1_s) (sp_J8_append_3 hΓ hX up1_s hDg (n := n9) (by omega) hv9 (by simp only [List.length_append, List.length_cons, List.length_nil] <;> omega)) rfl rfl (Nat.le_of_ble_eq_true rfl) (by decide) (by omega) (by omega) (fun r137 I137 L137 hI137 h137 => ?_) (fun _ _ _ _ _ h => h.elim)
          obtain ⟨rfl, rfl⟩ := h137
          rw [up1_up1]
          refine hG.pop dX1_line_140 rfl ?_
          refine hG.goto (tgt := 37) dX1_line_141 rfl ?_
          rw [show G = G from rfl]
          exact hG.lsb [(0, .ref x), (2, .int (nI s)), (3, .ref tb), (4, .ref it)] ⟨rfl, rfl, rfl, rfl, trivial⟩ (hG.wid (k' := 60 + 9 * (i + 1)) (n' := 900 + 11700 * (i + 1)) (by omega) (by omega) (ih (i + 1) (linE s acc x9.2) ml _ _ _ (by omega) (by rw [take_next hx9]; show _ = linA s (List.map (·.2) (es.take i ++ [x9])); rw [List.map_append]; show _ = linA s (List.map (·.2) (es.take i) ++ [x9.2]); rw [linA_app, hacc]) (ile_tr hI1 hI137) ((up1_n hitb).trans up1_s) (by rw [up1_s]; rw [lin_1 hm9 hac]; unfold entT; rw [show x9.2.2.toNatClampNeg = n9 from by rw [hx29, nI_clamp (by omega)]]; simp only [List.nil_append, List.append_assoc]) (fun z y hz hn => (up1_n hn).trans ((up1_n (fun e => by rw [e, hitn] at hz; cases hz)).trans (hk z y hz hn))) (by have := lin_len (s := s) (a := acc) (x := x9.2); omega) (lin_c hn9 hcc)))
      · skip
        refine hG.aload dX1_line_37 rfl ?_
        refine hG.callF dX1_line_39 kf_X1_33_J23 (Rcv.raw hit cl_J23) cl_J23 (sp_J22_hasNext hΓ hit) rfl rfl (Nat.le_of_ble_eq_true rfl) (by decide) (by omega) (by omega) (fun r39 I39 L39 hI39 h39 => ?_) (fun _ _ _ _ _ h => h.elim)
        obtain ⟨rfl, rfl, rfl⟩ := h39
        refine hG.if_eq (tgt := 144) dX1_line_44 rfl (fun c_44 => absurd c_44 (by rw [ads_get hx9]; exact (by decide : ¬ b2i true = 0))) (fun c_44 => ?_)
        refine hG.aload dX1_line_47 rfl ?_
        refine hG.callF dX1_line_49 kf_X1_39_J23 (Rcv.raw hit cl_J23) cl_J23 (sp_J23_next hΓ hx9 hm1 hit) rfl rfl (Nat.le_of_ble_eq_true rfl) (by decide) (by omega) (by omega) (fun r49 I49 L49 hI49 h49 => ?_) (fun _ _ _ _ _ h => h.elim)
        obtain ⟨rfl, rfl, rfl⟩ := h49
        have h0m : ∀ c, (up1 L1 it c) mp = some (mpC mo es) := fun c => (up1_n hitm.symm).trans hm1
        have htb1 : ∀ c, (up1 L1 it c) tb = some (sbC 400 0 ml acc) := fun c => (up1_n hitb.symm).trans htb
        refine hG.castY dX1_line_54 q1809 (Rcv.en (h0m _) hxm) q739 ?_
        refine hG.astore dX1_line_57 (by decide) ?_
        refine hG.aload dX1_line_59 rfl ?_
        refine hG.callF dX1_line_61 kf_X1_54_J31 (Rcv.en (h0m _) hxm) cl_J31 (sp_J30_getKey hΓ (h0m _) hxm) rfl rfl (Nat.le_of_ble_eq_true rfl) (by decide) (by omega) (by omega) (fun r61 I61 L61 hI61 h61 => ?_) (fun _ _ _ _ _ h => h.elim)
        obtain ⟨rfl, rfl, g9, rfl, hg⟩ := h61
        refine hG.castS dX1_line_66 q2560 (Rcv.imm hg cl_X9) cl_X9 ?_
        refine hG.astore dX1_line_69 (by decide) ?_
        refine hG.aload dX1_line_71 rfl ?_
        refine hG.get dX1_line_73 fg_X1_278_X9 (Or.inr hg) rfl ?_
        refine hG.iload_n dX1_line_76 rfl ?_
        refine hG.icmp_ne (tgt := 141) dX1_line_77 rfl (fun c_77 => ?_) (fun c_77 => absurd c_77 (fun e => hm9 ((nI_eq (by omega) (by omega)).mp e)))
        refine hG.goto (tgt := 37) dX1_line_141 rfl ?_
        rw [show G = G from rfl]
        exact hG.lsb [(0, .ref x), (2, .int (nI s)), (3, .ref tb), (4, .ref it)] ⟨rfl, rfl, rfl, rfl, trivial⟩ (hG.wid (k' := 60 + 9 * (i + 1)) (n' := 900 + 11700 * (i + 1)) (by omega) (by omega) (ih (i + 1) (linE s acc x9.2) ml _ _ _ (by omega) (by rw [take_next hx9]; show _ = linA s (List.map (·.2) (es.take i ++ [x9])); rw [List.map_append]; show _ = linA s (List.map (·.2) (es.take i) ++ [x9.2]); rw [linA_app, hacc]) (hI1) up1_s (by rw [lin_n hm9]; exact htb1 _) (fun z y hz hn => (up1_n (fun e => by rw [e, hitn] at hz; cases hz)).trans (hk z y hz hn)) (by have := lin_len (s := s) (a := acc) (x := x9.2); omega) (lin_c hn9 hcc)))
  exact hG.lsb [(0, .ref x), (2, .int (nI s)), (3, .ref tb), (4, .ref it)] ⟨rfl, rfl, rfl, rfl, trivial⟩ (hG.wid (k' := 60 + 9 * 0) (n' := 900 + 11700 * 0) (by omega) (by omega) (loop es.length 0 [] 0 .null _ _ (by omega) rfl ile_rf up1_s ((up1_n hitb.symm).trans hMtb) (fun z y hz hn => (up1_n (fun e => by rw [e, hitn] at hz; cases hz)).trans hz) (by simp) (fun c hc => nomatch hc)))
