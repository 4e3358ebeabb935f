/-! the model reads: the commands' chains -/
theorem on_le {t : List Nat} {ws : List (List Nat)} {p : Nat} (h : p ≤ t.length) : (onM t ws p).2.1 ≤ t.length := by
  unfold onM
  split
  · exact h
  · split
    · exact h
    · exact (wm_le _ _ h).2
theorem w_n3 : ∀ w ∈ W3, ∃ e, w[0]? = some e := fun w hw => by
  simp only [List.mem_cons, List.not_mem_nil, or_false] at hw
  rcases hw with rfl | rfl | rfl <;> exact ⟨_, rfl⟩
theorem w_n2 : ∀ w ∈ W2, ∃ e, w[0]? = some e := fun w hw => by
  simp only [List.mem_cons, List.not_mem_nil, or_false] at hw
  rcases hw with rfl | rfl <;> exact ⟨_, rfl⟩
theorem fp_X4_232_X4 {nm : String} : LkP RX4 nm 232 ciX4 15 (tyX4 15) := ⟨RX4, TX4, 21, tyX4, _, cls_X4, by decide, rfl, Or.inl rfl, Or.inl ⟨rfl, q3285⟩⟩
theorem kv_X4_237 : LkV RX4 237 yX4_oneOf 2 := ⟨q3609, q3611, qs68, q87, by decide +kernel, by decide +kernel, by decide +kernel⟩
theorem kv_X4_243 : LkV RX4 243 yX4_digits 2 := ⟨q3614, q3616, qs69, q87, by decide +kernel, by decide +kernel, by decide +kernel⟩
theorem fg_X4_41_X4 : LkG RX4 41 ciX4 8 := ⟨RX4, TX4, 21, tyX4, _, cls_X4, by decide, Or.inl rfl, Or.inl q3278⟩
set_option maxHeartbeats 4000000 in
set_option maxRecDepth 100000 in
theorem sp_X4_isCommand {l : Launch} {s0 : State} {D : va_G} {I : AI} {L : AL} {o : Option Nat} {m : Nat} {A : MA} {V V0 : MV} (hΓ : Gam l s0 D) (hX : StV s0 o) (hA : MOk m A) {t : List Nat} (hT0 : TxM V0 t) {p : Nat} {c0 : Int32} {g : Nat → Int32} (hp : p ≤ t.length) (hV : V = VP V0 (nI p) c0 g) (hT : StX s0 D o) (hNm : NmA I A) : Spc l s0 D yX4_isCommand 7 [.ref m] I (mdL L m A V) 0 0 ((fun r I' L' => ∃ (V2 : MV) (b : Bool), r = some (.int (b2i b)) ∧ I = I' ∧ L' = mdL L m A V2 ∧ CmP t p V0 V2 b)) noX := by
  refine Spc.of hΓ cX4_isCommand 2 (some FieldType.boolean) q3603 (by decide +kernel) (by decide) (Nat.le_of_ble_eq_true rfl) (fun G GX hG => ?_)
  obtain ⟨⟨fn3, hnI3, hnk⟩, fw2, hwI2, hwk⟩ := hNm
  have hnF3 : ∀ i w, W3[i]? = some w → ∃ q, fn3 i = some q ∧ StrI I q 0 w := fun i w hw => by
    have hi := (List.getElem?_eq_some_iff.mp hw).1
    rcases (show i = 0 ∨ i = 1 ∨ i = 2 from by simp at hi; omega) with rfl | rfl | rfl <;> cases hw
    · exact hnk 0 (by decide)
    · exact hnk 1 (by decide)
    · exact hnk 2 (by decide)
  have hwF2 : ∀ i w, W2[i]? = some w → ∃ q, fw2 i = some q ∧ StrI I q 0 w := fun i w hw => by
    have hi := (List.getElem?_eq_some_iff.mp hw).1
    rcases (show i = 0 ∨ i = 1 from by simp at hi; omega) with rfl | rfl <;> cases hw
    · exact hwk 0 (by decide)
    · exact hwk 1 (by decide)
  have k_come : (t[p]? = some 99 ∧ t[p + 1]? = some 111) → ∀ (V1 : MV) (c9 : Int32) (g9 : Nat → Int32), V1 = VP V0 (nI p) c9 g9 → G 106 [(0, .ref m)] [] I (mdL L m A V1) 0 0 := by
    intro h V1 c9 g9 hV1
    have hw7 := w7_come h.1 h.2
    refine hG.aload_n dX4_isCommand_106 rfl ?_
    refine hG.iconst (v := 3) dX4_isCommand_107 rfl ?_
    refine hG.put dX4_isCommand_108 fp_X4_232_X4 mdL_m rfl rfl (Nat.le_of_ble_eq_true rfl) ?_
    refine hG.mp_cm ?_
    obtain ⟨Vc, hVc⟩ : ∃ Vc, Vc = V1.wCm (nI 3) := ⟨_, rfl⟩
    rw [show V1.wCm 3 = V1.wCm (nI 3) from rfl, ← hVc]
    have hVc : Vc = VP V0 (nI p) (nI 3) g9 := by rw [hVc, hV1, vp_wcm]
    refine hG.aload_n dX4_isCommand_111 rfl ?_
    refine hG.ldcT dX4_isCommand_112 (hT.tx 28 rfl) (fun s112 hs112 => ?_)
    refine hG.callV dX4_isCommand_114 kv_X4_228 (Rcv.raw mdL_m cl_X4) (sp_X4_word (V0 := V0) (p := p) (c0 := nI 3) (g := g9) (t := t) (V := Vc) hΓ hX hA hT0 hp hVc hs112 (by decide) (by decide)) rfl rfl (Nat.le_of_ble_eq_true rfl) (by decide) (by omega) (by omega) (fun r114 I114 L114 hI114 h114 => ?_) (fun _ _ _ _ _ h => h.elim)
    obtain ⟨V114, rfl, rfl, rfl, hV114⟩ := h114
    obtain ⟨⟨b114, q114⟩, e114⟩ : ∃ z, z = wdM t [99, 111, 109, 101, 32] p := ⟨_, rfl⟩
    have hl114 : q114 ≤ t.length := by have := (wm_le [99, 111, 109, 101, 32] p hp).2; rw [← e114] at this; exact this
    rw [← e114] at hV114 ⊢
    have hV114 : V114 = VP V0 (nI q114) (nI 3) g9 := hV114
    have hc114 : cmdF t p = if b114 = true then (fun x : PR (List Nat) => bd (bd x (fun w q => (.inr (kdN w, q) : PR Nat))) fun v0 p => (bd (bkF t (dgF t) p) fun v1 p => bd (bkF t (dgF t) p) fun v2 p => bd (bkF t (nmF t 2) p) fun v3 p => .inr ((3, v0, v1, v2, v3), p) : PR Cm)) ((wdF W3 t) q114) else .inl q114 := by
      have h9 := cm_w (Z := (fun x : PR (List Nat) => bd (bd x (fun w q => (.inr (kdN w, q) : PR Nat))) fun v0 p => (bd (bkF t (dgF t) p) fun v1 p => bd (bkF t (dgF t) p) fun v2 p => bd (bkF t (nmF t 2) p) fun v3 p => .inr ((3, v0, v1, v2, v3), p) : PR Cm))) (X := (wdF W3 t)) (fun _ => rfl) hw7 (fun q => c1_3.trans rfl)
      rw [show [99, 111, 109, 101] ++ [32] = [99, 111, 109, 101, 32] from rfl, ← e114] at h9
      exact h9
    refine hG.if_eq (tgt := 190) dX4_isCommand_117 rfl (fun c_117 => ?_) (fun c_117 => ?_)
    · refine hG.iconst (v := 0) dX4_isCommand_190 rfl ?_
      refine hG.zret dX4_isCommand_191 rfl (by first | rfl | exact b2i_nar _) ?_ (by omega) (by omega) trivial
      first
      | exact ⟨V114, false, rfl, rfl, rfl, q114, _, _, hl114, hV114, (fun e9 => by cases e9), fun _ => hc114.trans (if_neg (bFT (b2i_0 c_117)))⟩
      | exact ⟨V126, false, rfl, rfl, rfl, q126, _, _, hl126, hV126, (fun e9 => by cases e9), fun _ => hc126.trans (if_neg (bFT (b2i_0 c_129)))⟩
      | exact ⟨V135, false, rfl, rfl, rfl, q135, _, _, hl135, hV135, (fun e9 => by cases e9), fun _ => hc135.trans (if_neg (bFT (b2i_0 c_138)))⟩
      | exact ⟨V144, false, rfl, rfl, rfl, q144, _, _, hl144, hV144, (fun e9 => by cases e9), fun _ => hc144.trans (if_neg (bFT (b2i_0 c_147)))⟩
      | exact ⟨V153, false, rfl, rfl, rfl, q153, _, _, hl153, hV153, (fun e9 => by cases e9), fun _ => hc153.trans (if_neg (bFT (b2i_0 c_156)))⟩
      | exact ⟨V162, false, rfl, rfl, rfl, q162, _, _, hl162, hV162, (fun e9 => by cases e9), fun _ => hc162.trans (if_neg (bFT (b2i_0 c_165)))⟩
      | exact ⟨V171, false, rfl, rfl, rfl, q171, _, _, hl171, hV171, (fun e9 => by cases e9), fun _ => hc171.trans (if_neg (bFT (b2i_0 c_174)))⟩
      | exact ⟨V180, false, rfl, rfl, rfl, q180, _, _, hl180, hV180, (fun e9 => by cases e9), fun _ => hc180.trans (if_neg (bFT (b2i_0 c_183)))⟩
      | exact ⟨V180, true, rfl, rfl, rfl, q180, _, _, hl180, hV180, (fun _ => ⟨(3, (kdN (nmN i126)), n144, n162, n180), hd180, ⟨rfl, by rw [kd_nm hi126]; exact ((hgo180 0 (by decide)).trans ((hgo162 0 (by decide)).trans ((hgo144 0 (by decide)).trans hgk126))), ((hgo180 1 (by decide)).trans ((hgo162 1 (by decide)).trans hgk144)), ((hgo180 2 (by decide)).trans hgk162), hgk180⟩⟩), fun e9 => by cases e9⟩
    · have hd114 : cmdF t p = (fun x : PR (List Nat) => bd (bd x (fun w q => (.inr (kdN w, q) : PR Nat))) fun v0 p => (bd (bkF t (dgF t) p) fun v1 p => bd (bkF t (dgF t) p) fun v2 p => bd (bkF t (nmF t 2) p) fun v3 p => .inr ((3, v0, v1, v2, v3), p) : PR Cm)) ((wdF W3 t) q114) := hc114.trans (if_pos (b2i_1 c_117))
      refine hG.aload_n dX4_isCommand_120 rfl ?_
      refine hG.iconst (v := 0) dX4_isCommand_121 rfl ?_
      refine hG.aload_n dX4_isCommand_122 rfl ?_
      refine hG.get dX4_isCommand_123 fg_X4_17_X4 (Or.inl mdL_m) rfl ?_
      refine hG.callV dX4_isCommand_126 kv_X4_237 (Rcv.raw mdL_m cl_X4) (sp_X4_oneOf (V0 := V0) (p := q114) (c0 := nI 3) (g := g9) (t := t) (V := V114) (ws := W3) hΓ hX hA hT0 hl114 hV114 (k := 0) (by decide) hnI3 hnF3 w_n3 (by decide) (by decide) (by decide)) rfl rfl (Nat.le_of_ble_eq_true rfl) (by decide) (by omega) (by omega) (fun r126 I126 L126 hI126 h126 => ?_) (fun _ _ _ _ _ h => h.elim)
      obtain ⟨V126, g126, rfl, rfl, rfl, hV126, hgo126, hgi126⟩ := h126
      have ho126 := on_w3 (t := t) (p := q114)
      have hl126 := on_le (t := t) (ws := W3) hl114
      obtain ⟨⟨b126, q126, i126⟩, e126⟩ : ∃ z, z = onM t W3 q114 := ⟨_, rfl⟩
      rw [← e126] at hV126 hgi126 ho126 hl126 ⊢
      have hV126 : V126 = VP V0 (nI q126) (nI 3) g126 := hV126
      have hc126 : cmdF t p = if b126 = true then (fun x : PR (List Nat) => bd (bd x (fun w q => (.inr (kdN w, q) : PR Nat))) fun v0 p => (bd (bkF t (dgF t) p) fun v1 p => bd (bkF t (dgF t) p) fun v2 p => bd (bkF t (nmF t 2) p) fun v3 p => .inr ((3, v0, v1, v2, v3), p) : PR Cm)) (.inr (nmN i126, q126)) else .inl q126 := hd114.trans (st_if (Z := (fun x : PR (List Nat) => bd (bd x (fun w q => (.inr (kdN w, q) : PR Nat))) fun v0 p => (bd (bkF t (dgF t) p) fun v1 p => bd (bkF t (dgF t) p) fun v2 p => bd (bkF t (nmF t 2) p) fun v3 p => .inr ((3, v0, v1, v2, v3), p) : PR Cm))) (fun _ => rfl) ho126.1)
      refine hG.if_eq (tgt := 190) dX4_isCommand_129 rfl (fun c_129 => ?_) (fun c_129 => ?_)
      · refine hG.iconst (v := 0) dX4_isCommand_190 rfl ?_
        refine hG.zret dX4_isCommand_191 rfl (by first | rfl | exact b2i_nar _) ?_ (by omega) (by omega) trivial
        first
        | exact ⟨V114, false, rfl, rfl, rfl, q114, _, _, hl114, hV114, (fun e9 => by cases e9), fun _ => hc114.trans (if_neg (bFT (b2i_0 c_117)))⟩
        | exact ⟨V126, false, rfl, rfl, rfl, q126, _, _, hl126, hV126, (fun e9 => by cases e9), fun _ => hc126.trans (if_neg (bFT (b2i_0 c_129)))⟩
        | exact ⟨V135, false, rfl, rfl, rfl, q135, _, _, hl135, hV135, (fun e9 => by cases e9), fun _ => hc135.trans (if_neg (bFT (b2i_0 c_138)))⟩
        | exact ⟨V144, false, rfl, rfl, rfl, q144, _, _, hl144, hV144, (fun e9 => by cases e9), fun _ => hc144.trans (if_neg (bFT (b2i_0 c_147)))⟩
        | exact ⟨V153, false, rfl, rfl, rfl, q153, _, _, hl153, hV153, (fun e9 => by cases e9), fun _ => hc153.trans (if_neg (bFT (b2i_0 c_156)))⟩
        | exact ⟨V162, false, rfl, rfl, rfl, q162, _, _, hl162, hV162, (fun e9 => by cases e9), fun _ => hc162.trans (if_neg (bFT (b2i_0 c_165)))⟩
        | exact ⟨V171, false, rfl, rfl, rfl, q171, _, _, hl171, hV171, (fun e9 => by cases e9), fun _ => hc171.trans (if_neg (bFT (b2i_0 c_174)))⟩
        | exact ⟨V180, false, rfl, rfl, rfl, q180, _, _, hl180, hV180, (fun e9 => by cases e9), fun _ => hc180.trans (if_neg (bFT (b2i_0 c_183)))⟩
        | exact ⟨V180, true, rfl, rfl, rfl, q180, _, _, hl180, hV180, (fun _ => ⟨(3, (kdN (nmN i126)), n144, n162, n180), hd180, ⟨rfl, by rw [kd_nm hi126]; exact ((hgo180 0 (by decide)).trans ((hgo162 0 (by decide)).trans ((hgo144 0 (by decide)).trans hgk126))), ((hgo180 1 (by decide)).trans ((hgo162 1 (by decide)).trans hgk144)), ((hgo180 2 (by decide)).trans hgk162), hgk180⟩⟩), fun e9 => by cases e9⟩
      · have hd126 := hc126.trans (if_pos (b2i_1 c_129))
        have hi126 : i126 < 3 := ho126.2 (b2i_1 c_129)
        have hgk126 : g126 0 = nI i126 := hgi126 (b2i_1 c_129)
        refine hG.aload_n dX4_isCommand_132 rfl ?_
        refine hG.ldcT dX4_isCommand_133 (hT.tx 29 rfl) (fun s133 hs133 => ?_)
        refine hG.callV dX4_isCommand_135 kv_X4_228 (Rcv.raw mdL_m cl_X4) (sp_X4_word (V0 := V0) (p := q126) (c0 := nI 3) (g := g126) (t := t) (V := V126) hΓ hX hA hT0 hl126 hV126 hs133 (by decide) (by decide)) rfl rfl (Nat.le_of_ble_eq_true rfl) (by decide) (by omega) (by omega) (fun r135 I135 L135 hI135 h135 => ?_) (fun _ _ _ _ _ h => h.elim)
        obtain ⟨V135, rfl, rfl, rfl, hV135⟩ := h135
        obtain ⟨⟨b135, q135⟩, e135⟩ : ∃ z, z = wdM t [32] q126 := ⟨_, rfl⟩
        have hl135 : q135 ≤ t.length := by have := (wm_le [32] q126 hl126).2; rw [← e135] at this; exact this
        rw [← e135] at hV135 ⊢
        have hV135 : V135 = VP V0 (nI q135) (nI 3) g126 := hV135
        have hc135 : cmdF t p = if b135 = true then (fun x : PR Nat => bd x fun v1 p => (bd (bkF t (dgF t) p) fun v2 p => bd (bkF t (nmF t 2) p) fun v3 p => .inr ((3, (kdN (nmN i126)), v1, v2, v3), p) : PR Cm)) ((dgF t) q135) else .inl q135 := by
          refine hd126.trans (st_if (Z := (fun x : PR Nat => bd x fun v1 p => (bd (bkF t (dgF t) p) fun v2 p => bd (bkF t (nmF t 2) p) fun v3 p => .inr ((3, (kdN (nmN i126)), v1, v2, v3), p) : PR Cm))) (fun _ => rfl) (x := bkF t (dgF t) q126) ?_)
          have h9 := bk_wm (t := t) (X := dgF t) (q := q126)
          rw [← e135] at h9
          exact h9
        refine hG.if_eq (tgt := 190) dX4_isCommand_138 rfl (fun c_138 => ?_) (fun c_138 => ?_)
        · refine hG.iconst (v := 0) dX4_isCommand_190 rfl ?_
          refine hG.zret dX4_isCommand_191 rfl (by first | rfl | exact b2i_nar _) ?_ (by omega) (by omega) trivial
          first
          | exact ⟨V114, false, rfl, rfl, rfl, q114, _, _, hl114, hV114, (fun e9 => by cases e9), fun _ => hc114.trans (if_neg (bFT (b2i_0 c_117)))⟩
          | exact ⟨V126, false, rfl, rfl, rfl, q126, _, _, hl126, hV126, (fun e9 => by cases e9), fun _ => hc126.trans (if_neg (bFT (b2i_0 c_129)))⟩
          | exact ⟨V135, false, rfl, rfl, rfl, q135, _, _, hl135, hV135, (fun e9 => by cases e9), fun _ => hc135.trans (if_neg (bFT (b2i_0 c_138)))⟩
          | exact ⟨V144, false, rfl, rfl, rfl, q144, _, _, hl144, hV144, (fun e9 => by cases e9), fun _ => hc144.trans (if_neg (bFT (b2i_0 c_147)))⟩
          | exact ⟨V153, false, rfl, rfl, rfl, q153, _, _, hl153, hV153, (fun e9 => by cases e9), fun _ => hc153.trans (if_neg (bFT (b2i_0 c_156)))⟩
          | exact ⟨V162, false, rfl, rfl, rfl, q162, _, _, hl162, hV162, (fun e9 => by cases e9), fun _ => hc162.trans (if_neg (bFT (b2i_0 c_165)))⟩
          | exact ⟨V171, false, rfl, rfl, rfl, q171, _, _, hl171, hV171, (fun e9 => by cases e9), fun _ => hc171.trans (if_neg (bFT (b2i_0 c_174)))⟩
          | exact ⟨V180, false, rfl, rfl, rfl, q180, _, _, hl180, hV180, (fun e9 => by cases e9), fun _ => hc180.trans (if_neg (bFT (b2i_0 c_183)))⟩
          | exact ⟨V180, true, rfl, rfl, rfl, q180, _, _, hl180, hV180, (fun _ => ⟨(3, (kdN (nmN i126)), n144, n162, n180), hd180, ⟨rfl, by rw [kd_nm hi126]; exact ((hgo180 0 (by decide)).trans ((hgo162 0 (by decide)).trans ((hgo144 0 (by decide)).trans hgk126))), ((hgo180 1 (by decide)).trans ((hgo162 1 (by decide)).trans hgk144)), ((hgo180 2 (by decide)).trans hgk162), hgk180⟩⟩), fun e9 => by cases e9⟩
        · have hd135 : cmdF t p = (fun x : PR Nat => bd x fun v1 p => (bd (bkF t (dgF t) p) fun v2 p => bd (bkF t (nmF t 2) p) fun v3 p => .inr ((3, (kdN (nmN i126)), v1, v2, v3), p) : PR Cm)) ((dgF t) q135) := hc135.trans (if_pos (b2i_1 c_138))
          refine hG.aload_n dX4_isCommand_141 rfl ?_
          refine hG.iconst (v := 1) dX4_isCommand_142 rfl ?_
          refine hG.iconst (v := 1) dX4_isCommand_143 rfl ?_
          refine hG.callV dX4_isCommand_144 kv_X4_243 (Rcv.raw mdL_m cl_X4) (sp_X4_digits (V0 := V0) (p := q135) (c0 := nI 3) (g := g126) (t := t) (V := V135) hΓ hA hT0 hl135 hV135 (k := 1) (mo := 1) (by decide) (by decide)) rfl rfl (Nat.le_of_ble_eq_true rfl) (by decide) (by omega) (by omega) (fun r144 I144 L144 hI144 h144 => ?_) (fun _ _ _ _ _ h => h.elim)
          obtain ⟨V144, g144, rfl, rfl, rfl, hV144, hgk144, hgo144⟩ := h144
          have ho144 := dg_b (t := t) (p := q135)
          have hl144 := (mo_le (t := t) 1 0 q135 hl135).2
          obtain ⟨⟨n144, q144⟩, e144⟩ : ∃ z, z = moF t 1 0 q135 := ⟨_, rfl⟩
          rw [← e144] at hV144 hgk144 ho144 hl144 ⊢
          have hV144 : V144 = VP V0 (nI q144) (nI 3) g144 := hV144
          have hgk144 : g144 1 = nI n144 := hgk144
          have hc144 : cmdF t p = if decide (q135 < q144) = true then (fun x : PR Nat => bd x fun v1 p => (bd (bkF t (dgF t) p) fun v2 p => bd (bkF t (nmF t 2) p) fun v3 p => .inr ((3, (kdN (nmN i126)), v1, v2, v3), p) : PR Cm)) (.inr (n144, q144)) else .inl q144 := hd135.trans (st_if (Z := (fun x : PR Nat => bd x fun v1 p => (bd (bkF t (dgF t) p) fun v2 p => bd (bkF t (nmF t 2) p) fun v3 p => .inr ((3, (kdN (nmN i126)), v1, v2, v3), p) : PR Cm))) (fun _ => rfl) ho144)
          refine hG.if_eq (tgt := 190) dX4_isCommand_147 rfl (fun c_147 => ?_) (fun c_147 => ?_)
          · refine hG.iconst (v := 0) dX4_isCommand_190 rfl ?_
            refine hG.zret dX4_isCommand_191 rfl (by first | rfl | exact b2i_nar _) ?_ (by omega) (by omega) trivial
            first
            | exact ⟨V114, false, rfl, rfl, rfl, q114, _, _, hl114, hV114, (fun e9 => by cases e9), fun _ => hc114.trans (if_neg (bFT (b2i_0 c_117)))⟩
            | exact ⟨V126, false, rfl, rfl, rfl, q126, _, _, hl126, hV126, (fun e9 => by cases e9), fun _ => hc126.trans (if_neg (bFT (b2i_0 c_129)))⟩
            | exact ⟨V135, false, rfl, rfl, rfl, q135, _, _, hl135, hV135, (fun e9 => by cases e9), fun _ => hc135.trans (if_neg (bFT (b2i_0 c_138)))⟩
            | exact ⟨V144, false, rfl, rfl, rfl, q144, _, _, hl144, hV144, (fun e9 => by cases e9), fun _ => hc144.trans (if_neg (bFT (b2i_0 c_147)))⟩
            | exact ⟨V153, false, rfl, rfl, rfl, q153, _, _, hl153, hV153, (fun e9 => by cases e9), fun _ => hc153.trans (if_neg (bFT (b2i_0 c_156)))⟩
            | exact ⟨V162, false, rfl, rfl, rfl, q162, _, _, hl162, hV162, (fun e9 => by cases e9), fun _ => hc162.trans (if_neg (bFT (b2i_0 c_165)))⟩
            | exact ⟨V171, false, rfl, rfl, rfl, q171, _, _, hl171, hV171, (fun e9 => by cases e9), fun _ => hc171.trans (if_neg (bFT (b2i_0 c_174)))⟩
            | exact ⟨V180, false, rfl, rfl, rfl, q180, _, _, hl180, hV180, (fun e9 => by cases e9), fun _ => hc180.trans (if_neg (bFT (b2i_0 c_183)))⟩
            | exact ⟨V180, true, rfl, rfl, rfl, q180, _, _, hl180, hV180, (fun _ => ⟨(3, (kdN (nmN i126)), n144, n162, n180), hd180, ⟨rfl, by rw [kd_nm hi126]; exact ((hgo180 0 (by decide)).trans ((hgo162 0 (by decide)).trans ((hgo144 0 (by decide)).trans hgk126))), ((hgo180 1 (by decide)).trans ((hgo162 1 (by decide)).trans hgk144)), ((hgo180 2 (by decide)).trans hgk162), hgk180⟩⟩), fun e9 => by cases e9⟩
          · have hd144 := hc144.trans (if_pos (b2i_1 c_147))
            refine hG.aload_n dX4_isCommand_150 rfl ?_
            refine hG.ldcT dX4_isCommand_151 (hT.tx 29 rfl) (fun s151 hs151 => ?_)
            refine hG.callV dX4_isCommand_153 kv_X4_228 (Rcv.raw mdL_m cl_X4) (sp_X4_word (V0 := V0) (p := q144) (c0 := nI 3) (g := g144) (t := t) (V := V144) hΓ hX hA hT0 hl144 hV144 hs151 (by decide) (by decide)) rfl rfl (Nat.le_of_ble_eq_true rfl) (by decide) (by omega) (by omega) (fun r153 I153 L153 hI153 h153 => ?_) (fun _ _ _ _ _ h => h.elim)
            obtain ⟨V153, rfl, rfl, rfl, hV153⟩ := h153
            obtain ⟨⟨b153, q153⟩, e153⟩ : ∃ z, z = wdM t [32] q144 := ⟨_, rfl⟩
            have hl153 : q153 ≤ t.length := by have := (wm_le [32] q144 hl144).2; rw [← e153] at this; exact this
            rw [← e153] at hV153 ⊢
            have hV153 : V153 = VP V0 (nI q153) (nI 3) g144 := hV153
            have hc153 : cmdF t p = if b153 = true then (fun x : PR Nat => bd x fun v2 p => (bd (bkF t (nmF t 2) p) fun v3 p => .inr ((3, (kdN (nmN i126)), n144, v2, v3), p) : PR Cm)) ((dgF t) q153) else .inl q153 := by
              refine hd144.trans (st_if (Z := (fun x : PR Nat => bd x fun v2 p => (bd (bkF t (nmF t 2) p) fun v3 p => .inr ((3, (kdN (nmN i126)), n144, v2, v3), p) : PR Cm))) (fun _ => rfl) (x := bkF t (dgF t) q144) ?_)
              have h9 := bk_wm (t := t) (X := dgF t) (q := q144)
              rw [← e153] at h9
              exact h9
            refine hG.if_eq (tgt := 190) dX4_isCommand_156 rfl (fun c_156 => ?_) (fun c_156 => ?_)
            · refine hG.iconst (v := 0) dX4_isCommand_190 rfl ?_
              refine hG.zret dX4_isCommand_191 rfl (by first | rfl | exact b2i_nar _) ?_ (by omega) (by omega) trivial
              first
              | exact ⟨V114, false, rfl, rfl, rfl, q114, _, _, hl114, hV114, (fun e9 => by cases e9), fun _ => hc114.trans (if_neg (bFT (b2i_0 c_117)))⟩
              | exact ⟨V126, false, rfl, rfl, rfl, q126, _, _, hl126, hV126, (fun e9 => by cases e9), fun _ => hc126.trans (if_neg (bFT (b2i_0 c_129)))⟩
              | exact ⟨V135, false, rfl, rfl, rfl, q135, _, _, hl135, hV135, (fun e9 => by cases e9), fun _ => hc135.trans (if_neg (bFT (b2i_0 c_138)))⟩
              | exact ⟨V144, false, rfl, rfl, rfl, q144, _, _, hl144, hV144, (fun e9 => by cases e9), fun _ => hc144.trans (if_neg (bFT (b2i_0 c_147)))⟩
              | exact ⟨V153, false, rfl, rfl, rfl, q153, _, _, hl153, hV153, (fun e9 => by cases e9), fun _ => hc153.trans (if_neg (bFT (b2i_0 c_156)))⟩
              | exact ⟨V162, false, rfl, rfl, rfl, q162, _, _, hl162, hV162, (fun e9 => by cases e9), fun _ => hc162.trans (if_neg (bFT (b2i_0 c_165)))⟩
              | exact ⟨V171, false, rfl, rfl, rfl, q171, _, _, hl171, hV171, (fun e9 => by cases e9), fun _ => hc171.trans (if_neg (bFT (b2i_0 c_174)))⟩
              | exact ⟨V180, false, rfl, rfl, rfl, q180, _, _, hl180, hV180, (fun e9 => by cases e9), fun _ => hc180.trans (if_neg (bFT (b2i_0 c_183)))⟩
              | exact ⟨V180, true, rfl, rfl, rfl, q180, _, _, hl180, hV180, (fun _ => ⟨(3, (kdN (nmN i126)), n144, n162, n180), hd180, ⟨rfl, by rw [kd_nm hi126]; exact ((hgo180 0 (by decide)).trans ((hgo162 0 (by decide)).trans ((hgo144 0 (by decide)).trans hgk126))), ((hgo180 1 (by decide)).trans ((hgo162 1 (by decide)).trans hgk144)), ((hgo180 2 (by decide)).trans hgk162), hgk180⟩⟩), fun e9 => by cases e9⟩
            · have hd153 : cmdF t p = (fun x : PR Nat => bd x fun v2 p => (bd (bkF t (nmF t 2) p) fun v3 p => .inr ((3, (kdN (nmN i126)), n144, v2, v3), p) : PR Cm)) ((dgF t) q153) := hc153.trans (if_pos (b2i_1 c_156))
              refine hG.aload_n dX4_isCommand_159 rfl ?_
              refine hG.iconst (v := 2) dX4_isCommand_160 rfl ?_
              refine hG.iconst (v := 1) dX4_isCommand_161 rfl ?_
              refine hG.callV dX4_isCommand_162 kv_X4_243 (Rcv.raw mdL_m cl_X4) (sp_X4_digits (V0 := V0) (p := q153) (c0 := nI 3) (g := g144) (t := t) (V := V153) hΓ hA hT0 hl153 hV153 (k := 2) (mo := 1) (by decide) (by decide)) rfl rfl (Nat.le_of_ble_eq_true rfl) (by decide) (by omega) (by omega) (fun r162 I162 L162 hI162 h162 => ?_) (fun _ _ _ _ _ h => h.elim)
              obtain ⟨V162, g162, rfl, rfl, rfl, hV162, hgk162, hgo162⟩ := h162
              have ho162 := dg_b (t := t) (p := q153)
              have hl162 := (mo_le (t := t) 1 0 q153 hl153).2
              obtain ⟨⟨n162, q162⟩, e162⟩ : ∃ z, z = moF t 1 0 q153 := ⟨_, rfl⟩
              rw [← e162] at hV162 hgk162 ho162 hl162 ⊢
              have hV162 : V162 = VP V0 (nI q162) (nI 3) g162 := hV162
              have hgk162 : g162 2 = nI n162 := hgk162
              have hc162 : cmdF t p = if decide (q153 < q162) = true then (fun x : PR Nat => bd x fun v2 p => (bd (bkF t (nmF t 2) p) fun v3 p => .inr ((3, (kdN (nmN i126)), n144, v2, v3), p) : PR Cm)) (.inr (n162, q162)) else .inl q162 := hd153.trans (st_if (Z := (fun x : PR Nat => bd x fun v2 p => (bd (bkF t (nmF t 2) p) fun v3 p => .inr ((3, (kdN (nmN i126)), n144, v2, v3), p) : PR Cm))) (fun _ => rfl) ho162)
              refine hG.if_eq (tgt := 190) dX4_isCommand_165 rfl (fun c_165 => ?_) (fun c_165 => ?_)
              · refine hG.iconst (v := 0) dX4_isCommand_190 rfl ?_
                refine hG.zret dX4_isCommand_191 rfl (by first | rfl | exact b2i_nar _) ?_ (by omega) (by omega) trivial
                first
                | exact ⟨V114, false, rfl, rfl, rfl, q114, _, _, hl114, hV114, (fun e9 => by cases e9), fun _ => hc114.trans (if_neg (bFT (b2i_0 c_117)))⟩
                | exact ⟨V126, false, rfl, rfl, rfl, q126, _, _, hl126, hV126, (fun e9 => by cases e9), fun _ => hc126.trans (if_neg (bFT (b2i_0 c_129)))⟩
                | exact ⟨V135, false, rfl, rfl, rfl, q135, _, _, hl135, hV135, (fun e9 => by cases e9), fun _ => hc135.trans (if_neg (bFT (b2i_0 c_138)))⟩
                | exact ⟨V144, false, rfl, rfl, rfl, q144, _, _, hl144, hV144, (fun e9 => by cases e9), fun _ => hc144.trans (if_neg (bFT (b2i_0 c_147)))⟩
                | exact ⟨V153, false, rfl, rfl, rfl, q153, _, _, hl153, hV153, (fun e9 => by cases e9), fun _ => hc153.trans (if_neg (bFT (b2i_0 c_156)))⟩
                | exact ⟨V162, false, rfl, rfl, rfl, q162, _, _, hl162, hV162, (fun e9 => by cases e9), fun _ => hc162.trans (if_neg (bFT (b2i_0 c_165)))⟩
                | exact ⟨V171, false, rfl, rfl, rfl, q171, _, _, hl171, hV171, (fun e9 => by cases e9), fun _ => hc171.trans (if_neg (bFT (b2i_0 c_174)))⟩
                | exact ⟨V180, false, rfl, rfl, rfl, q180, _, _, hl180, hV180, (fun e9 => by cases e9), fun _ => hc180.trans (if_neg (bFT (b2i_0 c_183)))⟩
                | exact ⟨V180, true, rfl, rfl, rfl, q180, _, _, hl180, hV180, (fun _ => ⟨(3, (kdN (nmN i126)), n144, n162, n180), hd180, ⟨rfl, by rw [kd_nm hi126]; exact ((hgo180 0 (by decide)).trans ((hgo162 0 (by decide)).trans ((hgo144 0 (by decide)).trans hgk126))), ((hgo180 1 (by decide)).trans ((hgo162 1 (by decide)).trans hgk144)), ((hgo180 2 (by decide)).trans hgk162), hgk180⟩⟩), fun e9 => by cases e9⟩
              · have hd162 := hc162.trans (if_pos (b2i_1 c_165))
                refine hG.aload_n dX4_isCommand_168 rfl ?_
                refine hG.ldcT dX4_isCommand_169 (hT.tx 29 rfl) (fun s169 hs169 => ?_)
                refine hG.callV dX4_isCommand_171 kv_X4_228 (Rcv.raw mdL_m cl_X4) (sp_X4_word (V0 := V0) (p := q162) (c0 := nI 3) (g := g162) (t := t) (V := V162) hΓ hX hA hT0 hl162 hV162 hs169 (by decide) (by decide)) rfl rfl (Nat.le_of_ble_eq_true rfl) (by decide) (by omega) (by omega) (fun r171 I171 L171 hI171 h171 => ?_) (fun _ _ _ _ _ h => h.elim)
                obtain ⟨V171, rfl, rfl, rfl, hV171⟩ := h171
                obtain ⟨⟨b171, q171⟩, e171⟩ : ∃ z, z = wdM t [32] q162 := ⟨_, rfl⟩
                have hl171 : q171 ≤ t.length := by have := (wm_le [32] q162 hl162).2; rw [← e171] at this; exact this
                rw [← e171] at hV171 ⊢
                have hV171 : V171 = VP V0 (nI q171) (nI 3) g162 := hV171
                have hc171 : cmdF t p = if b171 = true then (fun x : PR Nat => bd x fun v3 p => (.inr ((3, (kdN (nmN i126)), n144, n162, v3), p) : PR Cm)) ((nmF t 2) q171) else .inl q171 := by
                  refine hd162.trans (st_if (Z := (fun x : PR Nat => bd x fun v3 p => (.inr ((3, (kdN (nmN i126)), n144, n162, v3), p) : PR Cm))) (fun _ => rfl) (x := bkF t (nmF t 2) q162) ?_)
                  have h9 := bk_wm (t := t) (X := nmF t 2) (q := q162)
                  rw [← e171] at h9
                  exact h9
                refine hG.if_eq (tgt := 190) dX4_isCommand_174 rfl (fun c_174 => ?_) (fun c_174 => ?_)
                · refine hG.iconst (v := 0) dX4_isCommand_190 rfl ?_
                  refine hG.zret dX4_isCommand_191 rfl (by first | rfl | exact b2i_nar _) ?_ (by omega) (by omega) trivial
                  first
                  | exact ⟨V114, false, rfl, rfl, rfl, q114, _, _, hl114, hV114, (fun e9 => by cases e9), fun _ => hc114.trans (if_neg (bFT (b2i_0 c_117)))⟩
                  | exact ⟨V126, false, rfl, rfl, rfl, q126, _, _, hl126, hV126, (fun e9 => by cases e9), fun _ => hc126.trans (if_neg (bFT (b2i_0 c_129)))⟩
                  | exact ⟨V135, false, rfl, rfl, rfl, q135, _, _, hl135, hV135, (fun e9 => by cases e9), fun _ => hc135.trans (if_neg (bFT (b2i_0 c_138)))⟩
                  | exact ⟨V144, false, rfl, rfl, rfl, q144, _, _, hl144, hV144, (fun e9 => by cases e9), fun _ => hc144.trans (if_neg (bFT (b2i_0 c_147)))⟩
                  | exact ⟨V153, false, rfl, rfl, rfl, q153, _, _, hl153, hV153, (fun e9 => by cases e9), fun _ => hc153.trans (if_neg (bFT (b2i_0 c_156)))⟩
                  | exact ⟨V162, false, rfl, rfl, rfl, q162, _, _, hl162, hV162, (fun e9 => by cases e9), fun _ => hc162.trans (if_neg (bFT (b2i_0 c_165)))⟩
                  | exact ⟨V171, false, rfl, rfl, rfl, q171, _, _, hl171, hV171, (fun e9 => by cases e9), fun _ => hc171.trans (if_neg (bFT (b2i_0 c_174)))⟩
                  | exact ⟨V180, false, rfl, rfl, rfl, q180, _, _, hl180, hV180, (fun e9 => by cases e9), fun _ => hc180.trans (if_neg (bFT (b2i_0 c_183)))⟩
                  | exact ⟨V180, true, rfl, rfl, rfl, q180, _, _, hl180, hV180, (fun _ => ⟨(3, (kdN (nmN i126)), n144, n162, n180), hd180, ⟨rfl, by rw [kd_nm hi126]; exact ((hgo180 0 (by decide)).trans ((hgo162 0 (by decide)).trans ((hgo144 0 (by decide)).trans hgk126))), ((hgo180 1 (by decide)).trans ((hgo162 1 (by decide)).trans hgk144)), ((hgo180 2 (by decide)).trans hgk162), hgk180⟩⟩), fun e9 => by cases e9⟩
                · have hd171 : cmdF t p = (fun x : PR Nat => bd x fun v3 p => (.inr ((3, (kdN (nmN i126)), n144, n162, v3), p) : PR Cm)) ((nmF t 2) q171) := hc171.trans (if_pos (b2i_1 c_174))
                  refine hG.aload_n dX4_isCommand_177 rfl ?_
                  refine hG.iconst (v := 3) dX4_isCommand_178 rfl ?_
                  refine hG.iconst (v := 3) dX4_isCommand_179 rfl ?_
                  refine hG.callV dX4_isCommand_180 kv_X4_243 (Rcv.raw mdL_m cl_X4) (sp_X4_digits (V0 := V0) (p := q171) (c0 := nI 3) (g := g162) (t := t) (V := V171) hΓ hA hT0 hl171 hV171 (k := 3) (mo := 3) (by decide) (by decide)) rfl rfl (Nat.le_of_ble_eq_true rfl) (by decide) (by omega) (by omega) (fun r180 I180 L180 hI180 h180 => ?_) (fun _ _ _ _ _ h => h.elim)
                  obtain ⟨V180, g180, rfl, rfl, rfl, hV180, hgk180, hgo180⟩ := h180
                  have ho180 := nm_b (t := t) (p := q171)
                  have hl180 := (mo_le (t := t) 3 0 q171 hl171).2
                  obtain ⟨⟨n180, q180⟩, e180⟩ : ∃ z, z = moF t 3 0 q171 := ⟨_, rfl⟩
                  rw [← e180] at hV180 hgk180 ho180 hl180 ⊢
                  have hV180 : V180 = VP V0 (nI q180) (nI 3) g180 := hV180
                  have hgk180 : g180 3 = nI n180 := hgk180
                  have hc180 : cmdF t p = if decide (q171 < q180) = true then (fun x : PR Nat => bd x fun v3 p => (.inr ((3, (kdN (nmN i126)), n144, n162, v3), p) : PR Cm)) (.inr (n180, q180)) else .inl q180 := hd171.trans (st_if (Z := (fun x : PR Nat => bd x fun v3 p => (.inr ((3, (kdN (nmN i126)), n144, n162, v3), p) : PR Cm))) (fun _ => rfl) ho180)
                  refine hG.if_eq (tgt := 190) dX4_isCommand_183 rfl (fun c_183 => ?_) (fun c_183 => ?_)
                  · refine hG.iconst (v := 0) dX4_isCommand_190 rfl ?_
                    refine hG.zret dX4_isCommand_191 rfl (by first | rfl | exact b2i_nar _) ?_ (by omega) (by omega) trivial
                    first
                    | exact ⟨V114, false, rfl, rfl, rfl, q114, _, _, hl114, hV114, (fun e9 => by cases e9), fun _ => hc114.trans (if_neg (bFT (b2i_0 c_117)))⟩
                    | exact ⟨V126, false, rfl, rfl, rfl, q126, _, _, hl126, hV126, (fun e9 => by cases e9), fun _ => hc126.trans (if_neg (bFT (b2i_0 c_129)))⟩
                    | exact ⟨V135, false, rfl, rfl, rfl, q135, _, _, hl135, hV135, (fun e9 => by cases e9), fun _ => hc135.trans (if_neg (bFT (b2i_0 c_138)))⟩
                    | exact ⟨V144, false, rfl, rfl, rfl, q144, _, _, hl144, hV144, (fun e9 => by cases e9), fun _ => hc144.trans (if_neg (bFT (b2i_0 c_147)))⟩
                    | exact ⟨V153, false, rfl, rfl, rfl, q153, _, _, hl153, hV153, (fun e9 => by cases e9), fun _ => hc153.trans (if_neg (bFT (b2i_0 c_156)))⟩
                    | exact ⟨V162, false, rfl, rfl, rfl, q162, _, _, hl162, hV162, (fun e9 => by cases e9), fun _ => hc162.trans (if_neg (bFT (b2i_0 c_165)))⟩
                    | exact ⟨V171, false, rfl, rfl, rfl, q171, _, _, hl171, hV171, (fun e9 => by cases e9), fun _ => hc171.trans (if_neg (bFT (b2i_0 c_174)))⟩
                    | exact ⟨V180, false, rfl, rfl, rfl, q180, _, _, hl180, hV180, (fun e9 => by cases e9), fun _ => hc180.trans (if_neg (bFT (b2i_0 c_183)))⟩
                    | exact ⟨V180, true, rfl, rfl, rfl, q180, _, _, hl180, hV180, (fun _ => ⟨(3, (kdN (nmN i126)), n144, n162, n180), hd180, ⟨rfl, by rw [kd_nm hi126]; exact ((hgo180 0 (by decide)).trans ((hgo162 0 (by decide)).trans ((hgo144 0 (by decide)).trans hgk126))), ((hgo180 1 (by decide)).trans ((hgo162 1 (by decide)).trans hgk144)), ((hgo180 2 (by decide)).trans hgk162), hgk180⟩⟩), fun e9 => by cases e9⟩
                  · have hd180 := hc180.trans (if_pos (b2i_1 c_183))
                    refine hG.iconst (v := 1) dX4_isCommand_186 rfl ?_
                    refine hG.goto (tgt := 191) dX4_isCommand_187 rfl ?_
                    refine hG.zret dX4_isCommand_191 rfl (by first | rfl | exact b2i_nar _) ?_ (by omega) (by omega) trivial
                    first
                    | exact ⟨V114, false, rfl, rfl, rfl, q114, _, _, hl114, hV114, (fun e9 => by cases e9), fun _ => hc114.trans (if_neg (bFT (b2i_0 c_117)))⟩
                    | exact ⟨V126, false, rfl, rfl, rfl, q126, _, _, hl126, hV126, (fun e9 => by cases e9), fun _ => hc126.trans (if_neg (bFT (b2i_0 c_129)))⟩
                    | exact ⟨V135, false, rfl, rfl, rfl, q135, _, _, hl135, hV135, (fun e9 => by cases e9), fun _ => hc135.trans (if_neg (bFT (b2i_0 c_138)))⟩
                    | exact ⟨V144, false, rfl, rfl, rfl, q144, _, _, hl144, hV144, (fun e9 => by cases e9), fun _ => hc144.trans (if_neg (bFT (b2i_0 c_147)))⟩
                    | exact ⟨V153, false, rfl, rfl, rfl, q153, _, _, hl153, hV153, (fun e9 => by cases e9), fun _ => hc153.trans (if_neg (bFT (b2i_0 c_156)))⟩
                    | exact ⟨V162, false, rfl, rfl, rfl, q162, _, _, hl162, hV162, (fun e9 => by cases e9), fun _ => hc162.trans (if_neg (bFT (b2i_0 c_165)))⟩
                    | exact ⟨V171, false, rfl, rfl, rfl, q171, _, _, hl171, hV171, (fun e9 => by cases e9), fun _ => hc171.trans (if_neg (bFT (b2i_0 c_174)))⟩
                    | exact ⟨V180, false, rfl, rfl, rfl, q180, _, _, hl180, hV180, (fun e9 => by cases e9), fun _ => hc180.trans (if_neg (bFT (b2i_0 c_183)))⟩
                    | exact ⟨V180, true, rfl, rfl, rfl, q180, _, _, hl180, hV180, (fun _ => ⟨(3, (kdN (nmN i126)), n144, n162, n180), hd180, ⟨rfl, by rw [kd_nm hi126]; exact ((hgo180 0 (by decide)).trans ((hgo162 0 (by decide)).trans ((hgo144 0 (by decide)).trans hgk126))), ((hgo180 1 (by decide)).trans ((hgo162 1 (by decide)).trans hgk144)), ((hgo180 2 (by decide)).trans hgk162), hgk180⟩⟩), fun e9 => by cases e9⟩
  have k_cross : (t[p]? = some 99 ∧ ¬ t[p + 1]? = some 111) → ∀ (V1 : MV) (c9 : Int32) (g9 : Nat → Int32), V1 = VP V0 (nI p) c9 g9 → G 192 [(0, .ref m)] [] I (mdL L m A V1) 0 0 := by
    intro h V1 c9 g9 hV1
    have hw7 := w7_cross h.1 h.2
    refine hG.aload_n dX4_isCommand_192 rfl ?_
    refine hG.iconst (v := 0) dX4_isCommand_193 rfl ?_
    refine hG.put dX4_isCommand_194 fp_X4_232_X4 mdL_m rfl rfl (Nat.le_of_ble_eq_true rfl) ?_
    refine hG.mp_cm ?_
    obtain ⟨Vc, hVc⟩ : ∃ Vc, Vc = V1.wCm (nI 0) := ⟨_, rfl⟩
    rw [show V1.wCm 0 = V1.wCm (nI 0) from rfl, ← hVc]
    have hVc : Vc = VP V0 (nI p) (nI 0) g9 := by rw [hVc, hV1, vp_wcm]
    refine hG.aload_n dX4_isCommand_197 rfl ?_
    refine hG.ldcT dX4_isCommand_198 (hT.tx 30 rfl) (fun s198 hs198 => ?_)
    refine hG.callV dX4_isCommand_200 kv_X4_228 (Rcv.raw mdL_m cl_X4) (sp_X4_word (V0 := V0) (p := p) (c0 := nI 0) (g := g9) (t := t) (V := Vc) hΓ hX hA hT0 hp hVc hs198 (by decide) (by decide)) rfl rfl (Nat.le_of_ble_eq_true rfl) (by decide) (by omega) (by omega) (fun r200 I200 L200 hI200 h200 => ?_) (fun _ _ _ _ _ h => h.elim)
    obtain ⟨V200, rfl, rfl, rfl, hV200⟩ := h200
    obtain ⟨⟨b200, q200⟩, e200⟩ : ∃ z, z = wdM t [99, 114, 111, 115, 115, 32] p := ⟨_, rfl⟩
    have hl200 : q200 ≤ t.length := by have := (wm_le [99, 114, 111, 115, 115, 32] p hp).2; rw [← e200] at this; exact this
    rw [← e200] at hV200 ⊢
    have hV200 : V200 = VP V0 (nI q200) (nI 0) g9 := hV200
    have hc200 : cmdF t p = if b200 = true then (fun x : PR (List Nat) => bd x fun w p => (.inr ((0, if w = wF then 1 else 0, 0, 0, 0), p) : PR Cm)) ((wdF W2 t) q200) else .inl q200 := by
      have h9 := cm_w (Z := (fun x : PR (List Nat) => bd x fun w p => (.inr ((0, if w = wF then 1 else 0, 0, 0, 0), p) : PR Cm))) (X := (wdF W2 t)) (fun _ => rfl) hw7 (fun q => c1_0.trans rfl)
      rw [show [99, 114, 111, 115, 115] ++ [32] = [99, 114, 111, 115, 115, 32] from rfl, ← e200] at h9
      exact h9
    refine hG.if_eq (tgt := 222) dX4_isCommand_203 rfl (fun c_203 => ?_) (fun c_203 => ?_)
    · refine hG.iconst (v := 0) dX4_isCommand_222 rfl ?_
      refine hG.zret dX4_isCommand_223 rfl (by first | rfl | exact b2i_nar _) ?_ (by omega) (by omega) trivial
      first
      | exact ⟨V200, false, rfl, rfl, rfl, q200, _, _, hl200, hV200, (fun e9 => by cases e9), fun _ => hc200.trans (if_neg (bFT (b2i_0 c_203)))⟩
      | exact ⟨V212, false, rfl, rfl, rfl, q212, _, _, hl212, hV212, (fun e9 => by cases e9), fun _ => hc212.trans (if_neg (bFT (b2i_0 c_215)))⟩
      | exact ⟨V212, true, rfl, rfl, rfl, q212, _, _, hl212, hV212, (fun _ => ⟨(0, (if wyN i212 = wF then 1 else 0), 0, 0, 0), hd212, ⟨rfl, i212, hi212, hgk212, by rcases (by omega : i212 = 0 ∨ i212 = 1) with e9 | e9 <;> rw [e9] <;> rfl⟩⟩), fun e9 => by cases e9⟩
    · have hd200 : cmdF t p = (fun x : PR (List Nat) => bd x fun w p => (.inr ((0, if w = wF then 1 else 0, 0, 0, 0), p) : PR Cm)) ((wdF W2 t) q200) := hc200.trans (if_pos (b2i_1 c_203))
      refine hG.aload_n dX4_isCommand_206 rfl ?_
      refine hG.iconst (v := 0) dX4_isCommand_207 rfl ?_
      refine hG.aload_n dX4_isCommand_208 rfl ?_
      refine hG.get dX4_isCommand_209 fg_X4_41_X4 (Or.inl mdL_m) rfl ?_
      refine hG.callV dX4_isCommand_212 kv_X4_237 (Rcv.raw mdL_m cl_X4) (sp_X4_oneOf (V0 := V0) (p := q200) (c0 := nI 0) (g := g9) (t := t) (V := V200) (ws := W2) hΓ hX hA hT0 hl200 hV200 (k := 0) (by decide) hwI2 hwF2 w_n2 (by decide) (by decide) (by decide)) rfl rfl (Nat.le_of_ble_eq_true rfl) (by decide) (by omega) (by omega) (fun r212 I212 L212 hI212 h212 => ?_) (fun _ _ _ _ _ h => h.elim)
      obtain ⟨V212, g212, rfl, rfl, rfl, hV212, hgo212, hgi212⟩ := h212
      have ho212 := on_w2 (t := t) (p := q200)
      have hl212 := on_le (t := t) (ws := W2) hl200
      obtain ⟨⟨b212, q212, i212⟩, e212⟩ : ∃ z, z = onM t W2 q200 := ⟨_, rfl⟩
      rw [← e212] at hV212 hgi212 ho212 hl212 ⊢
      have hV212 : V212 = VP V0 (nI q212) (nI 0) g212 := hV212
      have hc212 : cmdF t p = if b212 = true then (fun x : PR (List Nat) => bd x fun w p => (.inr ((0, if w = wF then 1 else 0, 0, 0, 0), p) : PR Cm)) (.inr (wyN i212, q212)) else .inl q212 := hd200.trans (st_if (Z := (fun x : PR (List Nat) => bd x fun w p => (.inr ((0, if w = wF then 1 else 0, 0, 0, 0), p) : PR Cm))) (fun _ => rfl) ho212.1)
      refine hG.if_eq (tgt := 222) dX4_isCommand_215 rfl (fun c_215 => ?_) (fun c_215 => ?_)
      · refine hG.iconst (v := 0) dX4_isCommand_222 rfl ?_
        refine hG.zret dX4_isCommand_223 rfl (by first | rfl | exact b2i_nar _) ?_ (by omega) (by omega) trivial
        first
        | exact ⟨V200, false, rfl, rfl, rfl, q200, _, _, hl200, hV200, (fun e9 => by cases e9), fun _ => hc200.trans (if_neg (bFT (b2i_0 c_203)))⟩
        | exact ⟨V212, false, rfl, rfl, rfl, q212, _, _, hl212, hV212, (fun e9 => by cases e9), fun _ => hc212.trans (if_neg (bFT (b2i_0 c_215)))⟩
        | exact ⟨V212, true, rfl, rfl, rfl, q212, _, _, hl212, hV212, (fun _ => ⟨(0, (if wyN i212 = wF then 1 else 0), 0, 0, 0), hd212, ⟨rfl, i212, hi212, hgk212, by rcases (by omega : i212 = 0 ∨ i212 = 1) with e9 | e9 <;> rw [e9] <;> rfl⟩⟩), fun e9 => by cases e9⟩
      · have hd212 := hc212.trans (if_pos (b2i_1 c_215))
        have hi212 : i212 < 2 := ho212.2 (b2i_1 c_215)
        have hgk212 : g212 0 = nI i212 := hgi212 (b2i_1 c_215)
        refine hG.iconst (v := 1) dX4_isCommand_218 rfl ?_
        refine hG.goto (tgt := 223) dX4_isCommand_219 rfl ?_
        refine hG.zret dX4_isCommand_223 rfl (by first | rfl | exact b2i_nar _) ?_ (by omega) (by omega) trivial
        first
        | exact ⟨V200, false, rfl, rfl, rfl, q200, _, _, hl200, hV200, (fun e9 => by cases e9), fun _ => hc200.trans (if_neg (bFT (b2i_0 c_203)))⟩
        | exact ⟨V212, false, rfl, rfl, rfl, q212, _, _, hl212, hV212, (fun e9 => by cases e9), fun _ => hc212.trans (if_neg (bFT (b2i_0 c_215)))⟩
        | exact ⟨V212, true, rfl, rfl, rfl, q212, _, _, hl212, hV212, (fun _ => ⟨(0, (if wyN i212 = wF then 1 else 0), 0, 0, 0), hd212, ⟨rfl, i212, hi212, hgk212, by rcases (by omega : i212 = 0 ∨ i212 = 1) with e9 | e9 <;> rw [e9] <;> rfl⟩⟩), fun e9 => by cases e9⟩
  have k_weigh : (t[p]? = some 119 ∧ t[p + 1]? = some 101) → ∀ (V1 : MV) (c9 : Int32) (g9 : Nat → Int32), V1 = VP V0 (nI p) c9 g9 → G 230 [(0, .ref m)] [] I (mdL L m A V1) 0 0 := by
    intro h V1 c9 g9 hV1
    have hw7 := w7_weigh h.1 h.2
    refine hG.aload_n dX4_isCommand_230 rfl ?_
    refine hG.bipush (v := 6) dX4_isCommand_231 rfl ?_
    refine hG.put dX4_isCommand_233 fp_X4_232_X4 mdL_m rfl rfl (Nat.le_of_ble_eq_true rfl) ?_
    refine hG.mp_cm ?_
    obtain ⟨Vc, hVc⟩ : ∃ Vc, Vc = V1.wCm (nI 6) := ⟨_, rfl⟩
    rw [show V1.wCm 6 = V1.wCm (nI 6) from rfl, ← hVc]
    have hVc : Vc = VP V0 (nI p) (nI 6) g9 := by rw [hVc, hV1, vp_wcm]
    refine hG.aload_n dX4_isCommand_236 rfl ?_
    refine hG.ldcT dX4_isCommand_237 (hT.tx 31 rfl) (fun s237 hs237 => ?_)
    refine hG.callV dX4_isCommand_239 kv_X4_228 (Rcv.raw mdL_m cl_X4) (sp_X4_word (V0 := V0) (p := p) (c0 := nI 6) (g := g9) (t := t) (V := Vc) hΓ hX hA hT0 hp hVc hs237 (by decide) (by decide)) rfl rfl (Nat.le_of_ble_eq_true rfl) (by decide) (by omega) (by omega) (fun r239 I239 L239 hI239 h239 => ?_) (fun _ _ _ _ _ h => h.elim)
    obtain ⟨V239, rfl, rfl, rfl, hV239⟩ := h239
    obtain ⟨⟨b239, q239⟩, e239⟩ : ∃ z, z = wdM t [119, 101, 105, 103, 104, 32] p := ⟨_, rfl⟩
    have hl239 : q239 ≤ t.length := by have := (wm_le [119, 101, 105, 103, 104, 32] p hp).2; rw [← e239] at this; exact this
    rw [← e239] at hV239 ⊢
    have hV239 : V239 = VP V0 (nI q239) (nI 6) g9 := hV239
    have hc239 : cmdF t p = if b239 = true then (fun x : PR Nat => bd x fun v0 p => (.inr ((6, v0, 0, 0, 0), p) : PR Cm)) ((dgF t) q239) else .inl q239 := by
      have h9 := cm_w (Z := (fun x : PR Nat => bd x fun v0 p => (.inr ((6, v0, 0, 0, 0), p) : PR Cm))) (X := (dgF t)) (fun _ => rfl) hw7 (fun q => c1_6.trans rfl)
      rw [show [119, 101, 105, 103, 104] ++ [32] = [119, 101, 105, 103, 104, 32] from rfl, ← e239] at h9
      exact h9
    refine hG.if_eq (tgt := 258) dX4_isCommand_242 rfl (fun c_242 => ?_) (fun c_242 => ?_)
    · refine hG.iconst (v := 0) dX4_isCommand_258 rfl ?_
      refine hG.zret dX4_isCommand_259 rfl (by first | rfl | exact b2i_nar _) ?_ (by omega) (by omega) trivial
      first
      | exact ⟨V239, false, rfl, rfl, rfl, q239, _, _, hl239, hV239, (fun e9 => by cases e9), fun _ => hc239.trans (if_neg (bFT (b2i_0 c_242)))⟩
      | exact ⟨V248, false, rfl, rfl, rfl, q248, _, _, hl248, hV248, (fun e9 => by cases e9), fun _ => hc248.trans (if_neg (bFT (b2i_0 c_251)))⟩
      | exact ⟨V248, true, rfl, rfl, rfl, q248, _, _, hl248, hV248, (fun _ => ⟨(6, n248, 0, 0, 0), hd248, ⟨rfl, hgk248⟩⟩), fun e9 => by cases e9⟩
    · have hd239 : cmdF t p = (fun x : PR Nat => bd x fun v0 p => (.inr ((6, v0, 0, 0, 0), p) : PR Cm)) ((dgF t) q239) := hc239.trans (if_pos (b2i_1 c_242))
      refine hG.aload_n dX4_isCommand_245 rfl ?_
      refine hG.iconst (v := 0) dX4_isCommand_246 rfl ?_
      refine hG.iconst (v := 1) dX4_isCommand_247 rfl ?_
      refine hG.callV dX4_isCommand_248 kv_X4_243 (Rcv.raw mdL_m cl_X4) (sp_X4_digits (V0 := V0) (p := q239) (c0 := nI 6) (g := g9) (t := t) (V := V239) hΓ hA hT0 hl239 hV239 (k := 0) (mo := 1) (by decide) (by decide)) rfl rfl (Nat.le_of_ble_eq_true rfl) (by decide) (by omega) (by omega) (fun r248 I248 L248 hI248 h248 => ?_) (fun _ _ _ _ _ h => h.elim)
      obtain ⟨V248, g248, rfl, rfl, rfl, hV248, hgk248, hgo248⟩ := h248
      have ho248 := dg_b (t := t) (p := q239)
      have hl248 := (mo_le (t := t) 1 0 q239 hl239).2
      obtain ⟨⟨n248, q248⟩, e248⟩ : ∃ z, z = moF t 1 0 q239 := ⟨_, rfl⟩
      rw [← e248] at hV248 hgk248 ho248 hl248 ⊢
      have hV248 : V248 = VP V0 (nI q248) (nI 6) g248 := hV248
      have hgk248 : g248 0 = nI n248 := hgk248
      have hc248 : cmdF t p = if decide (q239 < q248) = true then (fun x : PR Nat => bd x fun v0 p => (.inr ((6, v0, 0, 0, 0), p) : PR Cm)) (.inr (n248, q248)) else .inl q248 := hd239.trans (st_if (Z := (fun x : PR Nat => bd x fun v0 p => (.inr ((6, v0, 0, 0, 0), p) : PR Cm))) (fun _ => rfl) ho248)
      refine hG.if_eq (tgt := 258) dX4_isCommand_251 rfl (fun c_251 => ?_) (fun c_251 => ?_)
      · refine hG.iconst (v := 0) dX4_isCommand_258 rfl ?_
        refine hG.zret dX4_isCommand_259 rfl (by first | rfl | exact b2i_nar _) ?_ (by omega) (by omega) trivial
        first
        | exact ⟨V239, false, rfl, rfl, rfl, q239, _, _, hl239, hV239, (fun e9 => by cases e9), fun _ => hc239.trans (if_neg (bFT (b2i_0 c_242)))⟩
        | exact ⟨V248, false, rfl, rfl, rfl, q248, _, _, hl248, hV248, (fun e9 => by cases e9), fun _ => hc248.trans (if_neg (bFT (b2i_0 c_251)))⟩
        | exact ⟨V248, true, rfl, rfl, rfl, q248, _, _, hl248, hV248, (fun _ => ⟨(6, n248, 0, 0, 0), hd248, ⟨rfl, hgk248⟩⟩), fun e9 => by cases e9⟩
      · have hd248 := hc248.trans (if_pos (b2i_1 c_251))
        refine hG.iconst (v := 1) dX4_isCommand_254 rfl ?_
        refine hG.goto (tgt := 259) dX4_isCommand_255 rfl ?_
        refine hG.zret dX4_isCommand_259 rfl (by first | rfl | exact b2i_nar _) ?_ (by omega) (by omega) trivial
        first
        | exact ⟨V239, false, rfl, rfl, rfl, q239, _, _, hl239, hV239, (fun e9 => by cases e9), fun _ => hc239.trans (if_neg (bFT (b2i_0 c_242)))⟩
        | exact ⟨V248, false, rfl, rfl, rfl, q248, _, _, hl248, hV248, (fun e9 => by cases e9), fun _ => hc248.trans (if_neg (bFT (b2i_0 c_251)))⟩
        | exact ⟨V248, true, rfl, rfl, rfl, q248, _, _, hl248, hV248, (fun _ => ⟨(6, n248, 0, 0, 0), hd248, ⟨rfl, hgk248⟩⟩), fun e9 => by cases e9⟩
  have k_wait : (t[p]? = some 119 ∧ ¬ t[p + 1]? = some 101) → ∀ (V1 : MV) (c9 : Int32) (g9 : Nat → Int32), V1 = VP V0 (nI p) c9 g9 → G 260 [(0, .ref m)] [] I (mdL L m A V1) 0 0 := by
    intro h V1 c9 g9 hV1
    have hw7 := w7_wait h.1 h.2
    refine hG.aload_n dX4_isCommand_260 rfl ?_
    refine hG.iconst (v := 1) dX4_isCommand_261 rfl ?_
    refine hG.put dX4_isCommand_262 fp_X4_232_X4 mdL_m rfl rfl (Nat.le_of_ble_eq_true rfl) ?_
    refine hG.mp_cm ?_
    obtain ⟨Vc, hVc⟩ : ∃ Vc, Vc = V1.wCm (nI 1) := ⟨_, rfl⟩
    rw [show V1.wCm 1 = V1.wCm (nI 1) from rfl, ← hVc]
    have hVc : Vc = VP V0 (nI p) (nI 1) g9 := by rw [hVc, hV1, vp_wcm]
    refine hG.aload_n dX4_isCommand_265 rfl ?_
    refine hG.ldcT dX4_isCommand_266 (hT.tx 32 rfl) (fun s266 hs266 => ?_)
    refine hG.callV dX4_isCommand_268 kv_X4_228 (Rcv.raw mdL_m cl_X4) (sp_X4_word (V0 := V0) (p := p) (c0 := nI 1) (g := g9) (t := t) (V := Vc) hΓ hX hA hT0 hp hVc hs266 (by decide) (by decide)) rfl rfl (Nat.le_of_ble_eq_true rfl) (by decide) (by omega) (by omega) (fun r268 I268 L268 hI268 h268 => ?_) (fun _ _ _ _ _ h => h.elim)
    obtain ⟨V268, rfl, rfl, rfl, hV268⟩ := h268
    obtain ⟨⟨b268, q268⟩, e268⟩ : ∃ z, z = wdM t [119, 97, 105, 116, 32] p := ⟨_, rfl⟩
    have hl268 : q268 ≤ t.length := by have := (wm_le [119, 97, 105, 116, 32] p hp).2; rw [← e268] at this; exact this
    rw [← e268] at hV268 ⊢
    have hV268 : V268 = VP V0 (nI q268) (nI 1) g9 := hV268
    have hc268 : cmdF t p = if b268 = true then (fun x : PR Nat => bd x fun v0 p => (.inr ((1, v0, 0, 0, 0), p) : PR Cm)) ((nmF t 2) q268) else .inl q268 := by
      have h9 := cm_w (Z := (fun x : PR Nat => bd x fun v0 p => (.inr ((1, v0, 0, 0, 0), p) : PR Cm))) (X := (nmF t 2)) (fun _ => rfl) hw7 (fun q => c1_1.trans rfl)
      rw [show [119, 97, 105, 116] ++ [32] = [119, 97, 105, 116, 32] from rfl, ← e268] at h9
      exact h9
    refine hG.if_eq (tgt := 287) dX4_isCommand_271 rfl (fun c_271 => ?_) (fun c_271 => ?_)
    · refine hG.iconst (v := 0) dX4_isCommand_287 rfl ?_
      refine hG.zret dX4_isCommand_288 rfl (by first | rfl | exact b2i_nar _) ?_ (by omega) (by omega) trivial
      first
      | exact ⟨V268, false, rfl, rfl, rfl, q268, _, _, hl268, hV268, (fun e9 => by cases e9), fun _ => hc268.trans (if_neg (bFT (b2i_0 c_271)))⟩
      | exact ⟨V277, false, rfl, rfl, rfl, q277, _, _, hl277, hV277, (fun e9 => by cases e9), fun _ => hc277.trans (if_neg (bFT (b2i_0 c_280)))⟩
      | exact ⟨V277, true, rfl, rfl, rfl, q277, _, _, hl277, hV277, (fun _ => ⟨(1, n277, 0, 0, 0), hd277, ⟨rfl, hgk277⟩⟩), fun e9 => by cases e9⟩
    · have hd268 : cmdF t p = (fun x : PR Nat => bd x fun v0 p => (.inr ((1, v0, 0, 0, 0), p) : PR Cm)) ((nmF t 2) q268) := hc268.trans (if_pos (b2i_1 c_271))
      refine hG.aload_n dX4_isCommand_274 rfl ?_
      refine hG.iconst (v := 0) dX4_isCommand_275 rfl ?_
      refine hG.iconst (v := 3) dX4_isCommand_276 rfl ?_
      refine hG.callV dX4_isCommand_277 kv_X4_243 (Rcv.raw mdL_m cl_X4) (sp_X4_digits (V0 := V0) (p := q268) (c0 := nI 1) (g := g9) (t := t) (V := V268) hΓ hA hT0 hl268 hV268 (k := 0) (mo := 3) (by decide) (by decide)) rfl rfl (Nat.le_of_ble_eq_true rfl) (by decide) (by omega) (by omega) (fun r277 I277 L277 hI277 h277 => ?_) (fun _ _ _ _ _ h => h.elim)
      obtain ⟨V277, g277, rfl, rfl, rfl, hV277, hgk277, hgo277⟩ := h277
      have ho277 := nm_b (t := t) (p := q268)
      have hl277 := (mo_le (t := t) 3 0 q268 hl268).2
      obtain ⟨⟨n277, q277⟩, e277⟩ : ∃ z, z = moF t 3 0 q268 := ⟨_, rfl⟩
      rw [← e277] at hV277 hgk277 ho277 hl277 ⊢
      have hV277 : V277 = VP V0 (nI q277) (nI 1) g277 := hV277
      have hgk277 : g277 0 = nI n277 := hgk277
      have hc277 : cmdF t p = if decide (q268 < q277) = true then (fun x : PR Nat => bd x fun v0 p => (.inr ((1, v0, 0, 0, 0), p) : PR Cm)) (.inr (n277, q277)) else .inl q277 := hd268.trans (st_if (Z := (fun x : PR Nat => bd x fun v0 p => (.inr ((1, v0, 0, 0, 0), p) : PR Cm))) (fun _ => rfl) ho277)
      refine hG.if_eq (tgt := 287) dX4_isCommand_280 rfl (fun c_280 => ?_) (fun c_280 => ?_)
      · refine hG.iconst (v := 0) dX4_isCommand_287 rfl ?_
        refine hG.zret dX4_isCommand_288 rfl (by first | rfl | exact b2i_nar _) ?_ (by omega) (by omega) trivial
        first
        | exact ⟨V268, false, rfl, rfl, rfl, q268, _, _, hl268, hV268, (fun e9 => by cases e9), fun _ => hc268.trans (if_neg (bFT (b2i_0 c_271)))⟩
        | exact ⟨V277, false, rfl, rfl, rfl, q277, _, _, hl277, hV277, (fun e9 => by cases e9), fun _ => hc277.trans (if_neg (bFT (b2i_0 c_280)))⟩
        | exact ⟨V277, true, rfl, rfl, rfl, q277, _, _, hl277, hV277, (fun _ => ⟨(1, n277, 0, 0, 0), hd277, ⟨rfl, hgk277⟩⟩), fun e9 => by cases e9⟩
      · have hd277 := hc277.trans (if_pos (b2i_1 c_280))
        refine hG.iconst (v := 1) dX4_isCommand_283 rfl ?_
        refine hG.goto (tgt := 288) dX4_isCommand_284 rfl ?_
        refine hG.zret dX4_isCommand_288 rfl (by first | rfl | exact b2i_nar _) ?_ (by omega) (by omega) trivial
        first
        | exact ⟨V268, false, rfl, rfl, rfl, q268, _, _, hl268, hV268, (fun e9 => by cases e9), fun _ => hc268.trans (if_neg (bFT (b2i_0 c_271)))⟩
        | exact ⟨V277, false, rfl, rfl, rfl, q277, _, _, hl277, hV277, (fun e9 => by cases e9), fun _ => hc277.trans (if_neg (bFT (b2i_0 c_280)))⟩
        | exact ⟨V277, true, rfl, rfl, rfl, q277, _, _, hl277, hV277, (fun _ => ⟨(1, n277, 0, 0, 0), hd277, ⟨rfl, hgk277⟩⟩), fun e9 => by cases e9⟩
  have k_board : (t[p]? = some 98) → ∀ (V1 : MV) (c9 : Int32) (g9 : Nat → Int32), V1 = VP V0 (nI p) c9 g9 → G 301 [(0, .ref m)] [] I (mdL L m A V1) 0 0 := by
    intro h V1 c9 g9 hV1
    have hw7 := w7_board h
    refine hG.aload_n dX4_isCommand_301 rfl ?_
    refine hG.iconst (v := 4) dX4_isCommand_302 rfl ?_
    refine hG.put dX4_isCommand_303 fp_X4_232_X4 mdL_m rfl rfl (Nat.le_of_ble_eq_true rfl) ?_
    refine hG.mp_cm ?_
    obtain ⟨Vc, hVc⟩ : ∃ Vc, Vc = V1.wCm (nI 4) := ⟨_, rfl⟩
    rw [show V1.wCm 4 = V1.wCm (nI 4) from rfl, ← hVc]
    have hVc : Vc = VP V0 (nI p) (nI 4) g9 := by rw [hVc, hV1, vp_wcm]
    refine hG.aload_n dX4_isCommand_306 rfl ?_
    refine hG.ldcT dX4_isCommand_307 (hT.tx 34 rfl) (fun s307 hs307 => ?_)
    refine hG.callV dX4_isCommand_309 kv_X4_228 (Rcv.raw mdL_m cl_X4) (sp_X4_word (V0 := V0) (p := p) (c0 := nI 4) (g := g9) (t := t) (V := Vc) hΓ hX hA hT0 hp hVc hs307 (by decide) (by decide)) rfl rfl (Nat.le_of_ble_eq_true rfl) (by decide) (by omega) (by omega) (fun r309 I309 L309 hI309 h309 => ?_) (fun _ _ _ _ _ h => h.elim)
    obtain ⟨V309, rfl, rfl, rfl, hV309⟩ := h309
    obtain ⟨⟨b309, q309⟩, e309⟩ : ∃ z, z = wdM t [98, 111, 97, 114, 100, 32] p := ⟨_, rfl⟩
    have hl309 : q309 ≤ t.length := by have := (wm_le [98, 111, 97, 114, 100, 32] p hp).2; rw [← e309] at this; exact this
    rw [← e309] at hV309 ⊢
    have hV309 : V309 = VP V0 (nI q309) (nI 4) g9 := hV309
    have hc309 : cmdF t p = if b309 = true then (fun x : PR (List Nat) => bd (bd x (fun w q => (.inr (kdN w, q) : PR Nat))) fun v0 p => (bd (bkF t (dgF t) p) fun v1 p => bd (bkF t (nmF t 2) p) fun v2 p => bd (bkF t (dgF t) p) fun v3 p => .inr ((4, v0, v1, v2, v3), p) : PR Cm)) ((wdF W3 t) q309) else .inl q309 := by
      have h9 := cm_w (Z := (fun x : PR (List Nat) => bd (bd x (fun w q => (.inr (kdN w, q) : PR Nat))) fun v0 p => (bd (bkF t (dgF t) p) fun v1 p => bd (bkF t (nmF t 2) p) fun v2 p => bd (bkF t (dgF t) p) fun v3 p => .inr ((4, v0, v1, v2, v3), p) : PR Cm))) (X := (wdF W3 t)) (fun _ => rfl) hw7 (fun q => c1_4.trans rfl)
      rw [show [98, 111, 97, 114, 100] ++ [32] = [98, 111, 97, 114, 100, 32] from rfl, ← e309] at h9
      exact h9
    refine hG.if_eq (tgt := 385) dX4_isCommand_312 rfl (fun c_312 => ?_) (fun c_312 => ?_)
    · refine hG.iconst (v := 0) dX4_isCommand_385 rfl ?_
      refine hG.zret dX4_isCommand_386 rfl (by first | rfl | exact b2i_nar _) ?_ (by omega) (by omega) trivial
      first
      | exact ⟨V309, false, rfl, rfl, rfl, q309, _, _, hl309, hV309, (fun e9 => by cases e9), fun _ => hc309.trans (if_neg (bFT (b2i_0 c_312)))⟩
      | exact ⟨V321, false, rfl, rfl, rfl, q321, _, _, hl321, hV321, (fun e9 => by cases e9), fun _ => hc321.trans (if_neg (bFT (b2i_0 c_324)))⟩
      | exact ⟨V330, false, rfl, rfl, rfl, q330, _, _, hl330, hV330, (fun e9 => by cases e9), fun _ => hc330.trans (if_neg (bFT (b2i_0 c_333)))⟩
      | exact ⟨V339, false, rfl, rfl, rfl, q339, _, _, hl339, hV339, (fun e9 => by cases e9), fun _ => hc339.trans (if_neg (bFT (b2i_0 c_342)))⟩
      | exact ⟨V348, false, rfl, rfl, rfl, q348, _, _, hl348, hV348, (fun e9 => by cases e9), fun _ => hc348.trans (if_neg (bFT (b2i_0 c_351)))⟩
      | exact ⟨V357, false, rfl, rfl, rfl, q357, _, _, hl357, hV357, (fun e9 => by cases e9), fun _ => hc357.trans (if_neg (bFT (b2i_0 c_360)))⟩
      | exact ⟨V366, false, rfl, rfl, rfl, q366, _, _, hl366, hV366, (fun e9 => by cases e9), fun _ => hc366.trans (if_neg (bFT (b2i_0 c_369)))⟩
      | exact ⟨V375, false, rfl, rfl, rfl, q375, _, _, hl375, hV375, (fun e9 => by cases e9), fun _ => hc375.trans (if_neg (bFT (b2i_0 c_378)))⟩
      | exact ⟨V375, true, rfl, rfl, rfl, q375, _, _, hl375, hV375, (fun _ => ⟨(4, (kdN (nmN i321)), n339, n357, n375), hd375, ⟨rfl, by rw [kd_nm hi321]; exact ((hgo375 0 (by decide)).trans ((hgo357 0 (by decide)).trans ((hgo339 0 (by decide)).trans hgk321))), ((hgo375 1 (by decide)).trans ((hgo357 1 (by decide)).trans hgk339)), ((hgo375 2 (by decide)).trans hgk357), hgk375⟩⟩), fun e9 => by cases e9⟩
    · have hd309 : cmdF t p = (fun x : PR (List Nat) => bd (bd x (fun w q => (.inr (kdN w, q) : PR Nat))) fun v0 p => (bd (bkF t (dgF t) p) fun v1 p => bd (bkF t (nmF t 2) p) fun v2 p => bd (bkF t (dgF t) p) fun v3 p => .inr ((4, v0, v1, v2, v3), p) : PR Cm)) ((wdF W3 t) q309) := hc309.trans (if_pos (b2i_1 c_312))
      refine hG.aload_n dX4_isCommand_315 rfl ?_
      refine hG.iconst (v := 0) dX4_isCommand_316 rfl ?_
      refine hG.aload_n dX4_isCommand_317 rfl ?_
      refine hG.get dX4_isCommand_318 fg_X4_17_X4 (Or.inl mdL_m) rfl ?_
      refine hG.callV dX4_isCommand_321 kv_X4_237 (Rcv.raw mdL_m cl_X4) (sp_X4_oneOf (V0 := V0) (p := q309) (c0 := nI 4) (g := g9) (t := t) (V := V309) (ws := W3) hΓ hX hA hT0 hl309 hV309 (k := 0) (by decide) hnI3 hnF3 w_n3 (by decide) (by decide) (by decide)) rfl rfl (Nat.le_of_ble_eq_true rfl) (by decide) (by omega) (by omega) (fun r321 I321 L321 hI321 h321 => ?_) (fun _ _ _ _ _ h => h.elim)
      obtain ⟨V321, g321, rfl, rfl, rfl, hV321, hgo321, hgi321⟩ := h321
      have ho321 := on_w3 (t := t) (p := q309)
      have hl321 := on_le (t := t) (ws := W3) hl309
      obtain ⟨⟨b321, q321, i321⟩, e321⟩ : ∃ z, z = onM t W3 q309 := ⟨_, rfl⟩
      rw [← e321] at hV321 hgi321 ho321 hl321 ⊢
      have hV321 : V321 = VP V0 (nI q321) (nI 4) g321 := hV321
      have hc321 : cmdF t p = if b321 = true then (fun x : PR (List Nat) => bd (bd x (fun w q => (.inr (kdN w, q) : PR Nat))) fun v0 p => (bd (bkF t (dgF t) p) fun v1 p => bd (bkF t (nmF t 2) p) fun v2 p => bd (bkF t (dgF t) p) fun v3 p => .inr ((4, v0, v1, v2, v3), p) : PR Cm)) (.inr (nmN i321, q321)) else .inl q321 := hd309.trans (st_if (Z := (fun x : PR (List Nat) => bd (bd x (fun w q => (.inr (kdN w, q) : PR Nat))) fun v0 p => (bd (bkF t (dgF t) p) fun v1 p => bd (bkF t (nmF t 2) p) fun v2 p => bd (bkF t (dgF t) p) fun v3 p => .inr ((4, v0, v1, v2, v3), p) : PR Cm))) (fun _ => rfl) ho321.1)
      refine hG.if_eq (tgt := 385) dX4_isCommand_324 rfl (fun c_324 => ?_) (fun c_324 => ?_)
      · refine hG.iconst (v := 0) dX4_isCommand_385 rfl ?_
        refine hG.zret dX4_isCommand_386 rfl (by first | rfl | exact b2i_nar _) ?_ (by omega) (by omega) trivial
        first
        | exact ⟨V309, false, rfl, rfl, rfl, q309, _, _, hl309, hV309, (fun e9 => by cases e9), fun _ => hc309.trans (if_neg (bFT (b2i_0 c_312)))⟩
        | exact ⟨V321, false, rfl, rfl, rfl, q321, _, _, hl321, hV321, (fun e9 => by cases e9), fun _ => hc321.trans (if_neg (bFT (b2i_0 c_324)))⟩
        | exact ⟨V330, false, rfl, rfl, rfl, q330, _, _, hl330, hV330, (fun e9 => by cases e9), fun _ => hc330.trans (if_neg (bFT (b2i_0 c_333)))⟩
        | exact ⟨V339, false, rfl, rfl, rfl, q339, _, _, hl339, hV339, (fun e9 => by cases e9), fun _ => hc339.trans (if_neg (bFT (b2i_0 c_342)))⟩
        | exact ⟨V348, false, rfl, rfl, rfl, q348, _, _, hl348, hV348, (fun e9 => by cases e9), fun _ => hc348.trans (if_neg (bFT (b2i_0 c_351)))⟩
        | exact ⟨V357, false, rfl, rfl, rfl, q357, _, _, hl357, hV357, (fun e9 => by cases e9), fun _ => hc357.trans (if_neg (bFT (b2i_0 c_360)))⟩
        | exact ⟨V366, false, rfl, rfl, rfl, q366, _, _, hl366, hV366, (fun e9 => by cases e9), fun _ => hc366.trans (if_neg (bFT (b2i_0 c_369)))⟩
        | exact ⟨V375, false, rfl, rfl, rfl, q375, _, _, hl375, hV375, (fun e9 => by cases e9), fun _ => hc375.trans (if_neg (bFT (b2i_0 c_378)))⟩
        | exact ⟨V375, true, rfl, rfl, rfl, q375, _, _, hl375, hV375, (fun _ => ⟨(4, (kdN (nmN i321)), n339, n357, n375), hd375, ⟨rfl, by rw [kd_nm hi321]; exact ((hgo375 0 (by decide)).trans ((hgo357 0 (by decide)).trans ((hgo339 0 (by decide)).trans hgk321))), ((hgo375 1 (by decide)).trans ((hgo357 1 (by decide)).trans hgk339)), ((hgo375 2 (by decide)).trans hgk357), hgk375⟩⟩), fun e9 => by cases e9⟩
      · have hd321 := hc321.trans (if_pos (b2i_1 c_324))
        have hi321 : i321 < 3 := ho321.2 (b2i_1 c_324)
        have hgk321 : g321 0 = nI i321 := hgi321 (b2i_1 c_324)
        refine hG.aload_n dX4_isCommand_327 rfl ?_
        refine hG.ldcT dX4_isCommand_328 (hT.tx 29 rfl) (fun s328 hs328 => ?_)
        refine hG.callV dX4_isCommand_330 kv_X4_228 (Rcv.raw mdL_m cl_X4) (sp_X4_word (V0 := V0) (p := q321) (c0 := nI 4) (g := g321) (t := t) (V := V321) hΓ hX hA hT0 hl321 hV321 hs328 (by decide) (by decide)) rfl rfl (Nat.le_of_ble_eq_true rfl) (by decide) (by omega) (by omega) (fun r330 I330 L330 hI330 h330 => ?_) (fun _ _ _ _ _ h => h.elim)
        obtain ⟨V330, rfl, rfl, rfl, hV330⟩ := h330
        obtain ⟨⟨b330, q330⟩, e330⟩ : ∃ z, z = wdM t [32] q321 := ⟨_, rfl⟩
        have hl330 : q330 ≤ t.length := by have := (wm_le [32] q321 hl321).2; rw [← e330] at this; exact this
        rw [← e330] at hV330 ⊢
        have hV330 : V330 = VP V0 (nI q330) (nI 4) g321 := hV330
        have hc330 : cmdF t p = if b330 = true then (fun x : PR Nat => bd x fun v1 p => (bd (bkF t (nmF t 2) p) fun v2 p => bd (bkF t (dgF t) p) fun v3 p => .inr ((4, (kdN (nmN i321)), v1, v2, v3), p) : PR Cm)) ((dgF t) q330) else .inl q330 := by
          refine hd321.trans (st_if (Z := (fun x : PR Nat => bd x fun v1 p => (bd (bkF t (nmF t 2) p) fun v2 p => bd (bkF t (dgF t) p) fun v3 p => .inr ((4, (kdN (nmN i321)), v1, v2, v3), p) : PR Cm))) (fun _ => rfl) (x := bkF t (dgF t) q321) ?_)
          have h9 := bk_wm (t := t) (X := dgF t) (q := q321)
          rw [← e330] at h9
          exact h9
        refine hG.if_eq (tgt := 385) dX4_isCommand_333 rfl (fun c_333 => ?_) (fun c_333 => ?_)
        · refine hG.iconst (v := 0) dX4_isCommand_385 rfl ?_
          refine hG.zret dX4_isCommand_386 rfl (by first | rfl | exact b2i_nar _) ?_ (by omega) (by omega) trivial
          first
          | exact ⟨V309, false, rfl, rfl, rfl, q309, _, _, hl309, hV309, (fun e9 => by cases e9), fun _ => hc309.trans (if_neg (bFT (b2i_0 c_312)))⟩
          | exact ⟨V321, false, rfl, rfl, rfl, q321, _, _, hl321, hV321, (fun e9 => by cases e9), fun _ => hc321.trans (if_neg (bFT (b2i_0 c_324)))⟩
          | exact ⟨V330, false, rfl, rfl, rfl, q330, _, _, hl330, hV330, (fun e9 => by cases e9), fun _ => hc330.trans (if_neg (bFT (b2i_0 c_333)))⟩
          | exact ⟨V339, false, rfl, rfl, rfl, q339, _, _, hl339, hV339, (fun e9 => by cases e9), fun _ => hc339.trans (if_neg (bFT (b2i_0 c_342)))⟩
          | exact ⟨V348, false, rfl, rfl, rfl, q348, _, _, hl348, hV348, (fun e9 => by cases e9), fun _ => hc348.trans (if_neg (bFT (b2i_0 c_351)))⟩
          | exact ⟨V357, false, rfl, rfl, rfl, q357, _, _, hl357, hV357, (fun e9 => by cases e9), fun _ => hc357.trans (if_neg (bFT (b2i_0 c_360)))⟩
          | exact ⟨V366, false, rfl, rfl, rfl, q366, _, _, hl366, hV366, (fun e9 => by cases e9), fun _ => hc366.trans (if_neg (bFT (b2i_0 c_369)))⟩
          | exact ⟨V375, false, rfl, rfl, rfl, q375, _, _, hl375, hV375, (fun e9 => by cases e9), fun _ => hc375.trans (if_neg (bFT (b2i_0 c_378)))⟩
          | exact ⟨V375, true, rfl, rfl, rfl, q375, _, _, hl375, hV375, (fun _ => ⟨(4, (kdN (nmN i321)), n339, n357, n375), hd375, ⟨rfl, by rw [kd_nm hi321]; exact ((hgo375 0 (by decide)).trans ((hgo357 0 (by decide)).trans ((hgo339 0 (by decide)).trans hgk321))), ((hgo375 1 (by decide)).trans ((hgo357 1 (by decide)).trans hgk339)), ((hgo375 2 (by decide)).trans hgk357), hgk375⟩⟩), fun e9 => by cases e9⟩
        · have hd330 : cmdF t p = (fun x : PR Nat => bd x fun v1 p => (bd (bkF t (nmF t 2) p) fun v2 p => bd (bkF t (dgF t) p) fun v3 p => .inr ((4, (kdN (nmN i321)), v1, v2, v3), p) : PR Cm)) ((dgF t) q330) := hc330.trans (if_pos (b2i_1 c_333))
          refine hG.aload_n dX4_isCommand_336 rfl ?_
          refine hG.iconst (v := 1) dX4_isCommand_337 rfl ?_
          refine hG.iconst (v := 1) dX4_isCommand_338 rfl ?_
          refine hG.callV dX4_isCommand_339 kv_X4_243 (Rcv.raw mdL_m cl_X4) (sp_X4_digits (V0 := V0) (p := q330) (c0 := nI 4) (g := g321) (t := t) (V := V330) hΓ hA hT0 hl330 hV330 (k := 1) (mo := 1) (by decide) (by decide)) rfl rfl (Nat.le_of_ble_eq_true rfl) (by decide) (by omega) (by omega) (fun r339 I339 L339 hI339 h339 => ?_) (fun _ _ _ _ _ h => h.elim)
          obtain ⟨V339, g339, rfl, rfl, rfl, hV339, hgk339, hgo339⟩ := h339
          have ho339 := dg_b (t := t) (p := q330)
          have hl339 := (mo_le (t := t) 1 0 q330 hl330).2
          obtain ⟨⟨n339, q339⟩, e339⟩ : ∃ z, z = moF t 1 0 q330 := ⟨_, rfl⟩
          rw [← e339] at hV339 hgk339 ho339 hl339 ⊢
          have hV339 : V339 = VP V0 (nI q339) (nI 4) g339 := hV339
          have hgk339 : g339 1 = nI n339 := hgk339
          have hc339 : cmdF t p = if decide (q330 < q339) = true then (fun x : PR Nat => bd x fun v1 p => (bd (bkF t (nmF t 2) p) fun v2 p => bd (bkF t (dgF t) p) fun v3 p => .inr ((4, (kdN (nmN i321)), v1, v2, v3), p) : PR Cm)) (.inr (n339, q339)) else .inl q339 := hd330.trans (st_if (Z := (fun x : PR Nat => bd x fun v1 p => (bd (bkF t (nmF t 2) p) fun v2 p => bd (bkF t (dgF t) p) fun v3 p => .inr ((4, (kdN (nmN i321)), v1, v2, v3), p) : PR Cm))) (fun _ => rfl) ho339)
          refine hG.if_eq (tgt := 385) dX4_isCommand_342 rfl (fun c_342 => ?_) (fun c_342 => ?_)
          · refine hG.iconst (v := 0) dX4_isCommand_385 rfl ?_
            refine hG.zret dX4_isCommand_386 rfl (by first | rfl | exact b2i_nar _) ?_ (by omega) (by omega) trivial
            first
            | exact ⟨V309, false, rfl, rfl, rfl, q309, _, _, hl309, hV309, (fun e9 => by cases e9), fun _ => hc309.trans (if_neg (bFT (b2i_0 c_312)))⟩
            | exact ⟨V321, false, rfl, rfl, rfl, q321, _, _, hl321, hV321, (fun e9 => by cases e9), fun _ => hc321.trans (if_neg (bFT (b2i_0 c_324)))⟩
            | exact ⟨V330, false, rfl, rfl, rfl, q330, _, _, hl330, hV330, (fun e9 => by cases e9), fun _ => hc330.trans (if_neg (bFT (b2i_0 c_333)))⟩
            | exact ⟨V339, false, rfl, rfl, rfl, q339, _, _, hl339, hV339, (fun e9 => by cases e9), fun _ => hc339.trans (if_neg (bFT (b2i_0 c_342)))⟩
            | exact ⟨V348, false, rfl, rfl, rfl, q348, _, _, hl348, hV348, (fun e9 => by cases e9), fun _ => hc348.trans (if_neg (bFT (b2i_0 c_351)))⟩
            | exact ⟨V357, false, rfl, rfl, rfl, q357, _, _, hl357, hV357, (fun e9 => by cases e9), fun _ => hc357.trans (if_neg (bFT (b2i_0 c_360)))⟩
            | exact ⟨V366, false, rfl, rfl, rfl, q366, _, _, hl366, hV366, (fun e9 => by cases e9), fun _ => hc366.trans (if_neg (bFT (b2i_0 c_369)))⟩
            | exact ⟨V375, false, rfl, rfl, rfl, q375, _, _, hl375, hV375, (fun e9 => by cases e9), fun _ => hc375.trans (if_neg (bFT (b2i_0 c_378)))⟩
            | exact ⟨V375, true, rfl, rfl, rfl, q375, _, _, hl375, hV375, (fun _ => ⟨(4, (kdN (nmN i321)), n339, n357, n375), hd375, ⟨rfl, by rw [kd_nm hi321]; exact ((hgo375 0 (by decide)).trans ((hgo357 0 (by decide)).trans ((hgo339 0 (by decide)).trans hgk321))), ((hgo375 1 (by decide)).trans ((hgo357 1 (by decide)).trans hgk339)), ((hgo375 2 (by decide)).trans hgk357), hgk375⟩⟩), fun e9 => by cases e9⟩
          · have hd339 := hc339.trans (if_pos (b2i_1 c_342))
            refine hG.aload_n dX4_isCommand_345 rfl ?_
            refine hG.ldcT dX4_isCommand_346 (hT.tx 29 rfl) (fun s346 hs346 => ?_)
            refine hG.callV dX4_isCommand_348 kv_X4_228 (Rcv.raw mdL_m cl_X4) (sp_X4_word (V0 := V0) (p := q339) (c0 := nI 4) (g := g339) (t := t) (V := V339) hΓ hX hA hT0 hl339 hV339 hs346 (by decide) (by decide)) rfl rfl (Nat.le_of_ble_eq_true rfl) (by decide) (by omega) (by omega) (fun r348 I348 L348 hI348 h348 => ?_) (fun _ _ _ _ _ h => h.elim)
            obtain ⟨V348, rfl, rfl, rfl, hV348⟩ := h348
            obtain ⟨⟨b348, q348⟩, e348⟩ : ∃ z, z = wdM t [32] q339 := ⟨_, rfl⟩
            have hl348 : q348 ≤ t.length := by have := (wm_le [32] q339 hl339).2; rw [← e348] at this; exact this
            rw [← e348] at hV348 ⊢
            have hV348 : V348 = VP V0 (nI q348) (nI 4) g339 := hV348
            have hc348 : cmdF t p = if b348 = true then (fun x : PR Nat => bd x fun v2 p => (bd (bkF t (dgF t) p) fun v3 p => .inr ((4, (kdN (nmN i321)), n339, v2, v3), p) : PR Cm)) ((nmF t 2) q348) else .inl q348 := by
              refine hd339.trans (st_if (Z := (fun x : PR Nat => bd x fun v2 p => (bd (bkF t (dgF t) p) fun v3 p => .inr ((4, (kdN (nmN i321)), n339, v2, v3), p) : PR Cm))) (fun _ => rfl) (x := bkF t (nmF t 2) q339) ?_)
              have h9 := bk_wm (t := t) (X := nmF t 2) (q := q339)
              rw [← e348] at h9
              exact h9
            refine hG.if_eq (tgt := 385) dX4_isCommand_351 rfl (fun c_351 => ?_) (fun c_351 => ?_)
            · refine hG.iconst (v := 0) dX4_isCommand_385 rfl ?_
              refine hG.zret dX4_isCommand_386 rfl (by first | rfl | exact b2i_nar _) ?_ (by omega) (by omega) trivial
              first
              | exact ⟨V309, false, rfl, rfl, rfl, q309, _, _, hl309, hV309, (fun e9 => by cases e9), fun _ => hc309.trans (if_neg (bFT (b2i_0 c_312)))⟩
              | exact ⟨V321, false, rfl, rfl, rfl, q321, _, _, hl321, hV321, (fun e9 => by cases e9), fun _ => hc321.trans (if_neg (bFT (b2i_0 c_324)))⟩
              | exact ⟨V330, false, rfl, rfl, rfl, q330, _, _, hl330, hV330, (fun e9 => by cases e9), fun _ => hc330.trans (if_neg (bFT (b2i_0 c_333)))⟩
              | exact ⟨V339, false, rfl, rfl, rfl, q339, _, _, hl339, hV339, (fun e9 => by cases e9), fun _ => hc339.trans (if_neg (bFT (b2i_0 c_342)))⟩
              | exact ⟨V348, false, rfl, rfl, rfl, q348, _, _, hl348, hV348, (fun e9 => by cases e9), fun _ => hc348.trans (if_neg (bFT (b2i_0 c_351)))⟩
              | exact ⟨V357, false, rfl, rfl, rfl, q357, _, _, hl357, hV357, (fun e9 => by cases e9), fun _ => hc357.trans (if_neg (bFT (b2i_0 c_360)))⟩
              | exact ⟨V366, false, rfl, rfl, rfl, q366, _, _, hl366, hV366, (fun e9 => by cases e9), fun _ => hc366.trans (if_neg (bFT (b2i_0 c_369)))⟩
              | exact ⟨V375, false, rfl, rfl, rfl, q375, _, _, hl375, hV375, (fun e9 => by cases e9), fun _ => hc375.trans (if_neg (bFT (b2i_0 c_378)))⟩
              | exact ⟨V375, true, rfl, rfl, rfl, q375, _, _, hl375, hV375, (fun _ => ⟨(4, (kdN (nmN i321)), n339, n357, n375), hd375, ⟨rfl, by rw [kd_nm hi321]; exact ((hgo375 0 (by decide)).trans ((hgo357 0 (by decide)).trans ((hgo339 0 (by decide)).trans hgk321))), ((hgo375 1 (by decide)).trans ((hgo357 1 (by decide)).trans hgk339)), ((hgo375 2 (by decide)).trans hgk357), hgk375⟩⟩), fun e9 => by cases e9⟩
            · have hd348 : cmdF t p = (fun x : PR Nat => bd x fun v2 p => (bd (bkF t (dgF t) p) fun v3 p => .inr ((4, (kdN (nmN i321)), n339, v2, v3), p) : PR Cm)) ((nmF t 2) q348) := hc348.trans (if_pos (b2i_1 c_351))
              refine hG.aload_n dX4_isCommand_354 rfl ?_
              refine hG.iconst (v := 2) dX4_isCommand_355 rfl ?_
              refine hG.iconst (v := 3) dX4_isCommand_356 rfl ?_
              refine hG.callV dX4_isCommand_357 kv_X4_243 (Rcv.raw mdL_m cl_X4) (sp_X4_digits (V0 := V0) (p := q348) (c0 := nI 4) (g := g339) (t := t) (V := V348) hΓ hA hT0 hl348 hV348 (k := 2) (mo := 3) (by decide) (by decide)) rfl rfl (Nat.le_of_ble_eq_true rfl) (by decide) (by omega) (by omega) (fun r357 I357 L357 hI357 h357 => ?_) (fun _ _ _ _ _ h => h.elim)
              obtain ⟨V357, g357, rfl, rfl, rfl, hV357, hgk357, hgo357⟩ := h357
              have ho357 := nm_b (t := t) (p := q348)
              have hl357 := (mo_le (t := t) 3 0 q348 hl348).2
              obtain ⟨⟨n357, q357⟩, e357⟩ : ∃ z, z = moF t 3 0 q348 := ⟨_, rfl⟩
              rw [← e357] at hV357 hgk357 ho357 hl357 ⊢
              have hV357 : V357 = VP V0 (nI q357) (nI 4) g357 := hV357
              have hgk357 : g357 2 = nI n357 := hgk357
              have hc357 : cmdF t p = if decide (q348 < q357) = true then (fun x : PR Nat => bd x fun v2 p => (bd (bkF t (dgF t) p) fun v3 p => .inr ((4, (kdN (nmN i321)), n339, v2, v3), p) : PR Cm)) (.inr (n357, q357)) else .inl q357 := hd348.trans (st_if (Z := (fun x : PR Nat => bd x fun v2 p => (bd (bkF t (dgF t) p) fun v3 p => .inr ((4, (kdN (nmN i321)), n339, v2, v3), p) : PR Cm))) (fun _ => rfl) ho357)
              refine hG.if_eq (tgt := 385) dX4_isCommand_360 rfl (fun c_360 => ?_) (fun c_360 => ?_)
              · refine hG.iconst (v := 0) dX4_isCommand_385 rfl ?_
                refine hG.zret dX4_isCommand_386 rfl (by first | rfl | exact b2i_nar _) ?_ (by omega) (by omega) trivial
                first
                | exact ⟨V309, false, rfl, rfl, rfl, q309, _, _, hl309, hV309, (fun e9 => by cases e9), fun _ => hc309.trans (if_neg (bFT (b2i_0 c_312)))⟩
                | exact ⟨V321, false, rfl, rfl, rfl, q321, _, _, hl321, hV321, (fun e9 => by cases e9), fun _ => hc321.trans (if_neg (bFT (b2i_0 c_324)))⟩
                | exact ⟨V330, false, rfl, rfl, rfl, q330, _, _, hl330, hV330, (fun e9 => by cases e9), fun _ => hc330.trans (if_neg (bFT (b2i_0 c_333)))⟩
                | exact ⟨V339, false, rfl, rfl, rfl, q339, _, _, hl339, hV339, (fun e9 => by cases e9), fun _ => hc339.trans (if_neg (bFT (b2i_0 c_342)))⟩
                | exact ⟨V348, false, rfl, rfl, rfl, q348, _, _, hl348, hV348, (fun e9 => by cases e9), fun _ => hc348.trans (if_neg (bFT (b2i_0 c_351)))⟩
                | exact ⟨V357, false, rfl, rfl, rfl, q357, _, _, hl357, hV357, (fun e9 => by cases e9), fun _ => hc357.trans (if_neg (bFT (b2i_0 c_360)))⟩
                | exact ⟨V366, false, rfl, rfl, rfl, q366, _, _, hl366, hV366, (fun e9 => by cases e9), fun _ => hc366.trans (if_neg (bFT (b2i_0 c_369)))⟩
                | exact ⟨V375, false, rfl, rfl, rfl, q375, _, _, hl375, hV375, (fun e9 => by cases e9), fun _ => hc375.trans (if_neg (bFT (b2i_0 c_378)))⟩
                | exact ⟨V375, true, rfl, rfl, rfl, q375, _, _, hl375, hV375, (fun _ => ⟨(4, (kdN (nmN i321)), n339, n357, n375), hd375, ⟨rfl, by rw [kd_nm hi321]; exact ((hgo375 0 (by decide)).trans ((hgo357 0 (by decide)).trans ((hgo339 0 (by decide)).trans hgk321))), ((hgo375 1 (by decide)).trans ((hgo357 1 (by decide)).trans hgk339)), ((hgo375 2 (by decide)).trans hgk357), hgk375⟩⟩), fun e9 => by cases e9⟩
              · have hd357 := hc357.trans (if_pos (b2i_1 c_360))
                refine hG.aload_n dX4_isCommand_363 rfl ?_
                refine hG.ldcT dX4_isCommand_364 (hT.tx 29 rfl) (fun s364 hs364 => ?_)
                refine hG.callV dX4_isCommand_366 kv_X4_228 (Rcv.raw mdL_m cl_X4) (sp_X4_word (V0 := V0) (p := q357) (c0 := nI 4) (g := g357) (t := t) (V := V357) hΓ hX hA hT0 hl357 hV357 hs364 (by decide) (by decide)) rfl rfl (Nat.le_of_ble_eq_true rfl) (by decide) (by omega) (by omega) (fun r366 I366 L366 hI366 h366 => ?_) (fun _ _ _ _ _ h => h.elim)
                obtain ⟨V366, rfl, rfl, rfl, hV366⟩ := h366
                obtain ⟨⟨b366, q366⟩, e366⟩ : ∃ z, z = wdM t [32] q357 := ⟨_, rfl⟩
                have hl366 : q366 ≤ t.length := by have := (wm_le [32] q357 hl357).2; rw [← e366] at this; exact this
                rw [← e366] at hV366 ⊢
                have hV366 : V366 = VP V0 (nI q366) (nI 4) g357 := hV366
                have hc366 : cmdF t p = if b366 = true then (fun x : PR Nat => bd x fun v3 p => (.inr ((4, (kdN (nmN i321)), n339, n357, v3), p) : PR Cm)) ((dgF t) q366) else .inl q366 := by
                  refine hd357.trans (st_if (Z := (fun x : PR Nat => bd x fun v3 p => (.inr ((4, (kdN (nmN i321)), n339, n357, v3), p) : PR Cm))) (fun _ => rfl) (x := bkF t (dgF t) q357) ?_)
                  have h9 := bk_wm (t := t) (X := dgF t) (q := q357)
                  rw [← e366] at h9
                  exact h9
                refine hG.if_eq (tgt := 385) dX4_isCommand_369 rfl (fun c_369 => ?_) (fun c_369 => ?_)
                · refine hG.iconst (v := 0) dX4_isCommand_385 rfl ?_
                  refine hG.zret dX4_isCommand_386 rfl (by first | rfl | exact b2i_nar _) ?_ (by omega) (by omega) trivial
                  first
                  | exact ⟨V309, false, rfl, rfl, rfl, q309, _, _, hl309, hV309, (fun e9 => by cases e9), fun _ => hc309.trans (if_neg (bFT (b2i_0 c_312)))⟩
                  | exact ⟨V321, false, rfl, rfl, rfl, q321, _, _, hl321, hV321, (fun e9 => by cases e9), fun _ => hc321.trans (if_neg (bFT (b2i_0 c_324)))⟩
                  | exact ⟨V330, false, rfl, rfl, rfl, q330, _, _, hl330, hV330, (fun e9 => by cases e9), fun _ => hc330.trans (if_neg (bFT (b2i_0 c_333)))⟩
                  | exact ⟨V339, false, rfl, rfl, rfl, q339, _, _, hl339, hV339, (fun e9 => by cases e9), fun _ => hc339.trans (if_neg (bFT (b2i_0 c_342)))⟩
                  | exact ⟨V348, false, rfl, rfl, rfl, q348, _, _, hl348, hV348, (fun e9 => by cases e9), fun _ => hc348.trans (if_neg (bFT (b2i_0 c_351)))⟩
                  | exact ⟨V357, false, rfl, rfl, rfl, q357, _, _, hl357, hV357, (fun e9 => by cases e9), fun _ => hc357.trans (if_neg (bFT (b2i_0 c_360)))⟩
                  | exact ⟨V366, false, rfl, rfl, rfl, q366, _, _, hl366, hV366, (fun e9 => by cases e9), fun _ => hc366.trans (if_neg (bFT (b2i_0 c_369)))⟩
                  | exact ⟨V375, false, rfl, rfl, rfl, q375, _, _, hl375, hV375, (fun e9 => by cases e9), fun _ => hc375.trans (if_neg (bFT (b2i_0 c_378)))⟩
                  | exact ⟨V375, true, rfl, rfl, rfl, q375, _, _, hl375, hV375, (fun _ => ⟨(4, (kdN (nmN i321)), n339, n357, n375), hd375, ⟨rfl, by rw [kd_nm hi321]; exact ((hgo375 0 (by decide)).trans ((hgo357 0 (by decide)).trans ((hgo339 0 (by decide)).trans hgk321))), ((hgo375 1 (by decide)).trans ((hgo357 1 (by decide)).trans hgk339)), ((hgo375 2 (by decide)).trans hgk357), hgk375⟩⟩), fun e9 => by cases e9⟩
                · have hd366 : cmdF t p = (fun x : PR Nat => bd x fun v3 p => (.inr ((4, (kdN (nmN i321)), n339, n357, v3), p) : PR Cm)) ((dgF t) q366) := hc366.trans (if_pos (b2i_1 c_369))
                  refine hG.aload_n dX4_isCommand_372 rfl ?_
                  refine hG.iconst (v := 3) dX4_isCommand_373 rfl ?_
                  refine hG.iconst (v := 1) dX4_isCommand_374 rfl ?_
                  refine hG.callV dX4_isCommand_375 kv_X4_243 (Rcv.raw mdL_m cl_X4) (sp_X4_digits (V0 := V0) (p := q366) (c0 := nI 4) (g := g357) (t := t) (V := V366) hΓ hA hT0 hl366 hV366 (k := 3) (mo := 1) (by decide) (by decide)) rfl rfl (Nat.le_of_ble_eq_true rfl) (by decide) (by omega) (by omega) (fun r375 I375 L375 hI375 h375 => ?_) (fun _ _ _ _ _ h => h.elim)
                  obtain ⟨V375, g375, rfl, rfl, rfl, hV375, hgk375, hgo375⟩ := h375
                  have ho375 := dg_b (t := t) (p := q366)
                  have hl375 := (mo_le (t := t) 1 0 q366 hl366).2
                  obtain ⟨⟨n375, q375⟩, e375⟩ : ∃ z, z = moF t 1 0 q366 := ⟨_, rfl⟩
                  rw [← e375] at hV375 hgk375 ho375 hl375 ⊢
                  have hV375 : V375 = VP V0 (nI q375) (nI 4) g375 := hV375
                  have hgk375 : g375 3 = nI n375 := hgk375
                  have hc375 : cmdF t p = if decide (q366 < q375) = true then (fun x : PR Nat => bd x fun v3 p => (.inr ((4, (kdN (nmN i321)), n339, n357, v3), p) : PR Cm)) (.inr (n375, q375)) else .inl q375 := hd366.trans (st_if (Z := (fun x : PR Nat => bd x fun v3 p => (.inr ((4, (kdN (nmN i321)), n339, n357, v3), p) : PR Cm))) (fun _ => rfl) ho375)
                  refine hG.if_eq (tgt := 385) dX4_isCommand_378 rfl (fun c_378 => ?_) (fun c_378 => ?_)
                  · refine hG.iconst (v := 0) dX4_isCommand_385 rfl ?_
                    refine hG.zret dX4_isCommand_386 rfl (by first | rfl | exact b2i_nar _) ?_ (by omega) (by omega) trivial
                    first
                    | exact ⟨V309, false, rfl, rfl, rfl, q309, _, _, hl309, hV309, (fun e9 => by cases e9), fun _ => hc309.trans (if_neg (bFT (b2i_0 c_312)))⟩
                    | exact ⟨V321, false, rfl, rfl, rfl, q321, _, _, hl321, hV321, (fun e9 => by cases e9), fun _ => hc321.trans (if_neg (bFT (b2i_0 c_324)))⟩
                    | exact ⟨V330, false, rfl, rfl, rfl, q330, _, _, hl330, hV330, (fun e9 => by cases e9), fun _ => hc330.trans (if_neg (bFT (b2i_0 c_333)))⟩
                    | exact ⟨V339, false, rfl, rfl, rfl, q339, _, _, hl339, hV339, (fun e9 => by cases e9), fun _ => hc339.trans (if_neg (bFT (b2i_0 c_342)))⟩
                    | exact ⟨V348, false, rfl, rfl, rfl, q348, _, _, hl348, hV348, (fun e9 => by cases e9), fun _ => hc348.trans (if_neg (bFT (b2i_0 c_351)))⟩
                    | exact ⟨V357, false, rfl, rfl, rfl, q357, _, _, hl357, hV357, (fun e9 => by cases e9), fun _ => hc357.trans (if_neg (bFT (b2i_0 c_360)))⟩
                    | exact ⟨V366, false, rfl, rfl, rfl, q366, _, _, hl366, hV366, (fun e9 => by cases e9), fun _ => hc366.trans (if_neg (bFT (b2i_0 c_369)))⟩
                    | exact ⟨V375, false, rfl, rfl, rfl, q375, _, _, hl375, hV375, (fun e9 => by cases e9), fun _ => hc375.trans (if_neg (bFT (b2i_0 c_378)))⟩
                    | exact ⟨V375, true, rfl, rfl, rfl, q375, _, _, hl375, hV375, (fun _ => ⟨(4, (kdN (nmN i321)), n339, n357, n375), hd375, ⟨rfl, by rw [kd_nm hi321]; exact ((hgo375 0 (by decide)).trans ((hgo357 0 (by decide)).trans ((hgo339 0 (by decide)).trans hgk321))), ((hgo375 1 (by decide)).trans ((hgo357 1 (by decide)).trans hgk339)), ((hgo375 2 (by decide)).trans hgk357), hgk375⟩⟩), fun e9 => by cases e9⟩
                  · have hd375 := hc375.trans (if_pos (b2i_1 c_378))
                    refine hG.iconst (v := 1) dX4_isCommand_381 rfl ?_
                    refine hG.goto (tgt := 386) dX4_isCommand_382 rfl ?_
                    refine hG.zret dX4_isCommand_386 rfl (by first | rfl | exact b2i_nar _) ?_ (by omega) (by omega) trivial
                    first
                    | exact ⟨V309, false, rfl, rfl, rfl, q309, _, _, hl309, hV309, (fun e9 => by cases e9), fun _ => hc309.trans (if_neg (bFT (b2i_0 c_312)))⟩
                    | exact ⟨V321, false, rfl, rfl, rfl, q321, _, _, hl321, hV321, (fun e9 => by cases e9), fun _ => hc321.trans (if_neg (bFT (b2i_0 c_324)))⟩
                    | exact ⟨V330, false, rfl, rfl, rfl, q330, _, _, hl330, hV330, (fun e9 => by cases e9), fun _ => hc330.trans (if_neg (bFT (b2i_0 c_333)))⟩
                    | exact ⟨V339, false, rfl, rfl, rfl, q339, _, _, hl339, hV339, (fun e9 => by cases e9), fun _ => hc339.trans (if_neg (bFT (b2i_0 c_342)))⟩
                    | exact ⟨V348, false, rfl, rfl, rfl, q348, _, _, hl348, hV348, (fun e9 => by cases e9), fun _ => hc348.trans (if_neg (bFT (b2i_0 c_351)))⟩
                    | exact ⟨V357, false, rfl, rfl, rfl, q357, _, _, hl357, hV357, (fun e9 => by cases e9), fun _ => hc357.trans (if_neg (bFT (b2i_0 c_360)))⟩
                    | exact ⟨V366, false, rfl, rfl, rfl, q366, _, _, hl366, hV366, (fun e9 => by cases e9), fun _ => hc366.trans (if_neg (bFT (b2i_0 c_369)))⟩
                    | exact ⟨V375, false, rfl, rfl, rfl, q375, _, _, hl375, hV375, (fun e9 => by cases e9), fun _ => hc375.trans (if_neg (bFT (b2i_0 c_378)))⟩
                    | exact ⟨V375, true, rfl, rfl, rfl, q375, _, _, hl375, hV375, (fun _ => ⟨(4, (kdN (nmN i321)), n339, n357, n375), hd375, ⟨rfl, by rw [kd_nm hi321]; exact ((hgo375 0 (by decide)).trans ((hgo357 0 (by decide)).trans ((hgo339 0 (by decide)).trans hgk321))), ((hgo375 1 (by decide)).trans ((hgo357 1 (by decide)).trans hgk339)), ((hgo375 2 (by decide)).trans hgk357), hgk375⟩⟩), fun e9 => by cases e9⟩
  have k_anchor : (t[p]? = some 97) → ∀ (V1 : MV) (c9 : Int32) (g9 : Nat → Int32), V1 = VP V0 (nI p) c9 g9 → G 387 [(0, .ref m)] [] I (mdL L m A V1) 0 0 := by
    intro h V1 c9 g9 hV1
    have hw7 := w7_anchor h
    refine hG.aload_n dX4_isCommand_387 rfl ?_
    refine hG.iconst (v := 5) dX4_isCommand_388 rfl ?_
    refine hG.put dX4_isCommand_389 fp_X4_232_X4 mdL_m rfl rfl (Nat.le_of_ble_eq_true rfl) ?_
    refine hG.mp_cm ?_
    obtain ⟨Vc, hVc⟩ : ∃ Vc, Vc = V1.wCm (nI 5) := ⟨_, rfl⟩
    rw [show V1.wCm 5 = V1.wCm (nI 5) from rfl, ← hVc]
    have hVc : Vc = VP V0 (nI p) (nI 5) g9 := by rw [hVc, hV1, vp_wcm]
    refine hG.aload_n dX4_isCommand_392 rfl ?_
    refine hG.ldcTW dX4_isCommand_393 (hT.tx 35 rfl) (fun s393 hs393 => ?_)
    refine hG.callV dX4_isCommand_396 kv_X4_228 (Rcv.raw mdL_m cl_X4) (sp_X4_word (V0 := V0) (p := p) (c0 := nI 5) (g := g9) (t := t) (V := Vc) hΓ hX hA hT0 hp hVc hs393 (by decide) (by decide)) rfl rfl (Nat.le_of_ble_eq_true rfl) (by decide) (by omega) (by omega) (fun r396 I396 L396 hI396 h396 => ?_) (fun _ _ _ _ _ h => h.elim)
    obtain ⟨V396, rfl, rfl, rfl, hV396⟩ := h396
    obtain ⟨⟨b396, q396⟩, e396⟩ : ∃ z, z = wdM t [97, 110, 99, 104, 111, 114, 32] p := ⟨_, rfl⟩
    have hl396 : q396 ≤ t.length := by have := (wm_le [97, 110, 99, 104, 111, 114, 32] p hp).2; rw [← e396] at this; exact this
    rw [← e396] at hV396 ⊢
    have hV396 : V396 = VP V0 (nI q396) (nI 5) g9 := hV396
    have hc396 : cmdF t p = if b396 = true then (fun x : PR Nat => bd x fun v0 p => (bd (bkF t (dgF t) p) fun v1 p => .inr ((5, v0, v1, 0, 0), p) : PR Cm)) ((dgF t) q396) else .inl q396 := by
      have h9 := cm_w (Z := (fun x : PR Nat => bd x fun v0 p => (bd (bkF t (dgF t) p) fun v1 p => .inr ((5, v0, v1, 0, 0), p) : PR Cm))) (X := (dgF t)) (fun _ => rfl) hw7 (fun q => c1_5.trans rfl)
      rw [show [97, 110, 99, 104, 111, 114] ++ [32] = [97, 110, 99, 104, 111, 114, 32] from rfl, ← e396] at h9
      exact h9
    refine hG.if_eq (tgt := 433) dX4_isCommand_399 rfl (fun c_399 => ?_) (fun c_399 => ?_)
    · refine hG.iconst (v := 0) dX4_isCommand_433 rfl ?_
      refine hG.zret dX4_isCommand_434 rfl (by first | rfl | exact b2i_nar _) ?_ (by omega) (by omega) trivial
      first
      | exact ⟨V396, false, rfl, rfl, rfl, q396, _, _, hl396, hV396, (fun e9 => by cases e9), fun _ => hc396.trans (if_neg (bFT (b2i_0 c_399)))⟩
      | exact ⟨V405, false, rfl, rfl, rfl, q405, _, _, hl405, hV405, (fun e9 => by cases e9), fun _ => hc405.trans (if_neg (bFT (b2i_0 c_408)))⟩
      | exact ⟨V414, false, rfl, rfl, rfl, q414, _, _, hl414, hV414, (fun e9 => by cases e9), fun _ => hc414.trans (if_neg (bFT (b2i_0 c_417)))⟩
      | exact ⟨V423, false, rfl, rfl, rfl, q423, _, _, hl423, hV423, (fun e9 => by cases e9), fun _ => hc423.trans (if_neg (bFT (b2i_0 c_426)))⟩
      | exact ⟨V423, true, rfl, rfl, rfl, q423, _, _, hl423, hV423, (fun _ => ⟨(5, n405, n423, 0, 0), hd423, ⟨rfl, ((hgo423 0 (by decide)).trans hgk405), hgk423⟩⟩), fun e9 => by cases e9⟩
    · have hd396 : cmdF t p = (fun x : PR Nat => bd x fun v0 p => (bd (bkF t (dgF t) p) fun v1 p => .inr ((5, v0, v1, 0, 0), p) : PR Cm)) ((dgF t) q396) := hc396.trans (if_pos (b2i_1 c_399))
      refine hG.aload_n dX4_isCommand_402 rfl ?_
      refine hG.iconst (v := 0) dX4_isCommand_403 rfl ?_
      refine hG.iconst (v := 1) dX4_isCommand_404 rfl ?_
      refine hG.callV dX4_isCommand_405 kv_X4_243 (Rcv.raw mdL_m cl_X4) (sp_X4_digits (V0 := V0) (p := q396) (c0 := nI 5) (g := g9) (t := t) (V := V396) hΓ hA hT0 hl396 hV396 (k := 0) (mo := 1) (by decide) (by decide)) rfl rfl (Nat.le_of_ble_eq_true rfl) (by decide) (by omega) (by omega) (fun r405 I405 L405 hI405 h405 => ?_) (fun _ _ _ _ _ h => h.elim)
      obtain ⟨V405, g405, rfl, rfl, rfl, hV405, hgk405, hgo405⟩ := h405
      have ho405 := dg_b (t := t) (p := q396)
      have hl405 := (mo_le (t := t) 1 0 q396 hl396).2
      obtain ⟨⟨n405, q405⟩, e405⟩ : ∃ z, z = moF t 1 0 q396 := ⟨_, rfl⟩
      rw [← e405] at hV405 hgk405 ho405 hl405 ⊢
      have hV405 : V405 = VP V0 (nI q405) (nI 5) g405 := hV405
      have hgk405 : g405 0 = nI n405 := hgk405
      have hc405 : cmdF t p = if decide (q396 < q405) = true then (fun x : PR Nat => bd x fun v0 p => (bd (bkF t (dgF t) p) fun v1 p => .inr ((5, v0, v1, 0, 0), p) : PR Cm)) (.inr (n405, q405)) else .inl q405 := hd396.trans (st_if (Z := (fun x : PR Nat => bd x fun v0 p => (bd (bkF t (dgF t) p) fun v1 p => .inr ((5, v0, v1, 0, 0), p) : PR Cm))) (fun _ => rfl) ho405)
      refine hG.if_eq (tgt := 433) dX4_isCommand_408 rfl (fun c_408 => ?_) (fun c_408 => ?_)
      · refine hG.iconst (v := 0) dX4_isCommand_433 rfl ?_
        refine hG.zret dX4_isCommand_434 rfl (by first | rfl | exact b2i_nar _) ?_ (by omega) (by omega) trivial
        first
        | exact ⟨V396, false, rfl, rfl, rfl, q396, _, _, hl396, hV396, (fun e9 => by cases e9), fun _ => hc396.trans (if_neg (bFT (b2i_0 c_399)))⟩
        | exact ⟨V405, false, rfl, rfl, rfl, q405, _, _, hl405, hV405, (fun e9 => by cases e9), fun _ => hc405.trans (if_neg (bFT (b2i_0 c_408)))⟩
        | exact ⟨V414, false, rfl, rfl, rfl, q414, _, _, hl414, hV414, (fun e9 => by cases e9), fun _ => hc414.trans (if_neg (bFT (b2i_0 c_417)))⟩
        | exact ⟨V423, false, rfl, rfl, rfl, q423, _, _, hl423, hV423, (fun e9 => by cases e9), fun _ => hc423.trans (if_neg (bFT (b2i_0 c_426)))⟩
        | exact ⟨V423, true, rfl, rfl, rfl, q423, _, _, hl423, hV423, (fun _ => ⟨(5, n405, n423, 0, 0), hd423, ⟨rfl, ((hgo423 0 (by decide)).trans hgk405), hgk423⟩⟩), fun e9 => by cases e9⟩
      · have hd405 := hc405.trans (if_pos (b2i_1 c_408))
        refine hG.aload_n dX4_isCommand_411 rfl ?_
        refine hG.ldcT dX4_isCommand_412 (hT.tx 29 rfl) (fun s412 hs412 => ?_)
        refine hG.callV dX4_isCommand_414 kv_X4_228 (Rcv.raw mdL_m cl_X4) (sp_X4_word (V0 := V0) (p := q405) (c0 := nI 5) (g := g405) (t := t) (V := V405) hΓ hX hA hT0 hl405 hV405 hs412 (by decide) (by decide)) rfl rfl (Nat.le_of_ble_eq_true rfl) (by decide) (by omega) (by omega) (fun r414 I414 L414 hI414 h414 => ?_) (fun _ _ _ _ _ h => h.elim)
        obtain ⟨V414, rfl, rfl, rfl, hV414⟩ := h414
        obtain ⟨⟨b414, q414⟩, e414⟩ : ∃ z, z = wdM t [32] q405 := ⟨_, rfl⟩
        have hl414 : q414 ≤ t.length := by have := (wm_le [32] q405 hl405).2; rw [← e414] at this; exact this
        rw [← e414] at hV414 ⊢
        have hV414 : V414 = VP V0 (nI q414) (nI 5) g405 := hV414
        have hc414 : cmdF t p = if b414 = true then (fun x : PR Nat => bd x fun v1 p => (.inr ((5, n405, v1, 0, 0), p) : PR Cm)) ((dgF t) q414) else .inl q414 := by
          refine hd405.trans (st_if (Z := (fun x : PR Nat => bd x fun v1 p => (.inr ((5, n405, v1, 0, 0), p) : PR Cm))) (fun _ => rfl) (x := bkF t (dgF t) q405) ?_)
          have h9 := bk_wm (t := t) (X := dgF t) (q := q405)
          rw [← e414] at h9
          exact h9
        refine hG.if_eq (tgt := 433) dX4_isCommand_417 rfl (fun c_417 => ?_) (fun c_417 => ?_)
        · refine hG.iconst (v := 0) dX4_isCommand_433 rfl ?_
          refine hG.zret dX4_isCommand_434 rfl (by first | rfl | exact b2i_nar _) ?_ (by omega) (by omega) trivial
          first
          | exact ⟨V396, false, rfl, rfl, rfl, q396, _, _, hl396, hV396, (fun e9 => by cases e9), fun _ => hc396.trans (if_neg (bFT (b2i_0 c_399)))⟩
          | exact ⟨V405, false, rfl, rfl, rfl, q405, _, _, hl405, hV405, (fun e9 => by cases e9), fun _ => hc405.trans (if_neg (bFT (b2i_0 c_408)))⟩
          | exact ⟨V414, false, rfl, rfl, rfl, q414, _, _, hl414, hV414, (fun e9 => by cases e9), fun _ => hc414.trans (if_neg (bFT (b2i_0 c_417)))⟩
          | exact ⟨V423, false, rfl, rfl, rfl, q423, _, _, hl423, hV423, (fun e9 => by cases e9), fun _ => hc423.trans (if_neg (bFT (b2i_0 c_426)))⟩
          | exact ⟨V423, true, rfl, rfl, rfl, q423, _, _, hl423, hV423, (fun _ => ⟨(5, n405, n423, 0, 0), hd423, ⟨rfl, ((hgo423 0 (by decide)).trans hgk405), hgk423⟩⟩), fun e9 => by cases e9⟩
        · have hd414 : cmdF t p = (fun x : PR Nat => bd x fun v1 p => (.inr ((5, n405, v1, 0, 0), p) : PR Cm)) ((dgF t) q414) := hc414.trans (if_pos (b2i_1 c_417))
          refine hG.aload_n dX4_isCommand_420 rfl ?_
          refine hG.iconst (v := 1) dX4_isCommand_421 rfl ?_
          refine hG.iconst (v := 1) dX4_isCommand_422 rfl ?_
          refine hG.callV dX4_isCommand_423 kv_X4_243 (Rcv.raw mdL_m cl_X4) (sp_X4_digits (V0 := V0) (p := q414) (c0 := nI 5) (g := g405) (t := t) (V := V414) hΓ hA hT0 hl414 hV414 (k := 1) (mo := 1) (by decide) (by decide)) rfl rfl (Nat.le_of_ble_eq_true rfl) (by decide) (by omega) (by omega) (fun r423 I423 L423 hI423 h423 => ?_) (fun _ _ _ _ _ h => h.elim)
          obtain ⟨V423, g423, rfl, rfl, rfl, hV423, hgk423, hgo423⟩ := h423
          have ho423 := dg_b (t := t) (p := q414)
          have hl423 := (mo_le (t := t) 1 0 q414 hl414).2
          obtain ⟨⟨n423, q423⟩, e423⟩ : ∃ z, z = moF t 1 0 q414 := ⟨_, rfl⟩
          rw [← e423] at hV423 hgk423 ho423 hl423 ⊢
          have hV423 : V423 = VP V0 (nI q423) (nI 5) g423 := hV423
          have hgk423 : g423 1 = nI n423 := hgk423
          have hc423 : cmdF t p = if decide (q414 < q423) = true then (fun x : PR Nat => bd x fun v1 p => (.inr ((5, n405, v1, 0, 0), p) : PR Cm)) (.inr (n423, q423)) else .inl q423 := hd414.trans (st_if (Z := (fun x : PR Nat => bd x fun v1 p => (.inr ((5, n405, v1, 0, 0), p) : PR Cm))) (fun _ => rfl) ho423)
          refine hG.if_eq (tgt := 433) dX4_isCommand_426 rfl (fun c_426 => ?_) (fun c_426 => ?_)
          · refine hG.iconst (v := 0) dX4_isCommand_433 rfl ?_
            refine hG.zret dX4_isCommand_434 rfl (by first | rfl | exact b2i_nar _) ?_ (by omega) (by omega) trivial
            first
            | exact ⟨V396, false, rfl, rfl, rfl, q396, _, _, hl396, hV396, (fun e9 => by cases e9), fun _ => hc396.trans (if_neg (bFT (b2i_0 c_399)))⟩
            | exact ⟨V405, false, rfl, rfl, rfl, q405, _, _, hl405, hV405, (fun e9 => by cases e9), fun _ => hc405.trans (if_neg (bFT (b2i_0 c_408)))⟩
            | exact ⟨V414, false, rfl, rfl, rfl, q414, _, _, hl414, hV414, (fun e9 => by cases e9), fun _ => hc414.trans (if_neg (bFT (b2i_0 c_417)))⟩
            | exact ⟨V423, false, rfl, rfl, rfl, q423, _, _, hl423, hV423, (fun e9 => by cases e9), fun _ => hc423.trans (if_neg (bFT (b2i_0 c_426)))⟩
            | exact ⟨V423, true, rfl, rfl, rfl, q423, _, _, hl423, hV423, (fun _ => ⟨(5, n405, n423, 0, 0), hd423, ⟨rfl, ((hgo423 0 (by decide)).trans hgk405), hgk423⟩⟩), fun e9 => by cases e9⟩
          · have hd423 := hc423.trans (if_pos (b2i_1 c_426))
            refine hG.iconst (v := 1) dX4_isCommand_429 rfl ?_
            refine hG.goto (tgt := 434) dX4_isCommand_430 rfl ?_
            refine hG.zret dX4_isCommand_434 rfl (by first | rfl | exact b2i_nar _) ?_ (by omega) (by omega) trivial
            first
            | exact ⟨V396, false, rfl, rfl, rfl, q396, _, _, hl396, hV396, (fun e9 => by cases e9), fun _ => hc396.trans (if_neg (bFT (b2i_0 c_399)))⟩
            | exact ⟨V405, false, rfl, rfl, rfl, q405, _, _, hl405, hV405, (fun e9 => by cases e9), fun _ => hc405.trans (if_neg (bFT (b2i_0 c_408)))⟩
            | exact ⟨V414, false, rfl, rfl, rfl, q414, _, _, hl414, hV414, (fun e9 => by cases e9), fun _ => hc414.trans (if_neg (bFT (b2i_0 c_417)))⟩
            | exact ⟨V423, false, rfl, rfl, rfl, q423, _, _, hl423, hV423, (fun e9 => by cases e9), fun _ => hc423.trans (if_neg (bFT (b2i_0 c_426)))⟩
            | exact ⟨V423, true, rfl, rfl, rfl, q423, _, _, hl423, hV423, (fun _ => ⟨(5, n405, n423, 0, 0), hd423, ⟨rfl, ((hgo423 0 (by decide)).trans hgk405), hgk423⟩⟩), fun e9 => by cases e9⟩
  have k_land : t[p]? = some 108 → ∀ (V1 : MV) (c9 : Int32) (g9 : Nat → Int32), V1 = VP V0 (nI p) c9 g9 → G 289 [(0, .ref m)] [] I (mdL L m A V1) 0 0 := by
    intro h V1 c9 g9 hV1
    refine hG.aload_n dX4_isCommand_289 rfl ?_
    refine hG.iconst (v := 2) dX4_isCommand_290 rfl ?_
    refine hG.put dX4_isCommand_291 fp_X4_232_X4 mdL_m rfl rfl (Nat.le_of_ble_eq_true rfl) ?_
    refine hG.mp_cm ?_
    obtain ⟨Vc, hVc⟩ : ∃ Vc, Vc = V1.wCm (nI 2) := ⟨_, rfl⟩
    rw [show V1.wCm 2 = V1.wCm (nI 2) from rfl, ← hVc]
    have hVc : Vc = VP V0 (nI p) (nI 2) g9 := by rw [hVc, hV1, vp_wcm]
    refine hG.aload_n dX4_isCommand_294 rfl ?_
    refine hG.ldcT dX4_isCommand_295 (hT.tx 33 rfl) (fun s295 hs295 => ?_)
    refine hG.callV dX4_isCommand_297 kv_X4_228 (Rcv.raw mdL_m cl_X4) (sp_X4_word (V0 := V0) (p := p) (c0 := nI 2) (g := g9) (t := t) (V := Vc) hΓ hX hA hT0 hp hVc hs295 (by decide) (by decide)) rfl rfl (Nat.le_of_ble_eq_true rfl) (by decide) (by omega) (by omega) (fun r297 I297 L297 hI297 h297 => ?_) (fun _ _ _ _ _ h => h.elim)
    obtain ⟨V2, rfl, rfl, rfl, hV2⟩ := h297
    have hc := cm_l h
    have hl := (wm_le [108, 97, 110, 100] p hp).2
    obtain ⟨⟨b2, q2⟩, e2⟩ : ∃ z, z = wdM t [108, 97, 110, 100] p := ⟨_, rfl⟩
    rw [← e2] at hV2 hc hl ⊢
    refine hG.zret dX4_isCommand_300 rfl (by first | rfl | exact b2i_nar _) ?_ (by omega) (by omega) trivial
    cases b2 with
    | true => exact ⟨V2, true, rfl, rfl, rfl, q2, _, _, hl, hV2, (fun _ => ⟨(2, 0, 0, 0, 0), hc, rfl, trivial⟩), fun e9 => by cases e9⟩
    | false => exact ⟨V2, false, rfl, rfl, rfl, q2, _, _, hl, hV2, (fun e9 => by cases e9), fun _ => hc⟩
  have hps : V.ps = nI p := by rw [hV, vp_ps]
  have hle : V.le = nI t.length := by rw [hV, vp_le]; exact hT0.1
  have h60 := hT0.2.2.1
  by_cases hpl : p = t.length
  · skip
    refine hG.aload_n dX4_isCommand_0 rfl ?_
    refine hG.get dX4_isCommand_1 fg_X4_225_X4 (Or.inl mdL_m) rfl ?_
    rw [hps]
    refine hG.aload_n dX4_isCommand_4 rfl ?_
    refine hG.get dX4_isCommand_5 fg_X4_223_X4 (Or.inl mdL_m) rfl ?_
    rw [hle]
    refine hG.icmp_ne (tgt := 13) dX4_isCommand_8 rfl (fun c_8 => absurd (congrArg nI hpl) c_8) (fun c_8 => ?_)
    refine hG.iconst (v := 0) dX4_isCommand_11 rfl ?_
    refine hG.zret dX4_isCommand_12 rfl (by first | rfl | exact b2i_nar _) ?_ (by omega) (by omega) trivial
    exact ⟨V, false, rfl, rfl, rfl, p, _, _, hp, hV, (fun e9 => by cases e9), fun _ => bd_f (wf_end (by decide) (by omega))⟩
  · obtain ⟨d9, hd9, hdm⟩ := get_lt (show p < t.length by omega)
    have hdc := hT0.2.2.2 d9 hdm
    have htx9 : V.tx p = nI d9 := by rw [hV, vp_tx]; exact hT0.2.1 p d9 hd9
    have k51 : ∀ s : Int32, (s = 111 ↔ t[p + 1]? = some 111) → (s = 101 ↔ t[p + 1]? = some 101) → G 51 [(0, .ref m), (1, .int s)] [.int (nI d9)] I (mdL L m A V) 0 0 := by
      intro s hs1 hs2
      by_cases e99 : d9 = 99
      · subst e99
        refine hG.lookup (off := 49) (tgt := 100) dX4_isCommand_51 (by decide +kernel) (by decide +kernel) rfl ?_
        refine hG.iload_n dX4_isCommand_100 rfl ?_
        refine hG.bipush (v := 111) dX4_isCommand_101 rfl ?_
        refine hG.icmp_ne (tgt := 192) dX4_isCommand_103 rfl (fun c_103 => ?_) (fun c_103 => ?_)
        · exact hG.lsb [(0, .ref m)] ⟨rfl, trivial⟩ (k_cross ⟨hd9, fun e9 => c_103 (hs1.mpr e9)⟩ V c0 g hV)
        · exact hG.lsb [(0, .ref m)] ⟨rfl, trivial⟩ (k_come ⟨hd9, hs1.mp c_103⟩ V c0 g hV)
      by_cases e119 : d9 = 119
      · subst e119
        refine hG.lookup (off := 173) (tgt := 224) dX4_isCommand_51 (by decide +kernel) (by decide +kernel) rfl ?_
        refine hG.iload_n dX4_isCommand_224 rfl ?_
        refine hG.bipush (v := 101) dX4_isCommand_225 rfl ?_
        refine hG.icmp_ne (tgt := 260) dX4_isCommand_227 rfl (fun c_227 => ?_) (fun c_227 => ?_)
        · exact hG.lsb [(0, .ref m)] ⟨rfl, trivial⟩ (k_wait ⟨hd9, fun e9 => c_227 (hs2.mpr e9)⟩ V c0 g hV)
        · exact hG.lsb [(0, .ref m)] ⟨rfl, trivial⟩ (k_weigh ⟨hd9, hs2.mp c_227⟩ V c0 g hV)
      by_cases e108 : d9 = 108
      · subst e108
        refine hG.lookup (off := 238) (tgt := 289) dX4_isCommand_51 (by decide +kernel) (by decide +kernel) rfl ?_
        exact hG.lsb [(0, .ref m)] ⟨rfl, trivial⟩ (k_land hd9 V c0 g hV)
      by_cases e98 : d9 = 98
      · subst e98
        refine hG.lookup (off := 250) (tgt := 301) dX4_isCommand_51 (by decide +kernel) (by decide +kernel) rfl ?_
        exact hG.lsb [(0, .ref m)] ⟨rfl, trivial⟩ (k_board hd9 V c0 g hV)
      by_cases e97 : d9 = 97
      · subst e97
        refine hG.lookup (off := 336) (tgt := 387) dX4_isCommand_51 (by decide +kernel) (by decide +kernel) rfl ?_
        exact hG.lsb [(0, .ref m)] ⟨rfl, trivial⟩ (k_anchor hd9 V c0 g hV)
      have hlk : Op.lookupswitch.offset [(97, 336), (98, 250), (99, 49), (108, 238), (119, 173)] 384 (nI d9).toInt = 384 := by
        rw [nI_toInt (by omega)]
        have q1 : ¬ (97 : Int) = d9 := by omega
        have q2 : ¬ (98 : Int) = d9 := by omega
        have q3 : ¬ (99 : Int) = d9 := by omega
        have q4 : ¬ (108 : Int) = d9 := by omega
        have q5 : ¬ (119 : Int) = d9 := by omega
        simp [Op.lookupswitch.offset, q1, q2, q3, q4, q5]
      refine hG.lookup (off := 384) (tgt := 435) dX4_isCommand_51 (by decide +kernel) hlk rfl ?_
      refine hG.iconst (v := 0) dX4_isCommand_435 rfl ?_
      refine hG.zret dX4_isCommand_436 rfl (by first | rfl | exact b2i_nar _) ?_ (by omega) (by omega) trivial
      exact ⟨V, false, rfl, rfl, rfl, p, _, _, hp, hV, (fun e9 => by cases e9), fun _ => bd_f (w7_none hd9 (by omega))⟩
    by_cases hp1 : p + 1 < t.length
    · obtain ⟨d2, hd2, hdm2⟩ := get_lt hp1
      have hdc2 := hT0.2.2.2 d2 hdm2
      have htx2 : V.tx (p + 1) = nI d2 := by rw [hV, vp_tx]; exact hT0.2.1 (p + 1) d2 hd2
      refine hG.aload_n dX4_isCommand_0 rfl ?_
      refine hG.get dX4_isCommand_1 fg_X4_225_X4 (Or.inl mdL_m) rfl ?_
      rw [hps]
      refine hG.aload_n dX4_isCommand_4 rfl ?_
      refine hG.get dX4_isCommand_5 fg_X4_223_X4 (Or.inl mdL_m) rfl ?_
      rw [hle]
      refine hG.icmp_ne (tgt := 13) dX4_isCommand_8 rfl (fun c_8 => ?_) (fun c_8 => absurd c_8 (fun e9 => hpl ((nI_eq (by omega) (by omega)).mp e9)))
      refine hG.aload_n dX4_isCommand_13 rfl ?_
      refine hG.get dX4_isCommand_14 fg_X4_225_X4 (Or.inl mdL_m) rfl ?_
      rw [hps]
      refine hG.iconst (v := 1) dX4_isCommand_17 rfl ?_
      refine hG.iadd dX4_isCommand_18 ?_
      rw [nI_1]
      refine hG.aload_n dX4_isCommand_19 rfl ?_
      refine hG.get dX4_isCommand_20 fg_X4_223_X4 (Or.inl mdL_m) rfl ?_
      rw [hle]
      refine hG.icmp_ge (tgt := 40) dX4_isCommand_23 rfl (fun c_23 => absurd c_23 (nI_ge (by omega) (by omega))) (fun c_23 => ?_)
      refine hG.aload_n dX4_isCommand_26 rfl ?_
      refine hG.get dX4_isCommand_27 fg_X4_48_X4 (Or.inl mdL_m) rfl ?_
      refine hG.aload_n dX4_isCommand_30 rfl ?_
      refine hG.get dX4_isCommand_31 fg_X4_225_X4 (Or.inl mdL_m) rfl ?_
      rw [hps]
      refine hG.iconst (v := 1) dX4_isCommand_34 rfl ?_
      refine hG.iadd dX4_isCommand_35 ?_
      rw [nI_1]
      refine hG.ld_tx hA (p + 1) dX4_isCommand_36 rfl (by omega) (v := nI d2) htx2 ?_
      refine hG.goto (tgt := 41) dX4_isCommand_37 rfl ?_
      refine hG.istore_n dX4_isCommand_41 (by decide) ?_
      refine hG.aload_n dX4_isCommand_42 rfl ?_
      refine hG.get dX4_isCommand_43 fg_X4_48_X4 (Or.inl mdL_m) rfl ?_
      refine hG.aload_n dX4_isCommand_46 rfl ?_
      refine hG.get dX4_isCommand_47 fg_X4_225_X4 (Or.inl mdL_m) rfl ?_
      rw [hps]
      refine hG.ld_tx hA p dX4_isCommand_50 rfl (by omega) (v := nI d9) htx9 ?_
      exact hG.lsb [(0, .ref m), (1, .int (nI d2))] ⟨rfl, rfl, trivial⟩ (k51 (nI d2) ⟨fun e9 => by rw [hd2, (nI_eq (b := 111) (by omega) (by decide)).mp e9], fun e9 => by rw [hd2] at e9; cases e9; rfl⟩ ⟨fun e9 => by rw [hd2, (nI_eq (b := 101) (by omega) (by decide)).mp e9], fun e9 => by rw [hd2] at e9; cases e9; rfl⟩)
    · skip
      refine hG.aload_n dX4_isCommand_0 rfl ?_
      refine hG.get dX4_isCommand_1 fg_X4_225_X4 (Or.inl mdL_m) rfl ?_
      rw [hps]
      refine hG.aload_n dX4_isCommand_4 rfl ?_
      refine hG.get dX4_isCommand_5 fg_X4_223_X4 (Or.inl mdL_m) rfl ?_
      rw [hle]
      refine hG.icmp_ne (tgt := 13) dX4_isCommand_8 rfl (fun c_8 => ?_) (fun c_8 => absurd c_8 (fun e9 => hpl ((nI_eq (by omega) (by omega)).mp e9)))
      refine hG.aload_n dX4_isCommand_13 rfl ?_
      refine hG.get dX4_isCommand_14 fg_X4_225_X4 (Or.inl mdL_m) rfl ?_
      rw [hps]
      refine hG.iconst (v := 1) dX4_isCommand_17 rfl ?_
      refine hG.iadd dX4_isCommand_18 ?_
      rw [nI_1]
      refine hG.aload_n dX4_isCommand_19 rfl ?_
      refine hG.get dX4_isCommand_20 fg_X4_223_X4 (Or.inl mdL_m) rfl ?_
      rw [hle]
      refine hG.icmp_ge (tgt := 40) dX4_isCommand_23 rfl (fun c_23 => ?_) (fun c_23 => absurd (nI_le (by omega) (by omega)) c_23)
      refine hG.iconst (v := 0) dX4_isCommand_40 rfl ?_
      refine hG.istore_n dX4_isCommand_41 (by decide) ?_
      refine hG.aload_n dX4_isCommand_42 rfl ?_
      refine hG.get dX4_isCommand_43 fg_X4_48_X4 (Or.inl mdL_m) rfl ?_
      refine hG.aload_n dX4_isCommand_46 rfl ?_
      refine hG.get dX4_isCommand_47 fg_X4_225_X4 (Or.inl mdL_m) rfl ?_
      rw [hps]
      refine hG.ld_tx hA p dX4_isCommand_50 rfl (by omega) (v := nI d9) htx9 ?_
      exact hG.lsb [(0, .ref m), (1, .int 0)] ⟨rfl, rfl, trivial⟩ (k51 0 ⟨fun e9 => absurd e9 (by decide), fun e9 => absurd (List.getElem?_eq_some_iff.mp e9).1 (by omega)⟩ ⟨fun e9 => absurd e9 (by decide), fun e9 => absurd (List.getElem?_eq_some_iff.mp e9).1 (by omega)⟩)
