/-! the model reads a text -/
theorem wm_1 {t : List Nat} {e p : Nat} : (wdM t [e] p = (true, p + 1) ∧ t[p]? = some e) ∨ (wdM t [e] p = (false, p) ∧ ¬ t[p]? = some e) := by
  cases hq : t[p]? with
  | none => exact Or.inr ⟨wm_e (List.getElem?_eq_none_iff.mp hq), fun e => nomatch e⟩
  | some d =>
    by_cases h : d = e
    · subst h; exact Or.inl ⟨wm_s hq, rfl⟩
    · exact Or.inr ⟨wm_n hq h, fun q => h (Option.some.inj q)⟩
theorem vp_start {V : MV} {p : Int32} : V.wPs p = VP V p V.cm V.to := rfl
theorem TxM.tk {V : MV} {t : List Nat} (h : TxM V t) : t.length ≤ 60 := h.2.2.1
def pRd (N : Nat) (I : AI) (L : AL) (m : Nat) (A : MA) (F : Fy) (t : List Nat) : Option Value → AI → AL → Prop := fun q I2 L2 => I = I2 ∧ ∃ (V : MV) (w : Int32), L2 = mdL L m A V ∧ q = some (.int w) ∧ Mr (N + t.length) (chF (rdI F t) (rdO F.rv t)) V ∧ match rdO F.rv t with
  | .inl (v, _) => w = v ∧ V.th = 0
  | .inr (.inl _) => V.th = 1
  | .inr (.inr _) => V.th = 2
/-- test: the first loop -/
theorem fp_X4_54_X4 {nm : String} : LkP RX4 nm 54 ciX4 16 (tyX4 16) := ⟨RX4, TX4, 21, tyX4, _, cls_X4, by decide, rfl, Or.inl rfl, Or.inl ⟨rfl, q3286⟩⟩
theorem kv_X4_259 : LkV RX4 259 yX4_isCommand 0 := ⟨q3600, q3602, qs66, q87, by decide +kernel, by decide +kernel, by decide +kernel⟩
set_option maxHeartbeats 4000000 in
set_option maxRecDepth 100000 in
theorem sp_X4_read {l : Launch} {s0 : State} {D : va_G} {I : AI} {L : AL} {m : Nat} {A : MA} {V : MV} {N : Nat} {F : Fy} {o : Option Nat} {tt : List Nat} (hΓ : Gam l s0 D) (hA : MOk m A) (hM : Mr N F V) (hW : WfF N F) (hT9 : StX s0 D o) (hNm : NmA I A) (hip : F.ip = tt.map nI) (h24 : tt.length ≤ 24) (hcc : ∀ c ∈ tt, c < 65536) (hN : N + tt.length ≤ 200) : Spc l s0 D yX4_read 9 [.ref m] I (mdL L m A V) 0 0 (pRd N I L m A F tt) noX := by
  refine Spc.of hΓ cX4_read 5 (some FieldType.int) q3599 (by decide +kernel) (by decide) (Nat.le_of_ble_eq_true rfl) (fun G GX hG => ?_)
  have hX := hT9.v
  refine hG.aload_n dX4_read_0 rfl ?_
  refine hG.callV dX4_read_1 kv_X4_84 (Rcv.raw mdL_m cl_X4) (sp_X4_tries hΓ hA) rfl rfl (Nat.le_of_ble_eq_true rfl) (by decide) (by omega) (by omega) (fun r1 I1 L1 hI1 h1 => ?_) (fun _ _ _ _ _ h => h.elim)
  obtain ⟨rfl, rfl, t, ht, rfl⟩ := h1
  have hT : Rep N F.rv t := hM.1.cg hW.1 ht
  have hM1 : Mr N F ((V.wTh 0).wTr t) := hM.eqv ⟨rfl, rfl, rfl, rfl, rfl⟩ (mv_nw_wTr.trans mv_nw_wTh) (mv_kp_wTr.trans mv_kp_wTh) (mv_un_wTr.trans mv_un_wTh) (mv_le_wTr.trans mv_le_wTh) (mv_tx_wTr.trans mv_tx_wTh) (mv_ld_wTr.trans mv_ld_wTh) (mv_ln_wTr.trans mv_ln_wTh) (mv_fa_wTr.trans (mv_fa_wTh.trans hM.efa)) (mv_re_wTr.trans (mv_re_wTh.trans hM.ere)) (mv_de_wTr.trans (mv_de_wTh.trans hM.ede)) (mv_is_wTr.trans mv_is_wTh) (mv_sv_wTr.trans mv_sv_wTh)
  have hth : ((V.wTh 0).wTr t).th = 0 := mv_th_wTr.trans mv_th_wTh
  have htr : ((V.wTh 0).wTr t).tr = t := mv_tr_wTr
  generalize (V.wTh 0).wTr t = V1 at hM1 hth htr ⊢
  refine hG.aload_n dX4_read_4 rfl ?_
  refine hG.iconst (v := 0) dX4_read_5 rfl ?_
  refine hG.put dX4_read_6 fp_X4_225_X4 mdL_m rfl rfl (Nat.le_of_ble_eq_true rfl) ?_
  refine hG.mp_ps ?_
  obtain ⟨Va, hVa⟩ : ∃ Va, Va = V1.wPs 0 := ⟨_, rfl⟩
  rw [← hVa]
  have hVa : Va = VP V1 (nI 0) V1.cm V1.to := hVa
  have hT0 : TxM V1 tt := hM1.txm hip (by omega) hcc
  have hFa : ∀ (q : Nat) (c : Int32) (g : Nat → Int32), Mr (N + tt.length) ((F.wIp []).wFa (nI q)) ((((VP V1 (nI q) c g).wLe 0).wFa (nI q)).wTh 1) := by
    intro q c g
    have h2 := hM1.mono (Nat.le_add_right N tt.length)
    unfold Mr at h2 ⊢
    obtain ⟨h1, h2, h3, h4, h5, h6, h7, h8, h9, h10, h11⟩ := h2
    exact ⟨h1, h2, h3, rfl, (fun i c9 hi => nomatch hi), h6, h7, rfl, h9, h10, h11⟩
  have kF : ∀ (q : Nat) (c : Int32) (g : Nat → Int32) (V2 : MV), q ≤ tt.length → V2 = VP V1 (nI q) c g → txF tt = .inl q → G 55 [(0, .ref m), (1, .int 0)] [] I (mdL L m A V2) 0 0 := by
    intro q c g V2 hq hV2 htx
    refine hG.iload_n dX4_read_55 rfl ?_
    refine hG.if_ne (tgt := 78) dX4_read_56 rfl (fun c_56 => absurd rfl c_56) (fun c_56 => ?_)
    refine hG.aload_n dX4_read_59 rfl ?_
    refine hG.iconst (v := 0) dX4_read_60 rfl ?_
    refine hG.put dX4_read_61 fp_X4_223_X4 mdL_m rfl rfl (Nat.le_of_ble_eq_true rfl) ?_
    refine hG.mp_le ?_
    obtain ⟨V3, hV3⟩ : ∃ V3, V3 = V2.wLe 0 := ⟨_, rfl⟩
    rw [← hV3]
    have hps3 : V3.ps = nI q := by rw [hV3, mv_ps_wLe, hV2, vp_ps]
    refine hG.aload_n dX4_read_64 rfl ?_
    refine hG.aload_n dX4_read_65 rfl ?_
    refine hG.get dX4_read_66 fg_X4_225_X4 (Or.inl mdL_m) rfl ?_
    rw [hps3]
    refine hG.put dX4_read_69 fp_X4_54_X4 mdL_m rfl rfl (Nat.le_of_ble_eq_true rfl) ?_
    refine hG.mp_fa ?_
    obtain ⟨V4, hV4⟩ : ∃ V4, V4 = V3.wFa (nI q) := ⟨_, rfl⟩
    rw [← hV4]
    refine hG.aload_n dX4_read_72 rfl ?_
    refine hG.iconst (v := 1) dX4_read_73 rfl ?_
    refine hG.callV dX4_read_74 kv_X4_77 (Rcv.raw mdL_m cl_X4) (sp_X4_raises hΓ) rfl rfl (Nat.le_of_ble_eq_true rfl) (by decide) (by omega) (by omega) (fun r74 I74 L74 hI74 h74 => ?_) (fun _ _ _ _ _ h => h.elim)
    obtain ⟨rfl, rfl, rfl⟩ := h74
    refine hG.iret dX4_read_77 rfl ?_ (by omega) (by omega) trivial
    refine ⟨rfl, _, _, rfl, rfl, ?_, by rw [rdO_f htx]; exact mv_th_wTh⟩
    rw [rdO_f htx, rdI_f htx]
    subst hV4
    subst hV3
    subst hV2
    exact hFa q c g
  have kT : ∀ (cs : List Cm) (q : Nat) (c : Int32) (g : Nat → Int32) (V2 : MV), q ≤ tt.length → V2 = VP V1 (nI q) c g → txF tt = .inr cs → PrL tt 0 cs → cs.length ≤ 5 → G 55 [(0, .ref m), (1, .int 1)] [] I (mdL L m A V2) 0 0 := by
    intro cs q c g V2 hq hV2 htx hpl h5
    exact hKT cs q c g V2 hq hV2 htx hpl h5
  have k14 : ∀ (q : Nat) (c : Int32) (g : Nat → Int32) (V2 : MV), q ≤ tt.length → V2 = VP V1 (nI q) c g → txF tt = .inl q → G 14 [(0, .ref m), (1, .int 0)] [] I (mdL L m A V2) 0 0 := by
    intro q c g V2 hq hV2 htx
    refine hG.iload_n dX4_read_14 rfl ?_
    refine hG.if_eq (tgt := 55) dX4_read_15 rfl (fun c_15 => ?_) (fun c_15 => absurd rfl c_15)
    exact hG.lsb [(0, .ref m), (1, .int 0)] ⟨rfl, rfl, trivial⟩ (kF q c g V2 hq hV2 htx)
  have loop1 : ∀ (u j : Nat) (cs : List Cm) (q : Nat) (c : Int32) (g : Nat → Int32) (V2 : MV), tt.length ≤ q + u → q ≤ tt.length → V2 = VP V1 (nI q) c g → j + cs.length = 31 → 5 * cs.length ≤ q + 1 → txF tt = mrF tt j cs q → (∀ rest, PrR tt q rest → PrL tt 0 (cs ++ rest)) → G 14 [(0, .ref m), (1, .int 1)] [] I (mdL L m A V2) 0 0 := by
    intro u
    induction u with
    | zero =>
      intro j cs q c g V2 hu hq hV2 hj h5 htx hpr
      have hps : V2.ps = nI q := by rw [hV2, vp_ps]
      have hle : V2.le = nI tt.length := by rw [hV2, vp_le]; exact hT0.1
      refine hG.iload_n dX4_read_14 rfl ?_
      refine hG.if_eq (tgt := 55) dX4_read_15 rfl (fun c_15 => absurd c_15 (by decide)) (fun c_15 => ?_)
      refine hG.aload_n dX4_read_18 rfl ?_
      refine hG.get dX4_read_19 fg_X4_225_X4 (Or.inl mdL_m) rfl ?_
      rw [hps]
      refine hG.aload_n dX4_read_22 rfl ?_
      refine hG.get dX4_read_23 fg_X4_223_X4 (Or.inl mdL_m) rfl ?_
      rw [hle]
      refine hG.icmp_ge (tgt := 55) dX4_read_26 rfl (fun c_26 => ?_) (fun c_26 => absurd (nI_le (by omega) (by omega)) c_26)
      exact hG.lsb [(0, .ref m), (1, .int 1)] ⟨rfl, rfl, trivial⟩ (kT cs q c g V2 hq hV2 (htx.trans (by obtain ⟨j9, rfl⟩ : ∃ j9, j = j9 + 1 := ⟨j - 1, by omega⟩; exact mr_e (by omega))) (by have := hpr [] (Or.inl ⟨by omega, rfl⟩); rw [List.append_nil] at this; exact this) (by omega))
    | succ u ih =>
      intro j cs q c g V2 hu hq hV2 hj h5 htx hpr
      have hps : V2.ps = nI q := by rw [hV2, vp_ps]
      have hle : V2.le = nI tt.length := by rw [hV2, vp_le]; exact hT0.1
      by_cases hqe : q = tt.length
      · skip
        refine hG.iload_n dX4_read_14 rfl ?_
        refine hG.if_eq (tgt := 55) dX4_read_15 rfl (fun c_15 => absurd c_15 (by decide)) (fun c_15 => ?_)
        refine hG.aload_n dX4_read_18 rfl ?_
        refine hG.get dX4_read_19 fg_X4_225_X4 (Or.inl mdL_m) rfl ?_
        rw [hps]
        refine hG.aload_n dX4_read_22 rfl ?_
        refine hG.get dX4_read_23 fg_X4_223_X4 (Or.inl mdL_m) rfl ?_
        rw [hle]
        refine hG.icmp_ge (tgt := 55) dX4_read_26 rfl (fun c_26 => ?_) (fun c_26 => absurd (nI_le (by omega) (by omega)) c_26)
        exact hG.lsb [(0, .ref m), (1, .int 1)] ⟨rfl, rfl, trivial⟩ (kT cs q c g V2 hq hV2 (htx.trans (by obtain ⟨j9, rfl⟩ : ∃ j9, j = j9 + 1 := ⟨j - 1, by omega⟩; exact mr_e (by omega))) (by have := hpr [] (Or.inl ⟨by omega, rfl⟩); rw [List.append_nil] at this; exact this) (by omega))
      · have hql : q < tt.length := by omega
        rcases wm_1 (t := tt) (e := 59) (p := q) with ⟨hwm, hsc⟩ | ⟨hwm, hsc⟩
        · have htk : tkF tt 59 59 q = .inr (59, q + 1) := tk_s hsc (by decide)
          refine hG.iload_n dX4_read_14 rfl ?_
          refine hG.if_eq (tgt := 55) dX4_read_15 rfl (fun c_15 => absurd c_15 (by decide)) (fun c_15 => ?_)
          refine hG.aload_n dX4_read_18 rfl ?_
          refine hG.get dX4_read_19 fg_X4_225_X4 (Or.inl mdL_m) rfl ?_
          rw [hps]
          refine hG.aload_n dX4_read_22 rfl ?_
          refine hG.get dX4_read_23 fg_X4_223_X4 (Or.inl mdL_m) rfl ?_
          rw [hle]
          refine hG.icmp_ge (tgt := 55) dX4_read_26 rfl (fun c_26 => absurd c_26 (nI_ge (by omega) (by omega))) (fun c_26 => ?_)
          refine hG.aload_n dX4_read_29 rfl ?_
          refine hG.ldcTW dX4_read_30 (hT.tx 36 rfl) (fun s30 hs30 => ?_)
          refine hG.callV dX4_read_33 kv_X4_228 (Rcv.raw mdL_m cl_X4) (sp_X4_word (V0 := V1) (p := q) (c0 := c) (g := g) (t := tt) (V := V2) hΓ hX hA hT0 hq hV2 hs30 (by decide) (by decide)) rfl rfl (Nat.le_of_ble_eq_true rfl) (by decide) (by omega) (by omega) (fun r33 I33 L33 hI33 h33 => ?_) (fun _ _ _ _ _ h => h.elim)
          rw [hwm] at h33
          obtain ⟨V33, rfl, rfl, rfl, hV33⟩ := h33
          refine hG.if_eq (tgt := 50) dX4_read_36 rfl (fun c_36 => absurd c_36 (by decide)) (fun c_36 => ?_)
          refine hG.aload_n dX4_read_39 rfl ?_
          refine hG.callV dX4_read_40 kv_X4_259 (Rcv.raw mdL_m cl_X4) (sp_X4_isCommand (V0 := V1) (t := tt) (p := q + 1) (c0 := c) (g := g) (V := V33) hΓ hX hA hT0 (by omega) hV33 hT9 hNm) rfl rfl (Nat.le_of_ble_eq_true rfl) (by decide) (by omega) (by omega) (fun r40 I40 L40 hI40 h40 => ?_) (fun _ _ _ _ _ h => h.elim)
          obtain ⟨V40, b40, rfl, rfl, rfl, q40, c40, g40, hq40, hV40, ht40, hf40⟩ := h40
          refine hG.if_eq (tgt := 50) dX4_read_43 rfl (fun c_43 => ?_) (fun c_43 => ?_)
          · refine hG.iconst (v := 0) dX4_read_50 rfl ?_
            refine hG.istore_n dX4_read_51 (by decide) ?_
            refine hG.goto (tgt := 14) dX4_read_52 rfl ?_
            first
            | exact hG.lsb [(0, .ref m), (1, .int 0)] ⟨rfl, rfl, trivial⟩ (k14 q40 c40 g40 V40 hq40 hV40 (htx.trans (by obtain ⟨j9, rfl⟩ : ∃ j9, j = j9 + 1 := ⟨j - 1, by omega⟩; exact mr_c hql htk (hf40 (b2i_0 c_43)))))
            | (obtain ⟨cm, hcm, -⟩ := ht40 (b2i_1 c_43)
               have hgo := go_cmd (show q + 1 ≤ tt.length by omega) cm q40 hcm
               refine hG.lsb [(0, .ref m), (1, .int 1)] ⟨rfl, rfl, trivial⟩ (ih (j - 1) (cs ++ [cm]) q40 c40 g40 V40 (by omega) hq40 hV40 (by rw [List.length_append, List.length_singleton]; omega) (by rw [List.length_append, List.length_singleton]; omega) ?_ ?_)
               · obtain ⟨j9, rfl⟩ : ∃ j9, j = j9 + 1 := ⟨j - 1, by omega⟩
                 exact htx.trans (mr_s hql htk hcm)
               · intro rest hr
                 rw [List.append_assoc]
                 exact hpr (cm :: rest) (PrR.semi hsc hcm hq40 hr))
          · refine hG.iconst (v := 1) dX4_read_46 rfl ?_
            refine hG.goto (tgt := 51) dX4_read_47 rfl ?_
            refine hG.istore_n dX4_read_51 (by decide) ?_
            refine hG.goto (tgt := 14) dX4_read_52 rfl ?_
            first
            | exact hG.lsb [(0, .ref m), (1, .int 0)] ⟨rfl, rfl, trivial⟩ (k14 q40 c40 g40 V40 hq40 hV40 (htx.trans (by obtain ⟨j9, rfl⟩ : ∃ j9, j = j9 + 1 := ⟨j - 1, by omega⟩; exact mr_c hql htk (hf40 (b2i_0 c_43)))))
            | (obtain ⟨cm, hcm, -⟩ := ht40 (b2i_1 c_43)
               have hgo := go_cmd (show q + 1 ≤ tt.length by omega) cm q40 hcm
               refine hG.lsb [(0, .ref m), (1, .int 1)] ⟨rfl, rfl, trivial⟩ (ih (j - 1) (cs ++ [cm]) q40 c40 g40 V40 (by omega) hq40 hV40 (by rw [List.length_append, List.length_singleton]; omega) (by rw [List.length_append, List.length_singleton]; omega) ?_ ?_)
               · obtain ⟨j9, rfl⟩ : ∃ j9, j = j9 + 1 := ⟨j - 1, by omega⟩
                 exact htx.trans (mr_s hql htk hcm)
               · intro rest hr
                 rw [List.append_assoc]
                 exact hpr (cm :: rest) (PrR.semi hsc hcm hq40 hr))
        · have htk : tkF tt 59 59 q = .inl q := by rw [tk_sc, hwm]; rfl
          refine hG.iload_n dX4_read_14 rfl ?_
          refine hG.if_eq (tgt := 55) dX4_read_15 rfl (fun c_15 => absurd c_15 (by decide)) (fun c_15 => ?_)
          refine hG.aload_n dX4_read_18 rfl ?_
          refine hG.get dX4_read_19 fg_X4_225_X4 (Or.inl mdL_m) rfl ?_
          rw [hps]
          refine hG.aload_n dX4_read_22 rfl ?_
          refine hG.get dX4_read_23 fg_X4_223_X4 (Or.inl mdL_m) rfl ?_
          rw [hle]
          refine hG.icmp_ge (tgt := 55) dX4_read_26 rfl (fun c_26 => absurd c_26 (nI_ge (by omega) (by omega))) (fun c_26 => ?_)
          refine hG.aload_n dX4_read_29 rfl ?_
          refine hG.ldcTW dX4_read_30 (hT.tx 36 rfl) (fun s30 hs30 => ?_)
          refine hG.callV dX4_read_33 kv_X4_228 (Rcv.raw mdL_m cl_X4) (sp_X4_word (V0 := V1) (p := q) (c0 := c) (g := g) (t := tt) (V := V2) hΓ hX hA hT0 hq hV2 hs30 (by decide) (by decide)) rfl rfl (Nat.le_of_ble_eq_true rfl) (by decide) (by omega) (by omega) (fun r33 I33 L33 hI33 h33 => ?_) (fun _ _ _ _ _ h => h.elim)
          rw [hwm] at h33
          obtain ⟨V33, rfl, rfl, rfl, hV33⟩ := h33
          refine hG.if_eq (tgt := 50) dX4_read_36 rfl (fun c_36 => ?_) (fun c_36 => absurd rfl c_36)
          refine hG.iconst (v := 0) dX4_read_50 rfl ?_
          refine hG.istore_n dX4_read_51 (by decide) ?_
          refine hG.goto (tgt := 14) dX4_read_52 rfl ?_
          exact hG.lsb [(0, .ref m), (1, .int 0)] ⟨rfl, rfl, trivial⟩ (k14 q c g V33 hq hV33 (htx.trans (by obtain ⟨j9, rfl⟩ : ∃ j9, j = j9 + 1 := ⟨j - 1, by omega⟩; exact mr_t hql htk)))
  refine hG.aload_n dX4_read_9 rfl ?_
  refine hG.callV dX4_read_10 kv_X4_259 (Rcv.raw mdL_m cl_X4) (sp_X4_isCommand (V0 := V1) (t := tt) (p := 0) (c0 := V1.cm) (g := V1.to) (V := Va) hΓ hX hA hT0 (Nat.zero_le _) hVa hT9 hNm) rfl rfl (Nat.le_of_ble_eq_true rfl) (by decide) (by omega) (by omega) (fun r10 I10 L10 hI10 h10 => ?_) (fun _ _ _ _ _ h => h.elim)
  obtain ⟨V10, b10, rfl, rfl, rfl, q10, c10, g10, hq10, hV10, ht10, hf10⟩ := h10
  refine hG.istore_n dX4_read_13 (by decide) ?_
  cases b10 with
  | false => exact hG.lsb [(0, .ref m), (1, .int 0)] ⟨rfl, rfl, trivial⟩ (k14 q10 c10 g10 V10 hq10 hV10 (tx_f (hf10 rfl)))
  | true =>
    obtain ⟨cm, hcm, -⟩ := ht10 rfl
    have hgo := go_cmd (Nat.zero_le tt.length) cm q10 hcm
    exact hG.lsb [(0, .ref m), (1, .int 1)] ⟨rfl, rfl, trivial⟩ (loop1 tt.length 30 [cm] q10 c10 g10 V10 (by omega) hq10 hV10 rfl (by show 5 * 1 ≤ _; omega) (tx_s hcm) (fun rest hr => PrR.cons hcm hq10 hr))
