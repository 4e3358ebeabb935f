/-! the model reads a text -/
theorem wm_1 {t : List Nat} {e p : Nat} : (wdM t [e] p = (true, p + 1) ∧ t[p]? = some e) ∨ (wdM t [e] p = (false, p) ∧ ¬ t[p]? = some e) := by
  cases hq : t[p]? with
  | none => exact Or.inr ⟨wm_e (List.getElem?_eq_none_iff.mp hq), fun e => nomatch e⟩
  | some d =>
    by_cases h : d = e
    · subst h; exact Or.inl ⟨wm_s hq, rfl⟩
    · exact Or.inr ⟨wm_n hq h, fun q => h (Option.some.inj q)⟩
theorem vp_start {V : MV} {p : Int32} : V.wPs p = VP V p V.cm V.to := rfl
theorem TxM.tk {V : MV} {t : List Nat} (h : TxM V t) : t.length ≤ 60 := h.2.2.1
def pRd (N : Nat) (I : AI) (L : AL) (m : Nat) (A : MA) (F : Fy) (t : List Nat) : Option Value → AI → AL → Prop := fun q I2 L2 => I = I2 ∧ ∃ (V : MV) (w : Int32), L2 = mdL L m A V ∧ q = some (.int w) ∧ Mr (N + t.length) (chF (rdI F t) (rdO F.rv t)) V ∧ match rdO F.rv t with
  | .inl (v, _) => w = v ∧ V.th = 0
  | .inr (.inl _) => V.th = 1
  | .inr (.inr _) => V.th = 2
abbrev VPL (V : MV) (q : Nat) (c : Int32) (g : Nat → Int32) : MV := (VP V (nI q) c g).wLe 0
theorem vpl_kp {V : MV} {n : Nat → Int32} {a r d : Int32} {q : Nat} {c : Int32} {g : Nat → Int32} : (VPL (wX V n a r d) q c g).kp = V.kp := rfl
theorem vpl_un {V : MV} {n : Nat → Int32} {a r d : Int32} {q : Nat} {c : Int32} {g : Nat → Int32} : (VPL (wX V n a r d) q c g).un = V.un := rfl
theorem vpl_tr {V : MV} {n : Nat → Int32} {a r d : Int32} {q : Nat} {c : Int32} {g : Nat → Int32} : (VPL (wX V n a r d) q c g).tr = V.tr := rfl
/-- test: the first loop -/
theorem fp_X4_54_X4 {nm : String} : LkP RX4 nm 54 ciX4 16 (tyX4 16) := ⟨RX4, TX4, 21, tyX4, _, cls_X4, by decide, rfl, Or.inl rfl, Or.inl ⟨rfl, q3286⟩⟩
theorem kv_X4_259 : LkV RX4 259 yX4_isCommand 0 := ⟨q3600, q3602, qs66, q87, by decide +kernel, by decide +kernel, by decide +kernel⟩
theorem kv_X4_268 : LkV RX4 268 yX4_comesBack 0 := ⟨q3629, q3631, qs71, q87, by decide +kernel, by decide +kernel, by decide +kernel⟩
theorem kv_X4_265 : LkV RX4 265 yX4_carries 0 := ⟨q3625, q3627, qs70, q87, by decide +kernel, by decide +kernel, by decide +kernel⟩
set_option maxHeartbeats 4000000 in
set_option maxRecDepth 100000 in
theorem sp_X4_read {l : Launch} {s0 : State} {D : va_G} {I : AI} {L : AL} {m : Nat} {A : MA} {V : MV} {N : Nat} {F : Fy} {o : Option Nat} {tt : List Nat} (hΓ : Gam l s0 D) (hA : MOk m A) (hM : Mr N F V) (hW : WfF N F) (hT : StX s0 D o) (hNm : NmA I A) (hip : F.ip = tt.map nI) (h24 : tt.length ≤ 24) (hcc : ∀ c ∈ tt, c < 65536) (hN : N + tt.length ≤ 200) : Spc l s0 D yX4_read 9 [.ref m] I (mdL L m A V) 0 0 (pRd N I L m A F tt) noX := by
  refine Spc.of hΓ cX4_read 5 (some FieldType.int) q3599 (by decide +kernel) (by decide) (Nat.le_of_ble_eq_true rfl) (fun G GX hG => ?_)
  have hX := hT.v
  refine hG.aload_n dX4_read_0 rfl ?_
  refine hG.callV dX4_read_1 kv_X4_84 (Rcv.raw mdL_m cl_X4) (sp_X4_tries hΓ hA) rfl rfl (Nat.le_of_ble_eq_true rfl) (by decide) (by omega) (by omega) (fun r1 I1 L1 hI1 h1 => ?_) (fun _ _ _ _ _ h => h.elim)
  obtain ⟨rfl, rfl, t, ht, rfl⟩ := h1
  have hTr : Rep N F.rv t := hM.1.cg hW.1 ht
  have hM1 : Mr N F ((V.wTh 0).wTr t) := hM.eqv ⟨rfl, rfl, rfl, rfl, rfl⟩ (mv_nw_wTr.trans mv_nw_wTh) (mv_kp_wTr.trans mv_kp_wTh) (mv_un_wTr.trans mv_un_wTh) (mv_le_wTr.trans mv_le_wTh) (mv_tx_wTr.trans mv_tx_wTh) (mv_ld_wTr.trans mv_ld_wTh) (mv_ln_wTr.trans mv_ln_wTh) (mv_fa_wTr.trans (mv_fa_wTh.trans hM.efa)) (mv_re_wTr.trans (mv_re_wTh.trans hM.ere)) (mv_de_wTr.trans (mv_de_wTh.trans hM.ede)) (mv_is_wTr.trans mv_is_wTh) (mv_sv_wTr.trans mv_sv_wTh)
  have hth : ((V.wTh 0).wTr t).th = 0 := mv_th_wTr.trans mv_th_wTh
  have htr : ((V.wTh 0).wTr t).tr = t := mv_tr_wTr
  generalize (V.wTh 0).wTr t = V1 at hM1 hth htr ⊢
  refine hG.aload_n dX4_read_4 rfl ?_
  refine hG.iconst (v := 0) dX4_read_5 rfl ?_
  refine hG.put dX4_read_6 fp_X4_225_X4 mdL_m rfl rfl (Nat.le_of_ble_eq_true rfl) ?_
  refine hG.mp_ps ?_
  obtain ⟨Va, hVa⟩ : ∃ Va, Va = V1.wPs 0 := ⟨_, rfl⟩
  rw [← hVa]
  have hVa : Va = VP V1 (nI 0) V1.cm V1.to := hVa
  have hT0 : TxM V1 tt := hM1.txm hip (by omega) hcc
  have hFa : ∀ (q : Nat) (c : Int32) (g : Nat → Int32), Mr (N + tt.length) ((F.wIp []).wFa (nI q)) ((((VP V1 (nI q) c g).wLe 0).wFa (nI q)).wTh 1) := by
    intro q c g
    have h2 := hM1.mono (Nat.le_add_right N tt.length)
    unfold Mr at h2 ⊢
    obtain ⟨h1, h2, h3, h4, h5, h6, h7, h8, h9, h10, h11⟩ := h2
    exact ⟨h1, h2, h3, rfl, (fun i c9 hi => nomatch hi), h6, h7, rfl, h9, h10, h11⟩
  have kF : ∀ (q : Nat) (c : Int32) (g : Nat → Int32) (V2 : MV), q ≤ tt.length → V2 = VP V1 (nI q) c g → txF tt = .inl q → G 55 [(0, .ref m), (1, .int 0)] [] I (mdL L m A V2) 0 0 := by
    intro q c g V2 hq hV2 htx
    refine hG.iload_n dX4_read_55 rfl ?_
    refine hG.if_ne (tgt := 78) dX4_read_56 rfl (fun c_56 => absurd rfl c_56) (fun c_56 => ?_)
    refine hG.aload_n dX4_read_59 rfl ?_
    refine hG.iconst (v := 0) dX4_read_60 rfl ?_
    refine hG.put dX4_read_61 fp_X4_223_X4 mdL_m rfl rfl (Nat.le_of_ble_eq_true rfl) ?_
    refine hG.mp_le ?_
    obtain ⟨V3, hV3⟩ : ∃ V3, V3 = V2.wLe 0 := ⟨_, rfl⟩
    rw [← hV3]
    have hps3 : V3.ps = nI q := by rw [hV3, mv_ps_wLe, hV2, vp_ps]
    refine hG.aload_n dX4_read_64 rfl ?_
    refine hG.aload_n dX4_read_65 rfl ?_
    refine hG.get dX4_read_66 fg_X4_225_X4 (Or.inl mdL_m) rfl ?_
    rw [hps3]
    refine hG.put dX4_read_69 fp_X4_54_X4 mdL_m rfl rfl (Nat.le_of_ble_eq_true rfl) ?_
    refine hG.mp_fa ?_
    obtain ⟨V4, hV4⟩ : ∃ V4, V4 = V3.wFa (nI q) := ⟨_, rfl⟩
    rw [← hV4]
    refine hG.aload_n dX4_read_72 rfl ?_
    refine hG.iconst (v := 1) dX4_read_73 rfl ?_
    refine hG.callV dX4_read_74 kv_X4_77 (Rcv.raw mdL_m cl_X4) (sp_X4_raises hΓ) rfl rfl (Nat.le_of_ble_eq_true rfl) (by decide) (by omega) (by omega) (fun r74 I74 L74 hI74 h74 => ?_) (fun _ _ _ _ _ h => h.elim)
    obtain ⟨rfl, rfl, rfl⟩ := h74
    refine hG.iret dX4_read_77 rfl ?_ (by omega) (by omega) trivial
    refine ⟨rfl, _, _, rfl, rfl, ?_, by rw [rdO_f htx]⟩
    rw [rdO_f htx, rdI_f htx]
    subst hV4
    subst hV3
    subst hV2
    exact hFa q c g
  have kT : ∀ (cs : List Cm) (q : Nat) (c : Int32) (g : Nat → Int32) (V2 : MV), q ≤ tt.length → V2 = VP V1 (nI q) c g → txF tt = .inr cs → PrL tt 0 cs → 5 * cs.length ≤ tt.length + 1 → G 55 [(0, .ref m), (1, .int 1)] [] I (mdL L m A V2) 0 0 := by
    intro cs q0 c0 g0 V20 hq0 hV20 htx hpl h5
    have hcl : cs.length ≤ tt.length := by omega
    have hOk : ∀ (n : Nat → Int32) (a : Int32) (q : Nat) (c : Int32) (g kp : Nat → Int32) (R2 : Rv), Rep (N + cs.length) R2 n → KpOk N (pushP F.rv F.pa) kp → Mr (N + tt.length) (((F.wIp []).wRv R2).wPa (pushP F.rv F.pa)) (((VPL (wX V1 n a V1.re V1.de) q c g).wKp kp).wUn (nI (pushP F.rv F.pa).length)) := by
      intro n a q c g kp R2 hRn hkp
      have h2 := hM1.mono (Nat.le_add_right N tt.length)
      unfold Mr at h2 ⊢
      obtain ⟨h1, h2, h3, h4, h5, h6, h7, h8, h9, h10, h11⟩ := h2
      exact ⟨hRn.mono (by omega), hkp.mono (by omega), rfl, rfl, (fun i c9 hi => nomatch hi), h6, h7, h8, h9, h10, h11⟩
    have hBad1 : ∀ (n : Nat → Int32) (a r9 d9 : Int32) (q : Nat) (c : Int32) (g t9 : Nat → Int32) (r8 d8 : Int32), Rep N F.rv t9 → Mr (N + tt.length) (((F.wIp []).wRe r8).wDe d8) (((((VPL (wX V1 n a r9 d9) q c g).wNw t9).wRe r8).wDe d8).wTh 2) := by
      intro n a r9 d9 q c g t9 r8 d8 hRn
      have h2 := hM1.mono (Nat.le_add_right N tt.length)
      unfold Mr at h2 ⊢
      obtain ⟨h1, h2, h3, h4, h5, h6, h7, h8, h9, h10, h11⟩ := h2
      exact ⟨hRn.mono (by omega), h2, h3, rfl, (fun i c9 hi => nomatch hi), h6, h7, h8, rfl, rfl, h11⟩
    have hBad2 : ∀ (n : Nat → Int32) (a r9 d9 : Int32) (q : Nat) (c : Int32) (g t9 : Nat → Int32), Rep N F.rv t9 → Mr (N + tt.length) (((F.wIp []).wRe r9).wDe d9) (((VPL (wX V1 n a r9 d9) q c g).wNw t9).wTh 2) := by
      intro n a r9 d9 q c g t9 hRn
      have h2 := hM1.mono (Nat.le_add_right N tt.length)
      unfold Mr at h2 ⊢
      obtain ⟨h1, h2, h3, h4, h5, h6, h7, h8, h9, h10, h11⟩ := h2
      exact ⟨hRn.mono (by omega), h2, h3, rfl, (fun i c9 hi => nomatch hi), h6, h7, h8, rfl, rfl, h11⟩
    have kok : ∀ (n : Nat → Int32) (a : Int32) (q : Nat) (c : Int32) (g : Nat → Int32) (V2 : MV) (R2 : Rv), V2 = VP (wX V1 n a V1.re V1.de) (nI q) c g → Rep (N + cs.length) R2 n → daF cs 0 F.rv = .inl R2 → G 136 [(0, .ref m), (2, .int (nI cs.length)), (3, .int 0)] [] I (mdL L m A V2) 0 0 := by
      intro n a q c g V2 R2 hV2 hRn hda
      refine hG.aload_n dX4_read_136 rfl ?_
      refine hG.iconst (v := 0) dX4_read_137 rfl ?_
      refine hG.put dX4_read_138 fp_X4_223_X4 mdL_m rfl rfl (Nat.le_of_ble_eq_true rfl) ?_
      refine hG.mp_le ?_
      obtain ⟨V3, hV3⟩ : ∃ V3, V3 = V2.wLe 0 := ⟨_, rfl⟩
      rw [← hV3]
      have hV3 : V3 = VPL (wX V1 n a V1.re V1.de) q c g := by rw [hV3, hV2]
      refine hG.iload_n dX4_read_141 rfl ?_
      refine hG.if_ne (tgt := 151) dX4_read_142 rfl (fun c_142 => absurd rfl c_142) (fun c_142 => ?_)
      refine hG.aload_n dX4_read_145 rfl ?_
      refine hG.iload_n dX4_read_146 rfl ?_
      refine hG.callV dX4_read_147 kv_X4_73 (Rcv.raw mdL_m cl_X4) (sp_X4_keeps (V := V3) (N := N) (past := F.pa) (P0 := F.rv) hΓ hA (by rw [hV3, vpl_kp]; exact hM1.2.1) (by rw [hV3, vpl_un]; exact hM1.2.2.1) hW.2.2.1 hW.2.1 (by rw [hV3, vpl_tr, htr]; exact hTr) hW.1) rfl rfl (Nat.le_of_ble_eq_true rfl) (by decide) (by omega) (by omega) (fun r147 I147 L147 hI147 h147 => ?_) (fun _ _ _ _ _ h => h.elim)
      obtain ⟨rfl, rfl, kp, hkp, rfl⟩ := h147
      refine hG.iret dX4_read_150 rfl ?_ (by omega) (by omega) trivial
      have ho := rdO_s (R := F.rv) htx
      rw [hda] at ho
      have ho : rdO F.rv tt = .inl (nI cs.length, R2) := ho
      refine ⟨rfl, _, _, rfl, rfl, ?_, by rw [ho]; exact ⟨rfl, by rw [hV3]; exact hth⟩⟩
      rw [ho, rdI_s htx]
      subst hV3
      exact hOk n a q c g kp R2 hRn hkp
    have kng : ∀ (i : Nat) (z : Int32) (n : Nat → Int32) (a r9 d9 : Int32) (q : Nat) (c : Int32) (g : Nat → Int32) (V2 : MV), z < 0 → V2 = VP (wX V1 n a r9 d9) (nI q) c g → daF cs 0 F.rv = .inr (20, nI i) → G 136 [(0, .ref m), (2, .int (nI i)), (3, .int z)] [] I (mdL L m A V2) 0 0 := by
      intro i z n a r9 d9 q c g V2 hz hV2 hda
      have hz0 : ¬ z = 0 := fun e => by rw [e] at hz; exact absurd hz (by decide)
      have hzn : ¬ 0 ≤ z := Int32.not_le.mpr hz
      refine hG.aload_n dX4_read_136 rfl ?_
      refine hG.iconst (v := 0) dX4_read_137 rfl ?_
      refine hG.put dX4_read_138 fp_X4_223_X4 mdL_m rfl rfl (Nat.le_of_ble_eq_true rfl) ?_
      refine hG.mp_le ?_
      obtain ⟨V3, hV3⟩ : ∃ V3, V3 = V2.wLe 0 := ⟨_, rfl⟩
      rw [← hV3]
      have hV3 : V3 = VPL (wX V1 n a r9 d9) q c g := by rw [hV3, hV2]
      refine hG.iload_n dX4_read_141 rfl ?_
      refine hG.if_ne (tgt := 151) dX4_read_142 rfl (fun c_142 => ?_) (fun c_142 => absurd c_142 hz0)
      refine hG.aload_n dX4_read_151 rfl ?_
      refine hG.callV dX4_read_152 kv_X4_268 (Rcv.raw mdL_m cl_X4) (sp_X4_comesBack (V := V3) hΓ hA) rfl rfl (Nat.le_of_ble_eq_true rfl) (by decide) (by omega) (by omega) (fun r152 I152 L152 hI152 h152 => ?_) (fun _ _ _ _ _ h => h.elim)
      obtain ⟨rfl, rfl, t9, ht9, rfl⟩ := h152
      have ht8 : ∀ k, k < 652 → t9 k = t k := fun k hk => (ht9 k hk).trans (by rw [hV3, vpl_tr, htr])
      refine hG.iload_n dX4_read_155 rfl ?_
      refine hG.if_ge (tgt := 167) dX4_read_156 rfl (fun c_156 => absurd c_156 hzn) (fun c_156 => ?_)
      refine hG.aload_n dX4_read_159 rfl ?_
      refine hG.bipush (v := 20) dX4_read_160 rfl ?_
      refine hG.iload_n dX4_read_162 rfl ?_
      refine hG.callV dX4_read_163 kv_X4_87 (Rcv.raw mdL_m cl_X4) (sp_X4_why hΓ) rfl rfl (Nat.le_of_ble_eq_true rfl) (by decide) (by omega) (by omega) (fun r163 I163 L163 hI163 h163 => ?_) (fun _ _ _ _ _ h => h.elim)
      obtain ⟨rfl, rfl, rfl⟩ := h163
      refine hG.istore_n dX4_read_166 (by decide) ?_
      refine hG.aload_n dX4_read_167 rfl ?_
      refine hG.iconst (v := 2) dX4_read_168 rfl ?_
      refine hG.callV dX4_read_169 kv_X4_77 (Rcv.raw mdL_m cl_X4) (sp_X4_raises hΓ) rfl rfl (Nat.le_of_ble_eq_true rfl) (by decide) (by omega) (by omega) (fun r169 I169 L169 hI169 h169 => ?_) (fun _ _ _ _ _ h => h.elim)
      obtain ⟨rfl, rfl, rfl⟩ := h169
      refine hG.iret dX4_read_172 rfl ?_ (by omega) (by omega) trivial
      have ho := rdO_s (R := F.rv) htx
      rw [hda] at ho
      have ho : rdO F.rv tt = .inr (.inr (20, nI i)) := ho
      refine ⟨rfl, _, _, rfl, rfl, ?_, by rw [ho]⟩
      rw [ho, rdI_s htx]
      subst hV3
      exact hBad1 n a r9 d9 q c g t9 20 (nI i) (hTr.cg hW.1 ht8)
    have kps : ∀ (i : Nat) (z : Int32) (n : Nat → Int32) (a r9 d9 : Int32) (q : Nat) (c : Int32) (g : Nat → Int32) (V2 : MV), 0 < z → V2 = VP (wX V1 n a r9 d9) (nI q) c g → daF cs 0 F.rv = .inr (r9, d9) → G 136 [(0, .ref m), (2, .int (nI i)), (3, .int z)] [] I (mdL L m A V2) 0 0 := by
      intro i z n a r9 d9 q c g V2 hz hV2 hda
      have hz0 : ¬ z = 0 := fun e => by rw [e] at hz; exact absurd hz (by decide)
      have hzp : 0 ≤ z := Int32.le_of_lt hz
      refine hG.aload_n dX4_read_136 rfl ?_
      refine hG.iconst (v := 0) dX4_read_137 rfl ?_
      refine hG.put dX4_read_138 fp_X4_223_X4 mdL_m rfl rfl (Nat.le_of_ble_eq_true rfl) ?_
      refine hG.mp_le ?_
      obtain ⟨V3, hV3⟩ : ∃ V3, V3 = V2.wLe 0 := ⟨_, rfl⟩
      rw [← hV3]
      have hV3 : V3 = VPL (wX V1 n a r9 d9) q c g := by rw [hV3, hV2]
      refine hG.iload_n dX4_read_141 rfl ?_
      refine hG.if_ne (tgt := 151) dX4_read_142 rfl (fun c_142 => ?_) (fun c_142 => absurd c_142 hz0)
      refine hG.aload_n dX4_read_151 rfl ?_
      refine hG.callV dX4_read_152 kv_X4_268 (Rcv.raw mdL_m cl_X4) (sp_X4_comesBack (V := V3) hΓ hA) rfl rfl (Nat.le_of_ble_eq_true rfl) (by decide) (by omega) (by omega) (fun r152 I152 L152 hI152 h152 => ?_) (fun _ _ _ _ _ h => h.elim)
      obtain ⟨rfl, rfl, t9, ht9, rfl⟩ := h152
      have ht8 : ∀ k, k < 652 → t9 k = t k := fun k hk => (ht9 k hk).trans (by rw [hV3, vpl_tr, htr])
      refine hG.iload_n dX4_read_155 rfl ?_
      refine hG.if_ge (tgt := 167) dX4_read_156 rfl (fun c_156 => ?_) (fun c_156 => absurd hzp c_156)
      refine hG.aload_n dX4_read_167 rfl ?_
      refine hG.iconst (v := 2) dX4_read_168 rfl ?_
      refine hG.callV dX4_read_169 kv_X4_77 (Rcv.raw mdL_m cl_X4) (sp_X4_raises hΓ) rfl rfl (Nat.le_of_ble_eq_true rfl) (by decide) (by omega) (by omega) (fun r169 I169 L169 hI169 h169 => ?_) (fun _ _ _ _ _ h => h.elim)
      obtain ⟨rfl, rfl, rfl⟩ := h169
      refine hG.iret dX4_read_172 rfl ?_ (by omega) (by omega) trivial
      have ho := rdO_s (R := F.rv) htx
      rw [hda] at ho
      have ho : rdO F.rv tt = .inr (.inr (r9, d9)) := ho
      refine ⟨rfl, _, _, rfl, rfl, ?_, by rw [ho]⟩
      rw [ho, rdI_s htx]
      subst hV3
      exact hBad2 n a r9 d9 q c g t9 (hTr.cg hW.1 ht8)
    have k90 : ∀ (i : Nat) (z : Int32) (V2 : MV), G 136 [(0, .ref m), (2, .int (nI i)), (3, .int z)] [] I (mdL L m A V2) 0 0 → G 90 [(0, .ref m), (2, .int (nI i)), (3, .int z), (4, .int 0)] [] I (mdL L m A V2) 0 0 := by
      intro i z V2 kk
      refine hG.iload dX4_read_90 rfl ?_
      refine hG.if_eq (tgt := 136) dX4_read_92 rfl (fun c_92 => ?_) (fun c_92 => absurd rfl c_92)
      exact hG.lsb [(0, .ref m), (2, .int (nI i)), (3, .int z)] ⟨rfl, rfl, rfl, trivial⟩ kk
    have loop2 : ∀ (cs2 : List Cm) (i q : Nat) (c : Int32) (g n : Nat → Int32) (a : Int32) (V2 : MV) (R : Rv), V2 = VP (wX V1 n a V1.re V1.de) (nI q) c g → q ≤ tt.length → PrL tt q cs2 → i + cs2.length = cs.length → daF cs 0 F.rv = daF cs2 i R → Rep (N + i) R n → Wf (N + i) R → G 90 [(0, .ref m), (2, .int (nI i)), (4, .int 1)] [] I (mdL L m A V2) 0 0 := by
      intro cs2
      induction cs2 with
      | nil =>
        intro i q c g n a V2 R hV2 hq hpl9
        exact hpl9.elim
      | cons cm cs3 ih =>
        intro i q c g n a V2 R hV2 hq hpl9 hic hda hRn hWf
        obtain ⟨z, hcm, hz, hr⟩ := hpl9
        have hil : i < cs.length := by rw [List.length_cons] at hic; omega
        rcases ho : outC cm R with ⟨v, R2⟩ | b | p
        · rcases hr with ⟨hze, rfl⟩ | ⟨hsc, hpl3⟩
          · have hwm : wdM tt [59] z = (false, z) := wm_e (by omega)
            refine hG.iload dX4_read_90 rfl ?_
            refine hG.if_eq (tgt := 136) dX4_read_92 rfl (fun c_92 => absurd c_92 (by decide)) (fun c_92 => ?_)
            refine hG.aload_n dX4_read_95 rfl ?_
            refine hG.callV dX4_read_96 kv_X4_259 (Rcv.raw mdL_m cl_X4) (sp_X4_isCommand (V0 := (wX V1 n a V1.re V1.de)) (t := tt) (p := q) (c0 := c) (g := g) (V := V2) hΓ hX hA (show TxM (wX V1 n a V1.re V1.de) tt from hT0) hq hV2 hT hNm) rfl rfl (Nat.le_of_ble_eq_true rfl) (by decide) (by omega) (by omega) (fun r96 I96 L96 hI96 h96 => ?_) (fun _ _ _ _ _ h => h.elim)
            obtain ⟨V96, b96, rfl, rfl, rfl, q96, c96, g96, hq96, hV96, ht96, hf96⟩ := h96
            have hb : b96 = true := by
              cases b96 with
              | true => rfl
              | false => cases (hf96 rfl).symm.trans hcm
            obtain ⟨cm2, hcm2, htd⟩ := ht96 hb
            have e9 := hcm2.symm.trans hcm
            cases e9
            refine hG.istore_n dX4_read_99 (by decide) ?_
            refine hG.aload_n dX4_read_100 rfl ?_
            refine hG.callV dX4_read_101 kv_X4_265 (Rcv.raw mdL_m cl_X4) (sp_X4_carries (N := N + i) (R := R) (V := V96) hΓ hA (by rw [hV96]; exact hRn) hWf (by omega) (cm := cm) (cm_bd hcm).1 (cm_bd hcm).2 (by rw [hV96]; exact htd)) rfl rfl (Nat.le_of_ble_eq_true rfl) (by decide) (by omega) (by omega) (fun r101 I101 L101 hI101 h101 => ?_) (fun _ _ _ _ _ h => h.elim)
            obtain ⟨cd, hcd, rfl, n2, a2, r2, d2, rfl, h⟩ := h101
            rw [ho] at h
            obtain ⟨rfl, hRn2, rfl, rfl, rfl⟩ := h
            obtain ⟨V5, hV5⟩ : ∃ V5, V5 = wX V96 n2 a2 V96.re V96.de := ⟨_, rfl⟩
            rw [← hV5]
            have hV5 : V5 = VP (wX V1 n2 a2 V1.re V1.de) (nI z) c96 g96 := by rw [hV5, hV96]
            refine hG.istore_n dX4_read_104 (by decide) ?_
            refine hG.iload_n dX4_read_105 rfl ?_
            refine hG.if_ne (tgt := 112) dX4_read_106 rfl (fun c_106 => absurd rfl c_106) (fun c_106 => ?_)
            refine hG.iinc dX4_read_109 rfl (by decide) ?_
            refine hG.iload_n dX4_read_112 rfl ?_
            refine hG.if_ne (tgt := 130) dX4_read_113 rfl (fun c_113 => absurd rfl c_113) (fun c_113 => ?_)
            refine hG.aload_n dX4_read_116 rfl ?_
            refine hG.ldcTW dX4_read_117 (hT.tx 36 rfl) (fun s117 hs117 => ?_)
            refine hG.callV dX4_read_120 kv_X4_228 (Rcv.raw mdL_m cl_X4) (sp_X4_word (V0 := (wX V1 n2 a2 V1.re V1.de)) (p := z) (c0 := c96) (g := g96) (t := tt) (V := V5) hΓ hX hA (show TxM (wX V1 n2 a2 V1.re V1.de) tt from hT0) hz hV5 hs117 (by decide) (by decide)) rfl rfl (Nat.le_of_ble_eq_true rfl) (by decide) (by omega) (by omega) (fun r120 I120 L120 hI120 h120 => ?_) (fun _ _ _ _ _ h => h.elim)
            rw [hwm] at h120
            obtain ⟨V6, rfl, rfl, rfl, hV6⟩ := h120
            refine hG.if_eq (tgt := 130) dX4_read_123 rfl (fun c_123 => ?_) (fun c_123 => absurd rfl c_123)
            refine hG.iconst (v := 0) dX4_read_130 rfl ?_
            refine hG.istore dX4_read_131 (by decide) ?_
            refine hG.goto (tgt := 90) dX4_read_133 rfl ?_
            rw [show nI i + Int32.ofInt 1 = nI (i + 1) from nI_add i 1]
            refine hG.lsb [(0, .ref m), (2, .int (nI (i + 1))), (3, .int 0), (4, .int 0)] ⟨rfl, rfl, rfl, rfl, trivial⟩ (k90 (i + 1) 0 V6 ?_)
            have hi9 : i + 1 = cs.length := hic
            rw [hi9]
            refine kok n2 a2 z c96 g96 V6 R2 hV6 ?_ ?_
            · rw [← hi9]; exact hRn2
            · rw [hda, da_s ho]; rfl
          · have hwm : wdM tt [59] z = (true, z + 1) := wm_s hsc
            refine hG.iload dX4_read_90 rfl ?_
            refine hG.if_eq (tgt := 136) dX4_read_92 rfl (fun c_92 => absurd c_92 (by decide)) (fun c_92 => ?_)
            refine hG.aload_n dX4_read_95 rfl ?_
            refine hG.callV dX4_read_96 kv_X4_259 (Rcv.raw mdL_m cl_X4) (sp_X4_isCommand (V0 := (wX V1 n a V1.re V1.de)) (t := tt) (p := q) (c0 := c) (g := g) (V := V2) hΓ hX hA (show TxM (wX V1 n a V1.re V1.de) tt from hT0) hq hV2 hT hNm) rfl rfl (Nat.le_of_ble_eq_true rfl) (by decide) (by omega) (by omega) (fun r96 I96 L96 hI96 h96 => ?_) (fun _ _ _ _ _ h => h.elim)
            obtain ⟨V96, b96, rfl, rfl, rfl, q96, c96, g96, hq96, hV96, ht96, hf96⟩ := h96
            have hb : b96 = true := by
              cases b96 with
              | true => rfl
              | false => cases (hf96 rfl).symm.trans hcm
            obtain ⟨cm2, hcm2, htd⟩ := ht96 hb
            have e9 := hcm2.symm.trans hcm
            cases e9
            refine hG.istore_n dX4_read_99 (by decide) ?_
            refine hG.aload_n dX4_read_100 rfl ?_
            refine hG.callV dX4_read_101 kv_X4_265 (Rcv.raw mdL_m cl_X4) (sp_X4_carries (N := N + i) (R := R) (V := V96) hΓ hA (by rw [hV96]; exact hRn) hWf (by omega) (cm := cm) (cm_bd hcm).1 (cm_bd hcm).2 (by rw [hV96]; exact htd)) rfl rfl (Nat.le_of_ble_eq_true rfl) (by decide) (by omega) (by omega) (fun r101 I101 L101 hI101 h101 => ?_) (fun _ _ _ _ _ h => h.elim)
            obtain ⟨cd, hcd, rfl, n2, a2, r2, d2, rfl, h⟩ := h101
            rw [ho] at h
            obtain ⟨rfl, hRn2, rfl, rfl, rfl⟩ := h
            obtain ⟨V5, hV5⟩ : ∃ V5, V5 = wX V96 n2 a2 V96.re V96.de := ⟨_, rfl⟩
            rw [← hV5]
            have hV5 : V5 = VP (wX V1 n2 a2 V1.re V1.de) (nI z) c96 g96 := by rw [hV5, hV96]
            refine hG.istore_n dX4_read_104 (by decide) ?_
            refine hG.iload_n dX4_read_105 rfl ?_
            refine hG.if_ne (tgt := 112) dX4_read_106 rfl (fun c_106 => absurd rfl c_106) (fun c_106 => ?_)
            refine hG.iinc dX4_read_109 rfl (by decide) ?_
            refine hG.iload_n dX4_read_112 rfl ?_
            refine hG.if_ne (tgt := 130) dX4_read_113 rfl (fun c_113 => absurd rfl c_113) (fun c_113 => ?_)
            refine hG.aload_n dX4_read_116 rfl ?_
            refine hG.ldcTW dX4_read_117 (hT.tx 36 rfl) (fun s117 hs117 => ?_)
            refine hG.callV dX4_read_120 kv_X4_228 (Rcv.raw mdL_m cl_X4) (sp_X4_word (V0 := (wX V1 n2 a2 V1.re V1.de)) (p := z) (c0 := c96) (g := g96) (t := tt) (V := V5) hΓ hX hA (show TxM (wX V1 n2 a2 V1.re V1.de) tt from hT0) hz hV5 hs117 (by decide) (by decide)) rfl rfl (Nat.le_of_ble_eq_true rfl) (by decide) (by omega) (by omega) (fun r120 I120 L120 hI120 h120 => ?_) (fun _ _ _ _ _ h => h.elim)
            rw [hwm] at h120
            obtain ⟨V6, rfl, rfl, rfl, hV6⟩ := h120
            refine hG.if_eq (tgt := 130) dX4_read_123 rfl (fun c_123 => absurd c_123 (show ¬ b2i true = 0 by decide)) (fun c_123 => ?_)
            refine hG.iconst (v := 1) dX4_read_126 rfl ?_
            refine hG.goto (tgt := 131) dX4_read_127 rfl ?_
            refine hG.istore dX4_read_131 (by decide) ?_
            refine hG.goto (tgt := 90) dX4_read_133 rfl ?_
            rw [show nI i + Int32.ofInt 1 = nI (i + 1) from nI_add i 1]
            exact hG.lsb [(0, .ref m), (2, .int (nI (i + 1))), (4, .int 1)] ⟨rfl, rfl, rfl, trivial⟩ (ih (i + 1) (z + 1) c96 g96 n2 a2 V6 R2 hV6 (by have := (List.getElem?_eq_some_iff.mp hsc).1; omega) hpl3 (by rw [List.length_cons] at hic; omega) (hda.trans (da_s ho)) hRn2 (OW.out hWf (by omega) v R2 ho))
        · skip
          refine hG.iload dX4_read_90 rfl ?_
          refine hG.if_eq (tgt := 136) dX4_read_92 rfl (fun c_92 => absurd c_92 (by decide)) (fun c_92 => ?_)
          refine hG.aload_n dX4_read_95 rfl ?_
          refine hG.callV dX4_read_96 kv_X4_259 (Rcv.raw mdL_m cl_X4) (sp_X4_isCommand (V0 := (wX V1 n a V1.re V1.de)) (t := tt) (p := q) (c0 := c) (g := g) (V := V2) hΓ hX hA (show TxM (wX V1 n a V1.re V1.de) tt from hT0) hq hV2 hT hNm) rfl rfl (Nat.le_of_ble_eq_true rfl) (by decide) (by omega) (by omega) (fun r96 I96 L96 hI96 h96 => ?_) (fun _ _ _ _ _ h => h.elim)
          obtain ⟨V96, b96, rfl, rfl, rfl, q96, c96, g96, hq96, hV96, ht96, hf96⟩ := h96
          have hb : b96 = true := by
            cases b96 with
            | true => rfl
            | false => cases (hf96 rfl).symm.trans hcm
          obtain ⟨cm2, hcm2, htd⟩ := ht96 hb
          have e9 := hcm2.symm.trans hcm
          cases e9
          refine hG.istore_n dX4_read_99 (by decide) ?_
          refine hG.aload_n dX4_read_100 rfl ?_
          refine hG.callV dX4_read_101 kv_X4_265 (Rcv.raw mdL_m cl_X4) (sp_X4_carries (N := N + i) (R := R) (V := V96) hΓ hA (by rw [hV96]; exact hRn) hWf (by omega) (cm := cm) (cm_bd hcm).1 (cm_bd hcm).2 (by rw [hV96]; exact htd)) rfl rfl (Nat.le_of_ble_eq_true rfl) (by decide) (by omega) (by omega) (fun r101 I101 L101 hI101 h101 => ?_) (fun _ _ _ _ _ h => h.elim)
          obtain ⟨cd, hcd, rfl, n2, a2, r2, d2, rfl, h⟩ := h101
          rw [ho] at h
          obtain ⟨rfl, rfl, rfl, rfl⟩ := h
          obtain ⟨V5, hV5⟩ : ∃ V5, V5 = wX V96 V96.nw a2 V96.re V96.de := ⟨_, rfl⟩
          rw [← hV5]
          have hV5 : V5 = VP (wX V1 n a2 V1.re V1.de) (nI z) c96 g96 := by rw [hV5, hV96]
          refine hG.istore_n dX4_read_104 (by decide) ?_
          refine hG.iload_n dX4_read_105 rfl ?_
          refine hG.if_ne (tgt := 112) dX4_read_106 rfl (fun c_106 => ?_) (fun c_106 => absurd c_106 (fun e => by have := hcd b; rw [e] at this; exact absurd this (by decide)))
          refine hG.iload_n dX4_read_112 rfl ?_
          refine hG.if_ne (tgt := 130) dX4_read_113 rfl (fun c_113 => ?_) (fun c_113 => absurd c_113 (fun e => by have := hcd b; rw [e] at this; exact absurd this (by decide)))
          refine hG.iconst (v := 0) dX4_read_130 rfl ?_
          refine hG.istore dX4_read_131 (by decide) ?_
          refine hG.goto (tgt := 90) dX4_read_133 rfl ?_
          exact hG.lsb [(0, .ref m), (2, .int (nI i)), (3, .int (cd b)), (4, .int 0)] ⟨rfl, rfl, rfl, rfl, trivial⟩ (k90 i (cd b) V5 (kng i (cd b) n a2 V1.re V1.de z c96 g96 V5 (hcd b) hV5 (hda.trans (da_b ho))))
        · skip
          refine hG.iload dX4_read_90 rfl ?_
          refine hG.if_eq (tgt := 136) dX4_read_92 rfl (fun c_92 => absurd c_92 (by decide)) (fun c_92 => ?_)
          refine hG.aload_n dX4_read_95 rfl ?_
          refine hG.callV dX4_read_96 kv_X4_259 (Rcv.raw mdL_m cl_X4) (sp_X4_isCommand (V0 := (wX V1 n a V1.re V1.de)) (t := tt) (p := q) (c0 := c) (g := g) (V := V2) hΓ hX hA (show TxM (wX V1 n a V1.re V1.de) tt from hT0) hq hV2 hT hNm) rfl rfl (Nat.le_of_ble_eq_true rfl) (by decide) (by omega) (by omega) (fun r96 I96 L96 hI96 h96 => ?_) (fun _ _ _ _ _ h => h.elim)
          obtain ⟨V96, b96, rfl, rfl, rfl, q96, c96, g96, hq96, hV96, ht96, hf96⟩ := h96
          have hb : b96 = true := by
            cases b96 with
            | true => rfl
            | false => cases (hf96 rfl).symm.trans hcm
          obtain ⟨cm2, hcm2, htd⟩ := ht96 hb
          have e9 := hcm2.symm.trans hcm
          cases e9
          refine hG.istore_n dX4_read_99 (by decide) ?_
          refine hG.aload_n dX4_read_100 rfl ?_
          refine hG.callV dX4_read_101 kv_X4_265 (Rcv.raw mdL_m cl_X4) (sp_X4_carries (N := N + i) (R := R) (V := V96) hΓ hA (by rw [hV96]; exact hRn) hWf (by omega) (cm := cm) (cm_bd hcm).1 (cm_bd hcm).2 (by rw [hV96]; exact htd)) rfl rfl (Nat.le_of_ble_eq_true rfl) (by decide) (by omega) (by omega) (fun r101 I101 L101 hI101 h101 => ?_) (fun _ _ _ _ _ h => h.elim)
          obtain ⟨cd, hcd, rfl, n2, a2, r2, d2, rfl, h⟩ := h101
          rw [ho] at h
          obtain ⟨rfl, hpos, rfl, rfl, rfl⟩ := h
          obtain ⟨V5, hV5⟩ : ∃ V5, V5 = wX V96 V96.nw a2 p.1 p.2 := ⟨_, rfl⟩
          rw [← hV5]
          have hV5 : V5 = VP (wX V1 n a2 p.1 p.2) (nI z) c96 g96 := by rw [hV5, hV96]
          refine hG.istore_n dX4_read_104 (by decide) ?_
          refine hG.iload_n dX4_read_105 rfl ?_
          refine hG.if_ne (tgt := 112) dX4_read_106 rfl (fun c_106 => ?_) (fun c_106 => absurd c_106 (fun e => by rw [e] at hpos; exact absurd hpos (by decide)))
          refine hG.iload_n dX4_read_112 rfl ?_
          refine hG.if_ne (tgt := 130) dX4_read_113 rfl (fun c_113 => ?_) (fun c_113 => absurd c_113 (fun e => by rw [e] at hpos; exact absurd hpos (by decide)))
          refine hG.iconst (v := 0) dX4_read_130 rfl ?_
          refine hG.istore dX4_read_131 (by decide) ?_
          refine hG.goto (tgt := 90) dX4_read_133 rfl ?_
          exact hG.lsb [(0, .ref m), (2, .int (nI i)), (3, .int p.1), (4, .int 0)] ⟨rfl, rfl, rfl, rfl, trivial⟩ (k90 i p.1 V5 (kps i p.1 n a2 p.1 p.2 z c96 g96 V5 hpos hV5 (hda.trans (da_p ho))))
    refine hG.iload_n dX4_read_55 rfl ?_
    refine hG.if_ne (tgt := 78) dX4_read_56 rfl (fun c_56 => ?_) (fun c_56 => absurd c_56 (by decide))
    refine hG.aload_n dX4_read_78 rfl ?_
    refine hG.iconst (v := 0) dX4_read_79 rfl ?_
    refine hG.put dX4_read_80 fp_X4_225_X4 mdL_m rfl rfl (Nat.le_of_ble_eq_true rfl) ?_
    refine hG.mp_ps ?_
    obtain ⟨V3, hV3⟩ : ∃ V3, V3 = V20.wPs 0 := ⟨_, rfl⟩
    rw [← hV3]
    have hV3 : V3 = VP (wX V1 V1.nw V1.an V1.re V1.de) (nI 0) c0 g0 := by rw [hV3, hV20]; rfl
    refine hG.iconst (v := 0) dX4_read_83 rfl ?_
    refine hG.istore_n dX4_read_84 (by decide) ?_
    refine hG.iconst (v := 0) dX4_read_85 rfl ?_
    refine hG.istore_n dX4_read_86 (by decide) ?_
    refine hG.iconst (v := 1) dX4_read_87 rfl ?_
    refine hG.istore dX4_read_88 (by decide) ?_
    exact hG.lsb [(0, .ref m), (2, .int (nI 0)), (4, .int 1)] ⟨rfl, rfl, rfl, trivial⟩ (loop2 cs 0 0 c0 g0 V1.nw V1.an V3 F.rv hV3 (Nat.zero_le _) hpl (Nat.zero_add _) rfl hM1.1 hW.1)
  have k14 : ∀ (q : Nat) (c : Int32) (g : Nat → Int32) (V2 : MV), q ≤ tt.length → V2 = VP V1 (nI q) c g → txF tt = .inl q → G 14 [(0, .ref m), (1, .int 0)] [] I (mdL L m A V2) 0 0 := by
    intro q c g V2 hq hV2 htx
    refine hG.iload_n dX4_read_14 rfl ?_
    refine hG.if_eq (tgt := 55) dX4_read_15 rfl (fun c_15 => ?_) (fun c_15 => absurd rfl c_15)
    exact hG.lsb [(0, .ref m), (1, .int 0)] ⟨rfl, rfl, trivial⟩ (kF q c g V2 hq hV2 htx)
  have loop1 : ∀ (u j : Nat) (cs : List Cm) (q : Nat) (c : Int32) (g : Nat → Int32) (V2 : MV), tt.length ≤ q + u → q ≤ tt.length → V2 = VP V1 (nI q) c g → j + cs.length = 31 → 5 * cs.length ≤ q + 1 → txF tt = mrF tt j cs q → (∀ rest, PrR tt q rest → PrL tt 0 (cs ++ rest)) → G 14 [(0, .ref m), (1, .int 1)] [] I (mdL L m A V2) 0 0 := by
    intro u
    induction u with
    | zero =>
      intro j cs q c g V2 hu hq hV2 hj h5 htx hpr
      have hps : V2.ps = nI q := by rw [hV2, vp_ps]
      have hle : V2.le = nI tt.length := by rw [hV2, vp_le]; exact hT0.1
      refine hG.iload_n dX4_read_14 rfl ?_
      refine hG.if_eq (tgt := 55) dX4_read_15 rfl (fun c_15 => absurd c_15 (by decide)) (fun c_15 => ?_)
      refine hG.aload_n dX4_read_18 rfl ?_
      refine hG.get dX4_read_19 fg_X4_225_X4 (Or.inl mdL_m) rfl ?_
      rw [hps]
      refine hG.aload_n dX4_read_22 rfl ?_
      refine hG.get dX4_read_23 fg_X4_223_X4 (Or.inl mdL_m) rfl ?_
      rw [hle]
      refine hG.icmp_ge (tgt := 55) dX4_read_26 rfl (fun c_26 => ?_) (fun c_26 => absurd (nI_le (by omega) (by omega)) c_26)
      exact hG.lsb [(0, .ref m), (1, .int 1)] ⟨rfl, rfl, trivial⟩ (kT cs q c g V2 hq hV2 (htx.trans (by obtain ⟨j9, rfl⟩ : ∃ j9, j = j9 + 1 := ⟨j - 1, by omega⟩; exact mr_e (by omega))) (by have := hpr [] (Or.inl ⟨by omega, rfl⟩); rw [List.append_nil] at this; exact this) (by omega))
    | succ u ih =>
      intro j cs q c g V2 hu hq hV2 hj h5 htx hpr
      have hps : V2.ps = nI q := by rw [hV2, vp_ps]
      have hle : V2.le = nI tt.length := by rw [hV2, vp_le]; exact hT0.1
      by_cases hqe : q = tt.length
      · skip
        refine hG.iload_n dX4_read_14 rfl ?_
        refine hG.if_eq (tgt := 55) dX4_read_15 rfl (fun c_15 => absurd c_15 (by decide)) (fun c_15 => ?_)
        refine hG.aload_n dX4_read_18 rfl ?_
        refine hG.get dX4_read_19 fg_X4_225_X4 (Or.inl mdL_m) rfl ?_
        rw [hps]
        refine hG.aload_n dX4_read_22 rfl ?_
        refine hG.get dX4_read_23 fg_X4_223_X4 (Or.inl mdL_m) rfl ?_
        rw [hle]
        refine hG.icmp_ge (tgt := 55) dX4_read_26 rfl (fun c_26 => ?_) (fun c_26 => absurd (nI_le (by omega) (by omega)) c_26)
        exact hG.lsb [(0, .ref m), (1, .int 1)] ⟨rfl, rfl, trivial⟩ (kT cs q c g V2 hq hV2 (htx.trans (by obtain ⟨j9, rfl⟩ : ∃ j9, j = j9 + 1 := ⟨j - 1, by omega⟩; exact mr_e (by omega))) (by have := hpr [] (Or.inl ⟨by omega, rfl⟩); rw [List.append_nil] at this; exact this) (by omega))
      · have hql : q < tt.length := by omega
        rcases wm_1 (t := tt) (e := 59) (p := q) with ⟨hwm, hsc⟩ | ⟨hwm, hsc⟩
        · have htk : tkF tt 59 59 q = .inr (59, q + 1) := tk_s hsc (by decide)
          refine hG.iload_n dX4_read_14 rfl ?_
          refine hG.if_eq (tgt := 55) dX4_read_15 rfl (fun c_15 => absurd c_15 (by decide)) (fun c_15 => ?_)
          refine hG.aload_n dX4_read_18 rfl ?_
          refine hG.get dX4_read_19 fg_X4_225_X4 (Or.inl mdL_m) rfl ?_
          rw [hps]
          refine hG.aload_n dX4_read_22 rfl ?_
          refine hG.get dX4_read_23 fg_X4_223_X4 (Or.inl mdL_m) rfl ?_
          rw [hle]
          refine hG.icmp_ge (tgt := 55) dX4_read_26 rfl (fun c_26 => absurd c_26 (nI_ge (by omega) (by omega))) (fun c_26 => ?_)
          refine hG.aload_n dX4_read_29 rfl ?_
          refine hG.ldcTW dX4_read_30 (hT.tx 36 rfl) (fun s30 hs30 => ?_)
          refine hG.callV dX4_read_33 kv_X4_228 (Rcv.raw mdL_m cl_X4) (sp_X4_word (V0 := V1) (p := q) (c0 := c) (g := g) (t := tt) (V := V2) hΓ hX hA hT0 hq hV2 hs30 (by decide) (by decide)) rfl rfl (Nat.le_of_ble_eq_true rfl) (by decide) (by omega) (by omega) (fun r33 I33 L33 hI33 h33 => ?_) (fun _ _ _ _ _ h => h.elim)
          rw [hwm] at h33
          obtain ⟨V33, rfl, rfl, rfl, hV33⟩ := h33
          refine hG.if_eq (tgt := 50) dX4_read_36 rfl (fun c_36 => absurd c_36 (show ¬ b2i true = 0 by decide)) (fun c_36 => ?_)
          refine hG.aload_n dX4_read_39 rfl ?_
          refine hG.callV dX4_read_40 kv_X4_259 (Rcv.raw mdL_m cl_X4) (sp_X4_isCommand (V0 := V1) (t := tt) (p := q + 1) (c0 := c) (g := g) (V := V33) hΓ hX hA hT0 (by omega) hV33 hT hNm) rfl rfl (Nat.le_of_ble_eq_true rfl) (by decide) (by omega) (by omega) (fun r40 I40 L40 hI40 h40 => ?_) (fun _ _ _ _ _ h => h.elim)
          obtain ⟨V40, b40, rfl, rfl, rfl, q40, c40, g40, hq40, hV40, ht40, hf40⟩ := h40
          refine hG.if_eq (tgt := 50) dX4_read_43 rfl (fun c_43 => ?_) (fun c_43 => ?_)
          · refine hG.iconst (v := 0) dX4_read_50 rfl ?_
            refine hG.istore_n dX4_read_51 (by decide) ?_
            refine hG.goto (tgt := 14) dX4_read_52 rfl ?_
            first
            | exact hG.lsb [(0, .ref m), (1, .int 0)] ⟨rfl, rfl, trivial⟩ (k14 q40 c40 g40 V40 hq40 hV40 (htx.trans (by obtain ⟨j9, rfl⟩ : ∃ j9, j = j9 + 1 := ⟨j - 1, by omega⟩; exact mr_c hql htk (hf40 (b2i_0 c_43)))))
            | (obtain ⟨cm, hcm, -⟩ := ht40 (b2i_1 c_43)
               have hgo := go_cmd (show q + 1 ≤ tt.length by omega) cm q40 hcm
               refine hG.lsb [(0, .ref m), (1, .int 1)] ⟨rfl, rfl, trivial⟩ (ih (j - 1) (cs ++ [cm]) q40 c40 g40 V40 (by omega) hq40 hV40 (by rw [List.length_append, List.length_singleton]; omega) (by rw [List.length_append, List.length_singleton]; omega) ?_ ?_)
               · obtain ⟨j9, rfl⟩ : ∃ j9, j = j9 + 1 := ⟨j - 1, by omega⟩
                 exact htx.trans (mr_s hql htk hcm)
               · intro rest hr
                 rw [List.append_assoc]
                 exact hpr (cm :: rest) (PrR.semi hsc hcm hq40 hr))
          · refine hG.iconst (v := 1) dX4_read_46 rfl ?_
            refine hG.goto (tgt := 51) dX4_read_47 rfl ?_
            refine hG.istore_n dX4_read_51 (by decide) ?_
            refine hG.goto (tgt := 14) dX4_read_52 rfl ?_
            first
            | exact hG.lsb [(0, .ref m), (1, .int 0)] ⟨rfl, rfl, trivial⟩ (k14 q40 c40 g40 V40 hq40 hV40 (htx.trans (by obtain ⟨j9, rfl⟩ : ∃ j9, j = j9 + 1 := ⟨j - 1, by omega⟩; exact mr_c hql htk (hf40 (b2i_0 c_43)))))
            | (obtain ⟨cm, hcm, -⟩ := ht40 (b2i_1 c_43)
               have hgo := go_cmd (show q + 1 ≤ tt.length by omega) cm q40 hcm
               refine hG.lsb [(0, .ref m), (1, .int 1)] ⟨rfl, rfl, trivial⟩ (ih (j - 1) (cs ++ [cm]) q40 c40 g40 V40 (by omega) hq40 hV40 (by rw [List.length_append, List.length_singleton]; omega) (by rw [List.length_append, List.length_singleton]; omega) ?_ ?_)
               · obtain ⟨j9, rfl⟩ : ∃ j9, j = j9 + 1 := ⟨j - 1, by omega⟩
                 exact htx.trans (mr_s hql htk hcm)
               · intro rest hr
                 rw [List.append_assoc]
                 exact hpr (cm :: rest) (PrR.semi hsc hcm hq40 hr))
        · have htk : tkF tt 59 59 q = .inl q := by rw [tk_sc, hwm]; rfl
          refine hG.iload_n dX4_read_14 rfl ?_
          refine hG.if_eq (tgt := 55) dX4_read_15 rfl (fun c_15 => absurd c_15 (by decide)) (fun c_15 => ?_)
          refine hG.aload_n dX4_read_18 rfl ?_
          refine hG.get dX4_read_19 fg_X4_225_X4 (Or.inl mdL_m) rfl ?_
          rw [hps]
          refine hG.aload_n dX4_read_22 rfl ?_
          refine hG.get dX4_read_23 fg_X4_223_X4 (Or.inl mdL_m) rfl ?_
          rw [hle]
          refine hG.icmp_ge (tgt := 55) dX4_read_26 rfl (fun c_26 => absurd c_26 (nI_ge (by omega) (by omega))) (fun c_26 => ?_)
          refine hG.aload_n dX4_read_29 rfl ?_
          refine hG.ldcTW dX4_read_30 (hT.tx 36 rfl) (fun s30 hs30 => ?_)
          refine hG.callV dX4_read_33 kv_X4_228 (Rcv.raw mdL_m cl_X4) (sp_X4_word (V0 := V1) (p := q) (c0 := c) (g := g) (t := tt) (V := V2) hΓ hX hA hT0 hq hV2 hs30 (by decide) (by decide)) rfl rfl (Nat.le_of_ble_eq_true rfl) (by decide) (by omega) (by omega) (fun r33 I33 L33 hI33 h33 => ?_) (fun _ _ _ _ _ h => h.elim)
          rw [hwm] at h33
          obtain ⟨V33, rfl, rfl, rfl, hV33⟩ := h33
          refine hG.if_eq (tgt := 50) dX4_read_36 rfl (fun c_36 => ?_) (fun c_36 => absurd rfl c_36)
          refine hG.iconst (v := 0) dX4_read_50 rfl ?_
          refine hG.istore_n dX4_read_51 (by decide) ?_
          refine hG.goto (tgt := 14) dX4_read_52 rfl ?_
          exact hG.lsb [(0, .ref m), (1, .int 0)] ⟨rfl, rfl, trivial⟩ (k14 q c g V33 hq hV33 (htx.trans (by obtain ⟨j9, rfl⟩ : ∃ j9, j = j9 + 1 := ⟨j - 1, by omega⟩; exact mr_t hql htk)))
  refine hG.aload_n dX4_read_9 rfl ?_
  refine hG.callV dX4_read_10 kv_X4_259 (Rcv.raw mdL_m cl_X4) (sp_X4_isCommand (V0 := V1) (t := tt) (p := 0) (c0 := V1.cm) (g := V1.to) (V := Va) hΓ hX hA hT0 (Nat.zero_le _) hVa hT hNm) rfl rfl (Nat.le_of_ble_eq_true rfl) (by decide) (by omega) (by omega) (fun r10 I10 L10 hI10 h10 => ?_) (fun _ _ _ _ _ h => h.elim)
  obtain ⟨V10, b10, rfl, rfl, rfl, q10, c10, g10, hq10, hV10, ht10, hf10⟩ := h10
  refine hG.istore_n dX4_read_13 (by decide) ?_
  cases b10 with
  | false => exact hG.lsb [(0, .ref m), (1, .int 0)] ⟨rfl, rfl, trivial⟩ (k14 q10 c10 g10 V10 hq10 hV10 (tx_f (hf10 rfl)))
  | true =>
    obtain ⟨cm, hcm, -⟩ := ht10 rfl
    have hgo := go_cmd (Nat.zero_le tt.length) cm q10 hcm
    exact hG.lsb [(0, .ref m), (1, .int 1)] ⟨rfl, rfl, trivial⟩ (loop1 tt.length 30 [cm] q10 c10 g10 V10 (by omega) hq10 hV10 rfl (by show 5 * 1 ≤ _; omega) (tx_s hcm) (fun rest hr => PrR.cons hcm hq10 hr))
