/-! the model reads: words and digits -/
abbrev VP (V : MV) (p c : Int32) (g : Nat → Int32) : MV := ((V.wPs p).wCm c).wTo g
theorem vp_ps {V : MV} {p c : Int32} {g : Nat → Int32} : (VP V p c g).ps = p := rfl
theorem vp_cm {V : MV} {p c : Int32} {g : Nat → Int32} : (VP V p c g).cm = c := rfl
theorem vp_to {V : MV} {p c : Int32} {g : Nat → Int32} : (VP V p c g).to = g := rfl
theorem vp_le {V : MV} {p c : Int32} {g : Nat → Int32} : (VP V p c g).le = V.le := rfl
theorem vp_tx {V : MV} {p c : Int32} {g : Nat → Int32} : (VP V p c g).tx = V.tx := rfl
theorem vp_wps {V : MV} {p c q : Int32} {g : Nat → Int32} : (VP V p c g).wPs q = VP V q c g := rfl
theorem vp_wcm {V : MV} {p c q : Int32} {g : Nat → Int32} : (VP V p c g).wCm q = VP V p q g := rfl
theorem vp_wto {V : MV} {p c : Int32} {g g2 : Nat → Int32} : (VP V p c g).wTo g2 = VP V p c g2 := rfl
/-- a word read letter by letter -/
def wdM (t : List Nat) : List Nat → Nat → Bool × Nat
  | [], p => (true, p)
  | e :: w, p => match t[p]? with
    | some d => if d = e then wdM t w (p + 1) else (false, p)
    | none => (false, p)
theorem wm_e {t w : List Nat} {e p : Nat} (h : t.length ≤ p) : wdM t (e :: w) p = (false, p) := by
  unfold wdM
  rw [List.getElem?_eq_none h]
theorem wm_n {t w : List Nat} {e d p : Nat} (h : t[p]? = some d) (h2 : ¬ d = e) : wdM t (e :: w) p = (false, p) := by
  unfold wdM
  rw [h]
  exact if_neg h2
theorem wm_s {t w : List Nat} {e p : Nat} (h : t[p]? = some e) : wdM t (e :: w) p = wdM t w (p + 1) := by
  rw [show wdM t (e :: w) p = (match t[p]? with
    | some d => if d = e then wdM t w (p + 1) else (false, p)
    | none => (false, p)) from rfl, h]
  exact if_pos rfl
theorem wm_le {t : List Nat} : ∀ (w : List Nat) (p : Nat), p ≤ t.length → p ≤ (wdM t w p).2 ∧ (wdM t w p).2 ≤ t.length
  | [], p, h => ⟨Nat.le_refl _, h⟩
  | e :: w, p, h => by
    cases hq : t[p]? with
    | none => rw [wm_e (by rw [List.getElem?_eq_none_iff] at hq; exact hq)]; exact ⟨Nat.le_refl _, h⟩
    | some d =>
      have hp := (List.getElem?_eq_some_iff.mp hq).1
      by_cases q : d = e
      · subst q
        rw [wm_s hq]
        have := wm_le w (p + 1) hp
        omega
      · rw [wm_n hq q]
        exact ⟨Nat.le_refl _, h⟩
/-- what the model holds of the text -/
def TxM (V : MV) (t : List Nat) : Prop := V.le = nI t.length ∧ (∀ i c, t[i]? = some c → V.tx i = nI c) ∧ t.length ≤ 60 ∧ ∀ c ∈ t, c < 65536
theorem fg_X4_225_X4 : LkG RX4 225 ciX4 13 := ⟨RX4, TX4, 21, tyX4, _, cls_X4, by decide, Or.inl rfl, Or.inl q3283⟩
theorem fp_X4_225_X4 {nm : String} : LkP RX4 nm 225 ciX4 13 (tyX4 13) := ⟨RX4, TX4, 21, tyX4, _, cls_X4, by decide, rfl, Or.inl rfl, Or.inl ⟨rfl, q3283⟩⟩
set_option maxHeartbeats 4000000 in
set_option maxRecDepth 100000 in
theorem sp_X4_word {l : Launch} {s0 : State} {D : va_G} {I : AI} {L : AL} {o : Option Nat} {m : Nat} {A : MA} {V V0 : MV} (hΓ : Gam l s0 D) (hX : StV s0 o) (hA : MOk m A) {t : List Nat} (hT0 : TxM V0 t) {p : Nat} {c0 : Int32} {g : Nat → Int32} (hp : p ≤ t.length) (hV : V = VP V0 (nI p) c0 g) {q : Nat} {cs : List Nat} (hs : StrI I q 0 cs) (hcs : ∀ c ∈ cs, c < 256) (hl : cs.length ≤ 100) : Spc l s0 D yX4_word 5 [.ref m, .ref q] I (mdL L m A V) 0 0 ((fun r I' L' => ∃ V2 : MV, r = some (.int (b2i (wdM t cs p).1)) ∧ I = I' ∧ L' = mdL L m A V2 ∧ V2 = VP V0 (nI (wdM t cs p).2) c0 g)) noX := by
  refine Spc.of hΓ cX4_word 3 (some FieldType.boolean) q3608 (by decide +kernel) (by decide) (Nat.le_of_ble_eq_true rfl) (fun G GX hG => ?_)
  refine hG.iconst (v := 0) dX4_word_0 rfl ?_
  refine hG.istore_n dX4_word_1 (by decide) ?_
  have loop : ∀ (u i p1 : Nat) (V1 : MV), i + u = cs.length → p1 ≤ t.length → V1 = VP V0 (nI p1) c0 g → wdM t cs p = wdM t (cs.drop i) p1 → G 2 [(0, .ref m), (1, .ref q), (2, .int (nI i))] [] I (mdL L m A V1) 0 0 := by
    intro u
    induction u with
    | zero =>
      intro i p1 V1 hiu hp1 hV1 hwd
      refine hG.iload_n dX4_word_2 rfl ?_
      refine hG.aload_n dX4_word_3 rfl ?_
      refine hG.callV dX4_word_4 kv_X4_178 (hs.r _).rcv (sp_J9_length hΓ hX (hs.r _)) rfl rfl (Nat.le_of_ble_eq_true rfl) (by decide) (by omega) (by omega) (fun r4 I4 L4 hI4 h4 => ?_) (fun _ _ _ _ _ h => h.elim)
      obtain ⟨rfl, rfl, rfl⟩ := h4
      refine hG.icmp_ge (tgt := 56) dX4_word_7 rfl (fun c_7 => ?_) (fun c_7 => absurd (nI_le (by omega) (by omega)) c_7)
      refine hG.iconst (v := 1) dX4_word_56 rfl ?_
      refine hG.zret dX4_word_57 rfl (by first | rfl | exact b2i_nar _) ?_ (by omega) (by omega) trivial
      rw [hwd, show cs.drop i = [] from List.drop_of_length_le (by omega)]
      exact ⟨V1, rfl, rfl, rfl, hV1⟩
    | succ u ih =>
      intro i p1 V1 hiu hp1 hV1 hwd
      obtain ⟨e, he, hem⟩ := get_lt (show i < cs.length by omega)
      have hec := hcs e hem
      have hps : V1.ps = nI p1 := by rw [hV1, vp_ps]
      have hle : V1.le = nI t.length := by rw [hV1, vp_le]; exact hT0.1
      have h60 := hT0.2.2.1
      have hdr : cs.drop i = e :: cs.drop (i + 1) := by
        obtain ⟨hi9, rfl⟩ := List.getElem?_eq_some_iff.mp he
        exact List.drop_eq_getElem_cons hi9
      by_cases hpl : p1 = t.length
      · skip
        refine hG.iload_n dX4_word_2 rfl ?_
        refine hG.aload_n dX4_word_3 rfl ?_
        refine hG.callV dX4_word_4 kv_X4_178 (hs.r _).rcv (sp_J9_length hΓ hX (hs.r _)) rfl rfl (Nat.le_of_ble_eq_true rfl) (by decide) (by omega) (by omega) (fun r4 I4 L4 hI4 h4 => ?_) (fun _ _ _ _ _ h => h.elim)
        obtain ⟨rfl, rfl, rfl⟩ := h4
        refine hG.icmp_ge (tgt := 56) dX4_word_7 rfl (fun c_7 => absurd c_7 (nI_ge (by omega) (by omega))) (fun c_7 => ?_)
        refine hG.aload_n dX4_word_10 rfl ?_
        refine hG.get dX4_word_11 fg_X4_225_X4 (Or.inl mdL_m) rfl ?_
        rw [hps]
        refine hG.aload_n dX4_word_14 rfl ?_
        refine hG.get dX4_word_15 fg_X4_223_X4 (Or.inl mdL_m) rfl ?_
        rw [hle]
        refine hG.icmp_eq (tgt := 38) dX4_word_18 rfl (fun c_18 => ?_) (fun c_18 => absurd (congrArg nI (by omega)) c_18)
        refine hG.iconst (v := 0) dX4_word_38 rfl ?_
        refine hG.zret dX4_word_39 rfl (by first | rfl | exact b2i_nar _) ?_ (by omega) (by omega) trivial
        rw [hwd, hdr, wm_e (by omega)]
        exact ⟨V1, rfl, rfl, rfl, hV1⟩
      · obtain ⟨d9, hd9, hdm⟩ := get_lt (show p1 < t.length by omega)
        have hdc := hT0.2.2.2 d9 hdm
        have htx9 : V1.tx p1 = nI d9 := by rw [hV1, vp_tx]; exact hT0.2.1 p1 d9 hd9
        by_cases hde : d9 = e
        · skip
          refine hG.iload_n dX4_word_2 rfl ?_
          refine hG.aload_n dX4_word_3 rfl ?_
          refine hG.callV dX4_word_4 kv_X4_178 (hs.r _).rcv (sp_J9_length hΓ hX (hs.r _)) rfl rfl (Nat.le_of_ble_eq_true rfl) (by decide) (by omega) (by omega) (fun r4 I4 L4 hI4 h4 => ?_) (fun _ _ _ _ _ h => h.elim)
          obtain ⟨rfl, rfl, rfl⟩ := h4
          refine hG.icmp_ge (tgt := 56) dX4_word_7 rfl (fun c_7 => absurd c_7 (nI_ge (by omega) (by omega))) (fun c_7 => ?_)
          refine hG.aload_n dX4_word_10 rfl ?_
          refine hG.get dX4_word_11 fg_X4_225_X4 (Or.inl mdL_m) rfl ?_
          rw [hps]
          refine hG.aload_n dX4_word_14 rfl ?_
          refine hG.get dX4_word_15 fg_X4_223_X4 (Or.inl mdL_m) rfl ?_
          rw [hle]
          refine hG.icmp_eq (tgt := 38) dX4_word_18 rfl (fun c_18 => absurd c_18 (fun e9 => absurd ((nI_eq (by omega) (by omega)).mp e9) (by omega))) (fun c_18 => ?_)
          refine hG.aload_n dX4_word_21 rfl ?_
          refine hG.get dX4_word_22 fg_X4_48_X4 (Or.inl mdL_m) rfl ?_
          refine hG.aload_n dX4_word_25 rfl ?_
          refine hG.get dX4_word_26 fg_X4_225_X4 (Or.inl mdL_m) rfl ?_
          rw [hps]
          refine hG.ld_tx hA p1 dX4_word_29 rfl (by omega) (v := nI d9) (htx9) ?_
          refine hG.aload_n dX4_word_30 rfl ?_
          refine hG.iload_n dX4_word_31 rfl ?_
          refine hG.callV dX4_word_32 kv_X4_184 (hs.r _).rcv (sp_J9_charAt hΓ hX (hs.r _) he) rfl rfl (Nat.le_of_ble_eq_true rfl) (by decide) (by omega) (by omega) (fun r32 I32 L32 hI32 h32 => ?_) (fun _ _ _ _ _ h => h.elim)
          obtain ⟨rfl, rfl, rfl⟩ := h32
          refine hG.icmp_eq (tgt := 40) dX4_word_35 rfl (fun c_35 => ?_) (fun c_35 => absurd (congrArg nI hde) c_35)
          refine hG.aload_n dX4_word_40 rfl ?_
          refine hG.dup dX4_word_41 rfl ?_
          refine hG.get dX4_word_42 fg_X4_225_X4 (Or.inl mdL_m) rfl ?_
          rw [hps]
          refine hG.iconst (v := 1) dX4_word_45 rfl ?_
          refine hG.iadd dX4_word_46 ?_
          rw [nI_1]
          refine hG.put dX4_word_47 fp_X4_225_X4 mdL_m rfl rfl (Nat.le_of_ble_eq_true rfl) ?_
          refine hG.mp_ps ?_
          refine hG.iinc dX4_word_50 rfl (by decide) ?_
          refine hG.goto (tgt := 2) dX4_word_53 rfl ?_
          refine hG.lsb [(0, .ref m), (1, .ref q), (2, .int (nI i + Int32.ofInt 1))] ⟨rfl, rfl, rfl, trivial⟩ ?_
          rw [show nI i + Int32.ofInt 1 = nI (i + 1) from nI_add i 1]
          refine ih (i + 1) (p1 + 1) _ (by omega) (by omega) ?_ ?_
          · rw [hV1, vp_wps]
          · rw [hwd, hdr, wm_s (hde ▸ hd9)]
        · skip
          refine hG.iload_n dX4_word_2 rfl ?_
          refine hG.aload_n dX4_word_3 rfl ?_
          refine hG.callV dX4_word_4 kv_X4_178 (hs.r _).rcv (sp_J9_length hΓ hX (hs.r _)) rfl rfl (Nat.le_of_ble_eq_true rfl) (by decide) (by omega) (by omega) (fun r4 I4 L4 hI4 h4 => ?_) (fun _ _ _ _ _ h => h.elim)
          obtain ⟨rfl, rfl, rfl⟩ := h4
          refine hG.icmp_ge (tgt := 56) dX4_word_7 rfl (fun c_7 => absurd c_7 (nI_ge (by omega) (by omega))) (fun c_7 => ?_)
          refine hG.aload_n dX4_word_10 rfl ?_
          refine hG.get dX4_word_11 fg_X4_225_X4 (Or.inl mdL_m) rfl ?_
          rw [hps]
          refine hG.aload_n dX4_word_14 rfl ?_
          refine hG.get dX4_word_15 fg_X4_223_X4 (Or.inl mdL_m) rfl ?_
          rw [hle]
          refine hG.icmp_eq (tgt := 38) dX4_word_18 rfl (fun c_18 => absurd c_18 (fun e9 => absurd ((nI_eq (by omega) (by omega)).mp e9) (by omega))) (fun c_18 => ?_)
          refine hG.aload_n dX4_word_21 rfl ?_
          refine hG.get dX4_word_22 fg_X4_48_X4 (Or.inl mdL_m) rfl ?_
          refine hG.aload_n dX4_word_25 rfl ?_
          refine hG.get dX4_word_26 fg_X4_225_X4 (Or.inl mdL_m) rfl ?_
          rw [hps]
          refine hG.ld_tx hA p1 dX4_word_29 rfl (by omega) (v := nI d9) (htx9) ?_
          refine hG.aload_n dX4_word_30 rfl ?_
          refine hG.iload_n dX4_word_31 rfl ?_
          refine hG.callV dX4_word_32 kv_X4_184 (hs.r _).rcv (sp_J9_charAt hΓ hX (hs.r _) he) rfl rfl (Nat.le_of_ble_eq_true rfl) (by decide) (by omega) (by omega) (fun r32 I32 L32 hI32 h32 => ?_) (fun _ _ _ _ _ h => h.elim)
          obtain ⟨rfl, rfl, rfl⟩ := h32
          refine hG.icmp_eq (tgt := 40) dX4_word_35 rfl (fun c_35 => absurd c_35 (fun e9 => hde ((nI_eq (by omega) (by omega)).mp e9))) (fun c_35 => ?_)
          refine hG.iconst (v := 0) dX4_word_38 rfl ?_
          refine hG.zret dX4_word_39 rfl (by first | rfl | exact b2i_nar _) ?_ (by omega) (by omega) trivial
          rw [hwd, hdr, wm_n hd9 hde]
          exact ⟨V1, rfl, rfl, rfl, hV1⟩
  exact hG.lsb [(0, .ref m), (1, .ref q), (2, .int (nI 0))] ⟨rfl, rfl, rfl, trivial⟩ (loop cs.length 0 p V (by omega) hp hV rfl)
