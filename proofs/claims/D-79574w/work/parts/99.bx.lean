/-! the model reads: one of some words -/
def onI (d : Nat) : List (List Nat) → Nat → Option (Nat × List Nat)
  | [], _ => none
  | w :: ws, i => if w[0]? = some d then some (i, w) else onI d ws (i + 1)
def onM (t : List Nat) (ws : List (List Nat)) (p : Nat) : Bool × Nat × Nat := match t[p]? with
  | none => (false, p, 0)
  | some d => match onI d ws 0 with
    | none => (false, p, 0)
    | some (i, w) => ((wdM t w p).1, (wdM t w p).2, i)
theorem on_e {t : List Nat} {ws : List (List Nat)} {p : Nat} (h : t.length ≤ p) : onM t ws p = (false, p, 0) := by
  unfold onM
  rw [List.getElem?_eq_none h]
theorem on_n {t : List Nat} {ws : List (List Nat)} {p d : Nat} (h : t[p]? = some d) (h2 : onI d ws 0 = none) : onM t ws p = (false, p, 0) := by
  unfold onM
  rw [h]
  show (match onI d ws 0 with
    | none => (false, p, 0)
    | some (i, w) => ((wdM t w p).1, (wdM t w p).2, i)) = _
  rw [h2]
theorem on_s {t : List Nat} {ws : List (List Nat)} {p d i : Nat} {w : List Nat} (h : t[p]? = some d) (h2 : onI d ws 0 = some (i, w)) : onM t ws p = ((wdM t w p).1, (wdM t w p).2, i) := by
  unfold onM
  rw [h]
  show (match onI d ws 0 with
    | none => (false, p, 0)
    | some (i, w) => ((wdM t w p).1, (wdM t w p).2, i)) = _
  rw [h2]
theorem kv_X4_228 : LkV RX4 228 yX4_word 1 := ⟨q3605, q3607, qs67, q87, by decide +kernel, by decide +kernel, by decide +kernel⟩
set_option maxHeartbeats 4000000 in
set_option maxRecDepth 100000 in
theorem sp_X4_oneOf {l : Launch} {s0 : State} {D : va_G} {I : AI} {L : AL} {o : Option Nat} {m : Nat} {A : MA} {V V0 : MV} (hΓ : Gam l s0 D) (hX : StV s0 o) (hA : MOk m A) {t : List Nat} (hT0 : TxM V0 t) {p : Nat} {c0 : Int32} {g : Nat → Int32} (hp : p ≤ t.length) (hV : V = VP V0 (nI p) c0 g) {k arr : Nat} (hk : k < 5) {ws : List (List Nat)} {f : Nat → Option Nat} (harr : I arr (arQ "java/lang/String" ws.length f)) (hf : ∀ i w, ws[i]? = some w → ∃ q, f i = some q ∧ StrI I q 0 w) (hwn : ∀ w ∈ ws, ∃ e, w[0]? = some e) (hwc : ∀ w ∈ ws, ∀ c ∈ w, c < 256) (hwl : ∀ w ∈ ws, w.length ≤ 100) (hw9 : ws.length ≤ 3) : Spc l s0 D yX4_oneOf 6 [.ref m, .int (nI k), .ref arr] I (mdL L m A V) 0 0 ((fun r I' L' => ∃ (V2 : MV) (g2 : Nat → Int32), r = some (.int (b2i (onM t ws p).1)) ∧ I = I' ∧ L' = mdL L m A V2 ∧ V2 = VP V0 (nI (onM t ws p).2.1) c0 g2 ∧ (∀ j, j ≠ k → g2 j = g j) ∧ ((onM t ws p).1 = true → g2 k = nI (onM t ws p).2.2))) noX := by
  refine Spc.of hΓ cX4_oneOf 4 (some FieldType.boolean) q3612 (by decide +kernel) (by decide) (Nat.le_of_ble_eq_true rfl) (fun G GX hG => ?_)
  refine hG.iconst (v := 0) dX4_oneOf_0 rfl ?_
  refine hG.istore_n dX4_oneOf_1 (by decide) ?_
  have hps : V.ps = nI p := by rw [hV, vp_ps]
  have hle : V.le = nI t.length := by rw [hV, vp_le]; exact hT0.1
  have h60 := hT0.2.2.1
  have loop : ∀ (u i : Nat), i + u = ws.length → (∀ d, t[p]? = some d → onI d ws 0 = onI d (ws.drop i) i) → G 2 [(0, .ref m), (1, .int (nI k)), (2, .ref arr), (3, .int (nI i))] [] I (mdL L m A V) 0 0 := by
    intro u
    induction u with
    | zero =>
      intro i hiu hinv
      by_cases hpl : p = t.length
      · skip
        refine hG.iload_n dX4_oneOf_2 rfl ?_
        refine hG.aload_n dX4_oneOf_3 rfl ?_
        refine hG.alen dX4_oneOf_4 (Or.inr harr) ?_
        refine hG.icmp_ge (tgt := 62) dX4_oneOf_5 rfl (fun c_5 => ?_) (fun c_5 => absurd (nI_le (by omega) (by omega)) c_5)
        refine hG.iconst (v := 0) dX4_oneOf_62 rfl ?_
        refine hG.zret dX4_oneOf_63 rfl (by first | rfl | exact b2i_nar _) ?_ (by omega) (by omega) trivial
        exact ⟨V, g, (by rw [on_e (by omega)]; rfl), rfl, rfl, (by rw [on_e (by omega)]; exact hV), fun j hj => rfl, fun e => (by rw [on_e (by omega)] at e; cases e)⟩
      · obtain ⟨d9, hd9, hdm⟩ := get_lt (show p < t.length by omega)
        refine hG.iload_n dX4_oneOf_2 rfl ?_
        refine hG.aload_n dX4_oneOf_3 rfl ?_
        refine hG.alen dX4_oneOf_4 (Or.inr harr) ?_
        refine hG.icmp_ge (tgt := 62) dX4_oneOf_5 rfl (fun c_5 => ?_) (fun c_5 => absurd (nI_le (by omega) (by omega)) c_5)
        refine hG.iconst (v := 0) dX4_oneOf_62 rfl ?_
        refine hG.zret dX4_oneOf_63 rfl (by first | rfl | exact b2i_nar _) ?_ (by omega) (by omega) trivial
        have hnn : onM t ws p = (false, p, 0) := on_n hd9 ((hinv d9 hd9).trans (by rw [List.drop_of_length_le (by omega)]; rfl))
        exact ⟨V, g, (by rw [hnn]; rfl), rfl, rfl, (by rw [hnn]; exact hV), fun j hj => rfl, fun e => (by rw [hnn] at e; cases e)⟩
    | succ u ih =>
      intro i hiu hinv
      obtain ⟨w, hw, hwm⟩ := get_lt (show i < ws.length by omega)
      obtain ⟨qw, hqw, hsw⟩ := hf i w hw
      obtain ⟨e, he⟩ := hwn w hwm
      have hec := hwc w hwm e (List.mem_of_getElem? he)
      have hdr : ws.drop i = w :: ws.drop (i + 1) := by
        obtain ⟨hi9, rfl⟩ := List.getElem?_eq_some_iff.mp hw
        exact List.drop_eq_getElem_cons hi9
      by_cases hpl : p = t.length
      · skip
        refine hG.iload_n dX4_oneOf_2 rfl ?_
        refine hG.aload_n dX4_oneOf_3 rfl ?_
        refine hG.alen dX4_oneOf_4 (Or.inr harr) ?_
        refine hG.icmp_ge (tgt := 62) dX4_oneOf_5 rfl (fun c_5 => absurd c_5 (nI_ge (by omega) (by omega))) (fun c_5 => ?_)
        refine hG.aload_n dX4_oneOf_8 rfl ?_
        refine hG.get dX4_oneOf_9 fg_X4_225_X4 (Or.inl mdL_m) rfl ?_
        rw [hps]
        refine hG.aload_n dX4_oneOf_12 rfl ?_
        refine hG.get dX4_oneOf_13 fg_X4_223_X4 (Or.inl mdL_m) rfl ?_
        rw [hle]
        refine hG.icmp_eq (tgt := 56) dX4_oneOf_16 rfl (fun c_16 => ?_) (fun c_16 => absurd (congrArg nI hpl) c_16)
        refine hG.iinc dX4_oneOf_56 rfl (by decide) ?_
        refine hG.goto (tgt := 2) dX4_oneOf_59 rfl ?_
        refine hG.lsb [(0, .ref m), (1, .int (nI k)), (2, .ref arr), (3, .int (nI i + Int32.ofInt 1))] ⟨rfl, rfl, rfl, rfl, trivial⟩ ?_
        rw [show nI i + Int32.ofInt 1 = nI (i + 1) from nI_add i 1]
        exact ih (i + 1) (by omega) (fun d hd => absurd (List.getElem?_eq_some_iff.mp hd).1 (by omega))
      · obtain ⟨d9, hd9, hdm⟩ := get_lt (show p < t.length by omega)
        have hdc := hT0.2.2.2 d9 hdm
        have htx9 : V.tx p = nI d9 := by rw [hV, vp_tx]; exact hT0.2.1 p d9 hd9
        by_cases hde : d9 = e
        · skip
          refine hG.iload_n dX4_oneOf_2 rfl ?_
          refine hG.aload_n dX4_oneOf_3 rfl ?_
          refine hG.alen dX4_oneOf_4 (Or.inr harr) ?_
          refine hG.icmp_ge (tgt := 62) dX4_oneOf_5 rfl (fun c_5 => absurd c_5 (nI_ge (by omega) (by omega))) (fun c_5 => ?_)
          refine hG.aload_n dX4_oneOf_8 rfl ?_
          refine hG.get dX4_oneOf_9 fg_X4_225_X4 (Or.inl mdL_m) rfl ?_
          rw [hps]
          refine hG.aload_n dX4_oneOf_12 rfl ?_
          refine hG.get dX4_oneOf_13 fg_X4_223_X4 (Or.inl mdL_m) rfl ?_
          rw [hle]
          refine hG.icmp_eq (tgt := 56) dX4_oneOf_16 rfl (fun c_16 => absurd c_16 (fun e9 => hpl ((nI_eq (by omega) (by omega)).mp e9))) (fun c_16 => ?_)
          refine hG.aload_n dX4_oneOf_19 rfl ?_
          refine hG.get dX4_oneOf_20 fg_X4_48_X4 (Or.inl mdL_m) rfl ?_
          refine hG.aload_n dX4_oneOf_23 rfl ?_
          refine hG.get dX4_oneOf_24 fg_X4_225_X4 (Or.inl mdL_m) rfl ?_
          rw [hps]
          refine hG.ld_tx hA p dX4_oneOf_27 rfl (by omega) (v := nI d9) htx9 ?_
          refine hG.aload_n dX4_oneOf_28 rfl ?_
          refine hG.iload_n dX4_oneOf_29 rfl ?_
          refine hG.aald dX4_oneOf_30 (Or.inr harr) (vp_in_nI (by omega) (by omega)) ?_
          rw [nI_clamp (by omega), hqw]
          refine hG.iconst (v := 0) dX4_oneOf_31 rfl ?_
          refine hG.callV dX4_oneOf_32 kv_X4_184 (hsw.r _).rcv (sp_J9_charAt hΓ hX (hsw.r _) (i := 0) he) rfl rfl (Nat.le_of_ble_eq_true rfl) (by decide) (by omega) (by omega) (fun r32 I32 L32 hI32 h32 => ?_) (fun _ _ _ _ _ h => h.elim)
          obtain ⟨rfl, rfl, rfl⟩ := h32
          refine hG.icmp_eq (tgt := 41) dX4_oneOf_35 rfl (fun c_35 => ?_) (fun c_35 => absurd (congrArg nI hde) c_35)
          refine hG.aload_n dX4_oneOf_41 rfl ?_
          refine hG.get dX4_oneOf_42 fg_X4_51_X4 (Or.inl mdL_m) rfl ?_
          refine hG.iload_n dX4_oneOf_45 rfl ?_
          refine hG.iload_n dX4_oneOf_46 rfl ?_
          refine hG.st_to hA k dX4_oneOf_47 rfl (by omega) ?_
          refine hG.aload_n dX4_oneOf_48 rfl ?_
          refine hG.aload_n dX4_oneOf_49 rfl ?_
          refine hG.iload_n dX4_oneOf_50 rfl ?_
          refine hG.aald dX4_oneOf_51 (Or.inr harr) (vp_in_nI (by omega) (by omega)) ?_
          rw [nI_clamp (by omega), hqw]
          refine hG.callV dX4_oneOf_52 kv_X4_228 (Rcv.raw mdL_m cl_X4) (sp_X4_word (V0 := V0) (p := p) (c0 := c0) (g := va_up g k (nI i)) (t := t) hΓ hX hA hT0 hp (by rw [hV, vp_to, vp_wto]) hsw (hwc w hwm) (hwl w hwm)) rfl rfl (Nat.le_of_ble_eq_true rfl) (by decide) (by omega) (by omega) (fun r52 I52 L52 hI52 h52 => ?_) (fun _ _ _ _ _ h => h.elim)
          obtain ⟨V2, rfl, rfl, rfl, hV2⟩ := h52
          refine hG.zret dX4_oneOf_55 rfl (by first | rfl | exact b2i_nar _) ?_ (by omega) (by omega) trivial
          have hoi : onI d9 ws 0 = some (i, w) := by
            rw [hinv d9 hd9, hdr]
            exact if_pos (by rw [he, hde])
          have hon := on_s hd9 hoi
          exact ⟨V2, va_up g k (nI i), (by rw [hon]), rfl, rfl, (by rw [hon]; exact hV2), fun j hj => va_ne hj, fun _ => (by rw [hon]; exact va_eq rfl)⟩
        · skip
          refine hG.iload_n dX4_oneOf_2 rfl ?_
          refine hG.aload_n dX4_oneOf_3 rfl ?_
          refine hG.alen dX4_oneOf_4 (Or.inr harr) ?_
          refine hG.icmp_ge (tgt := 62) dX4_oneOf_5 rfl (fun c_5 => absurd c_5 (nI_ge (by omega) (by omega))) (fun c_5 => ?_)
          refine hG.aload_n dX4_oneOf_8 rfl ?_
          refine hG.get dX4_oneOf_9 fg_X4_225_X4 (Or.inl mdL_m) rfl ?_
          rw [hps]
          refine hG.aload_n dX4_oneOf_12 rfl ?_
          refine hG.get dX4_oneOf_13 fg_X4_223_X4 (Or.inl mdL_m) rfl ?_
          rw [hle]
          refine hG.icmp_eq (tgt := 56) dX4_oneOf_16 rfl (fun c_16 => absurd c_16 (fun e9 => hpl ((nI_eq (by omega) (by omega)).mp e9))) (fun c_16 => ?_)
          refine hG.aload_n dX4_oneOf_19 rfl ?_
          refine hG.get dX4_oneOf_20 fg_X4_48_X4 (Or.inl mdL_m) rfl ?_
          refine hG.aload_n dX4_oneOf_23 rfl ?_
          refine hG.get dX4_oneOf_24 fg_X4_225_X4 (Or.inl mdL_m) rfl ?_
          rw [hps]
          refine hG.ld_tx hA p dX4_oneOf_27 rfl (by omega) (v := nI d9) htx9 ?_
          refine hG.aload_n dX4_oneOf_28 rfl ?_
          refine hG.iload_n dX4_oneOf_29 rfl ?_
          refine hG.aald dX4_oneOf_30 (Or.inr harr) (vp_in_nI (by omega) (by omega)) ?_
          rw [nI_clamp (by omega), hqw]
          refine hG.iconst (v := 0) dX4_oneOf_31 rfl ?_
          refine hG.callV dX4_oneOf_32 kv_X4_184 (hsw.r _).rcv (sp_J9_charAt hΓ hX (hsw.r _) (i := 0) he) rfl rfl (Nat.le_of_ble_eq_true rfl) (by decide) (by omega) (by omega) (fun r32 I32 L32 hI32 h32 => ?_) (fun _ _ _ _ _ h => h.elim)
          obtain ⟨rfl, rfl, rfl⟩ := h32
          refine hG.icmp_eq (tgt := 41) dX4_oneOf_35 rfl (fun c_35 => absurd c_35 (fun e9 => hde ((nI_eq (by omega) (by omega)).mp e9))) (fun c_35 => ?_)
          refine hG.goto (tgt := 56) dX4_oneOf_38 rfl ?_
          refine hG.iinc dX4_oneOf_56 rfl (by decide) ?_
          refine hG.goto (tgt := 2) dX4_oneOf_59 rfl ?_
          refine hG.lsb [(0, .ref m), (1, .int (nI k)), (2, .ref arr), (3, .int (nI i + Int32.ofInt 1))] ⟨rfl, rfl, rfl, rfl, trivial⟩ ?_
          rw [show nI i + Int32.ofInt 1 = nI (i + 1) from nI_add i 1]
          exact ih (i + 1) (by omega) (fun d hd => by rw [hd9] at hd; cases hd; rw [hinv d9 hd9, hdr]; exact if_neg (fun q => hde (by rw [he] at q; exact (Option.some.inj q).symm)))
  exact hG.lsb [(0, .ref m), (1, .int (nI k)), (2, .ref arr), (3, .int (nI 0))] ⟨rfl, rfl, rfl, rfl, trivial⟩ (loop ws.length 0 (by omega) (fun d hd => rfl))
