/-! characters of the model -/
def CharOk (c : Int32) : Prop := ∃ n, n < 65536 ∧ c = nI n
theorem CharOk.nar {c : Int32} (h : CharOk c) : narrow .char (.int c) = .int c := by
  obtain ⟨n, hn, rfl⟩ := h
  exact (pk_charN hn).1
theorem CharOk.vnar {c : Int32} (h : CharOk c) : vp_nar .char c = c := by
  unfold vp_nar
  rw [h.nar]
section CW
variable {l : Launch} {s0 : State} {D : va_G} {own nm : String} {cc : ByteArray} {nL : Nat} {ret : Option FieldType} {tab : List ExceptionTableEntry} {d mc ms : Nat} {Ib : AI} {post : Option Value → AI → AL → Prop} {xp : String → Nat → AI → AL → Prop} {md : Prop} {G : Gt} {GX : GXt}
variable {pc : Nat} {ls : List (Nat × Value)} {st : List Value} {I : AI} {L : AL} {k n : Nat}
theorem IsG.ld_tx (hG : IsG l s0 D own nm cc nL ret tab d mc ms Ib post xp md G GX) {m : Nat} {A : MA} {V : MV} (hA : MOk m A) (j : Nat) {i v : Int32} (hd : decode cc pc = .ok (.caload, 1)) (hi : i = nI j) (hj : j < 60) (hv : V.tx j = v) (kk : G (pc + 1) ls (.int v :: st) I (mdL L m A V) k n) : G pc ls (.int i :: .ref A.tx :: st) I (mdL L m A V) k n := by
  subst hi
  subst hv
  refine hG.cald hd (Or.inl (mdL_tx hA)) (vp_in_nI hj (by decide)) ?_
  rw [nI_clamp (by omega)]
  exact kk
theorem IsG.st_tx (hG : IsG l s0 D own nm cc nL ret tab d mc ms Ib post xp md G GX) {m : Nat} {A : MA} {V : MV} (hA : MOk m A) (j : Nat) {i x : Int32} (hd : decode cc pc = .ok (.castore, 1)) (hi : i = nI j) (hj : j < 60) (hx : CharOk x) (kk : G (pc + 1) ls st I (mdL L m A (V.wTx (va_up V.tx j x))) k n) : G pc ls (.int x :: .int i :: .ref A.tx :: st) I (mdL L m A V) k n := by
  subst hi
  refine hG.cast hd (mdL_tx hA) (vp_in_nI hj (by decide)) ?_
  rw [nI_clamp (by omega), hx.vnar]
  exact hG.ma_tx hA kk
theorem IsG.ld_ln (hG : IsG l s0 D own nm cc nL ret tab d mc ms Ib post xp md G GX) {m : Nat} {A : MA} {V : MV} (hA : MOk m A) (j : Nat) {i v : Int32} (hd : decode cc pc = .ok (.caload, 1)) (hi : i = nI j) (hj : j < 400) (hv : V.ln j = v) (kk : G (pc + 1) ls (.int v :: st) I (mdL L m A V) k n) : G pc ls (.int i :: .ref A.ln :: st) I (mdL L m A V) k n := by
  subst hi
  subst hv
  refine hG.cald hd (Or.inl (mdL_ln hA)) (vp_in_nI hj (by decide)) ?_
  rw [nI_clamp (by omega)]
  exact kk
theorem IsG.st_ln (hG : IsG l s0 D own nm cc nL ret tab d mc ms Ib post xp md G GX) {m : Nat} {A : MA} {V : MV} (hA : MOk m A) (j : Nat) {i x : Int32} (hd : decode cc pc = .ok (.castore, 1)) (hi : i = nI j) (hj : j < 400) (hx : CharOk x) (kk : G (pc + 1) ls st I (mdL L m A (V.wLn (va_up V.ln j x))) k n) : G pc ls (.int x :: .int i :: .ref A.ln :: st) I (mdL L m A V) k n := by
  subst hi
  refine hG.cast hd (mdL_ln hA) (vp_in_nI hj (by decide)) ?_
  rw [nI_clamp (by omega), hx.vnar]
  exact hG.ma_ln hA kk
end CW
def feedF (F : Fy) (c : Int32) : Fy × Int32 × Int32 := if F.ip.length = 60 then (F, 1, 0) else (F.wIp (F.ip ++ [c]), 0, nI (F.ip.length + 1))
def chrF (F : Fy) (i : Int32) : Int32 × Int32 := if inR i 0 (nI F.li.length - 1) = true then (match F.li[i.toNatClampNeg]? with
  | some c => (0, c)
  | none => (1, 0)) else (1, 0)
theorem fg_X4_48_X4 : LkG RX4 48 ciX4 11 := ⟨RX4, TX4, 21, tyX4, _, cls_X4, by decide, Or.inl rfl, Or.inl q3281⟩
theorem fp_X4_223_X4 {nm : String} : LkP RX4 nm 223 ciX4 12 (tyX4 12) := ⟨RX4, TX4, 21, tyX4, _, cls_X4, by decide, rfl, Or.inl rfl, Or.inl ⟨rfl, q3282⟩⟩
set_option maxHeartbeats 4000000 in
set_option maxRecDepth 100000 in
theorem sp_X4_feed {l : Launch} {s0 : State} {D : va_G} {I : AI} {L : AL} {m : Nat} {A : MA} {V : MV} {N : Nat} {F : Fy} (hΓ : Gam l s0 D) (hA : MOk m A) (hM : Mr N F V) (hW : WfF N F) {c : Int32} (hc : CharOk c) (hl60 : F.ip.length ≤ 60) : Spc l s0 D yX4_feed 9 [.ref m, .int c] I (mdL L m A V) 0 0 (pMq N I L m A ((feedF F c).1) ((feedF F c).2.1) ((feedF F c).2.2)) noX := by
  refine Spc.of hΓ cX4_feed 2 (some FieldType.int) q3595 (by decide +kernel) (by decide) (Nat.le_of_ble_eq_true rfl) (fun G GX hG => ?_)
  by_cases hl : F.ip.length = 60
  · rw [show feedF F c = (F, 1, 0) from if_pos hl] at hG
    refine hG.aload_n dX4_feed_0 rfl ?_
    refine hG.iconst (v := 0) dX4_feed_1 rfl ?_
    refine hG.put dX4_feed_2 fp_X4_58_X4 mdL_m rfl rfl (Nat.le_of_ble_eq_true rfl) ?_
    refine hG.mp_th ?_
    have hM1 : Mr N F (V.wTh 0) := hM.eqv ⟨rfl, rfl, rfl, rfl, rfl⟩ mv_nw_wTh mv_kp_wTh mv_un_wTh mv_le_wTh mv_tx_wTh mv_ld_wTh mv_ln_wTh (mv_fa_wTh.trans hM.efa) (mv_re_wTh.trans hM.ere) (mv_de_wTh.trans hM.ede) mv_is_wTh mv_sv_wTh
    have hth : (V.wTh 0).th = 0 := mv_th_wTh
    generalize V.wTh 0 = V1 at hM1 hth ⊢
    have hle := hM1.2.2.2.1
    refine hG.aload_n dX4_feed_5 rfl ?_
    refine hG.get dX4_feed_6 fg_X4_223_X4 (Or.inl mdL_m) rfl ?_
    rw [hle, hl]
    refine hG.bipush (v := 60) dX4_feed_9 rfl ?_
    refine hG.icmp_ne (tgt := 20) dX4_feed_11 rfl (fun c_11 => absurd rfl c_11) (fun c_11 => ?_)
    refine hG.aload_n dX4_feed_14 rfl ?_
    refine hG.iconst (v := 1) dX4_feed_15 rfl ?_
    refine hG.callV dX4_feed_16 kv_X4_77 (Rcv.raw mdL_m cl_X4) (sp_X4_raises hΓ) rfl rfl (Nat.le_of_ble_eq_true rfl) (by decide) (by omega) (by omega) (fun r16 I16 L16 hI16 h16 => ?_) (fun _ _ _ _ _ h => h.elim)
    obtain ⟨rfl, rfl, rfl⟩ := h16
    refine hG.iret dX4_feed_19 rfl ?_ (by omega) (by omega) trivial
    exact pMq.mk (hM1.eqv ⟨rfl, rfl, rfl, rfl, rfl⟩ mv_nw_wTh mv_kp_wTh mv_un_wTh mv_le_wTh mv_tx_wTh mv_ld_wTh mv_ln_wTh (mv_fa_wTh.trans hM1.efa) (mv_re_wTh.trans hM1.ere) (mv_de_wTh.trans hM1.ede) mv_is_wTh mv_sv_wTh) mv_th_wTh (fun e => absurd (show (1 : Int32) = 0 from e) (by decide))
  · rw [show feedF F c = (F.wIp (F.ip ++ [c]), 0, nI (F.ip.length + 1)) from if_neg hl] at hG
    refine hG.aload_n dX4_feed_0 rfl ?_
    refine hG.iconst (v := 0) dX4_feed_1 rfl ?_
    refine hG.put dX4_feed_2 fp_X4_58_X4 mdL_m rfl rfl (Nat.le_of_ble_eq_true rfl) ?_
    refine hG.mp_th ?_
    have hM1 : Mr N F (V.wTh 0) := hM.eqv ⟨rfl, rfl, rfl, rfl, rfl⟩ mv_nw_wTh mv_kp_wTh mv_un_wTh mv_le_wTh mv_tx_wTh mv_ld_wTh mv_ln_wTh (mv_fa_wTh.trans hM.efa) (mv_re_wTh.trans hM.ere) (mv_de_wTh.trans hM.ede) mv_is_wTh mv_sv_wTh
    have hth : (V.wTh 0).th = 0 := mv_th_wTh
    generalize V.wTh 0 = V1 at hM1 hth ⊢
    have hle := hM1.2.2.2.1
    refine hG.aload_n dX4_feed_5 rfl ?_
    refine hG.get dX4_feed_6 fg_X4_223_X4 (Or.inl mdL_m) rfl ?_
    rw [hle]
    refine hG.bipush (v := 60) dX4_feed_9 rfl ?_
    refine hG.icmp_ne (tgt := 20) dX4_feed_11 rfl (fun c_11 => ?_) (fun c_11 => absurd c_11 (fun e => absurd ((nI_eq (b := 60) (by omega) (by decide)).mp e) hl))
    refine hG.aload_n dX4_feed_20 rfl ?_
    refine hG.get dX4_feed_21 fg_X4_48_X4 (Or.inl mdL_m) rfl ?_
    refine hG.aload_n dX4_feed_24 rfl ?_
    refine hG.dup dX4_feed_25 rfl ?_
    refine hG.get dX4_feed_26 fg_X4_223_X4 (Or.inl mdL_m) rfl ?_
    rw [hle]
    refine hG.dup_x1 dX4_feed_29 rfl rfl ?_
    refine hG.iconst (v := 1) dX4_feed_30 rfl ?_
    refine hG.iadd dX4_feed_31 ?_
    rw [nI_1]
    refine hG.put dX4_feed_32 fp_X4_223_X4 mdL_m rfl rfl (Nat.le_of_ble_eq_true rfl) ?_
    refine hG.mp_le ?_
    refine hG.iload_n dX4_feed_35 rfl ?_
    refine hG.st_tx hA F.ip.length dX4_feed_36 rfl (by omega) hc ?_
    refine hG.aload_n dX4_feed_37 rfl ?_
    refine hG.get dX4_feed_38 fg_X4_223_X4 (Or.inl mdL_m) rfl ?_
    refine hG.iret dX4_feed_41 rfl ?_ (by omega) (by omega) trivial
    refine pMq.mk (F := F.wIp (F.ip ++ [c])) ?_ ((mv_th_wTx.trans (mv_th_wLe.trans hth))) (fun _ => rfl)
    have h2 := hM1
    unfold Mr
    rw [show ((V1.wLe (nI (F.ip.length + 1))).wTx (va_up (V1.wLe (nI (F.ip.length + 1))).tx F.ip.length c)).nw = V1.nw from (mv_nw_wTx.trans mv_nw_wLe), show ((V1.wLe (nI (F.ip.length + 1))).wTx (va_up (V1.wLe (nI (F.ip.length + 1))).tx F.ip.length c)).kp = V1.kp from (mv_kp_wTx.trans mv_kp_wLe), show ((V1.wLe (nI (F.ip.length + 1))).wTx (va_up (V1.wLe (nI (F.ip.length + 1))).tx F.ip.length c)).un = V1.un from (mv_un_wTx.trans mv_un_wLe), show ((V1.wLe (nI (F.ip.length + 1))).wTx (va_up (V1.wLe (nI (F.ip.length + 1))).tx F.ip.length c)).le = nI (F.ip.length + 1) from (mv_le_wTx.trans mv_le_wLe), show ((V1.wLe (nI (F.ip.length + 1))).wTx (va_up (V1.wLe (nI (F.ip.length + 1))).tx F.ip.length c)).tx = va_up V1.tx F.ip.length c from mv_tx_wTx, show ((V1.wLe (nI (F.ip.length + 1))).wTx (va_up (V1.wLe (nI (F.ip.length + 1))).tx F.ip.length c)).ld = V1.ld from (mv_ld_wTx.trans mv_ld_wLe), show ((V1.wLe (nI (F.ip.length + 1))).wTx (va_up (V1.wLe (nI (F.ip.length + 1))).tx F.ip.length c)).ln = V1.ln from (mv_ln_wTx.trans mv_ln_wLe), show ((V1.wLe (nI (F.ip.length + 1))).wTx (va_up (V1.wLe (nI (F.ip.length + 1))).tx F.ip.length c)).fa = V1.fa from (mv_fa_wTx.trans mv_fa_wLe), show ((V1.wLe (nI (F.ip.length + 1))).wTx (va_up (V1.wLe (nI (F.ip.length + 1))).tx F.ip.length c)).re = V1.re from (mv_re_wTx.trans mv_re_wLe), show ((V1.wLe (nI (F.ip.length + 1))).wTx (va_up (V1.wLe (nI (F.ip.length + 1))).tx F.ip.length c)).de = V1.de from (mv_de_wTx.trans mv_de_wLe), show ((V1.wLe (nI (F.ip.length + 1))).wTx (va_up (V1.wLe (nI (F.ip.length + 1))).tx F.ip.length c)).is = V1.is from (mv_is_wTx.trans mv_is_wLe), show ((V1.wLe (nI (F.ip.length + 1))).wTx (va_up (V1.wLe (nI (F.ip.length + 1))).tx F.ip.length c)).sv = V1.sv from (mv_sv_wTx.trans mv_sv_wLe)]
    refine ⟨h2.1, h2.2.1, h2.2.2.1, by rw [List.length_append, List.length_singleton], fun i e he => ?_, h2.2.2.2.2.2.1, h2.2.2.2.2.2.2.1, h2.efa, h2.ere, h2.ede, h2.esv⟩
    by_cases hi : i < F.ip.length
    · rw [List.getElem?_append_left hi] at he
      exact (va_ne (by omega)).trans (h2.2.2.2.2.1 i e he)
    · rw [List.getElem?_append_right (by omega)] at he
      have h0 : i - F.ip.length = 0 := by
        have := (List.getElem?_eq_some_iff.mp he).1
        simp at this
        omega
      rw [h0] at he
      cases he
      exact va_eq (by omega)
theorem fg_X4_181_X4 : LkG RX4 181 ciX4 10 := ⟨RX4, TX4, 21, tyX4, _, cls_X4, by decide, Or.inl rfl, Or.inl q3280⟩
theorem fg_X4_44_X4 : LkG RX4 44 ciX4 9 := ⟨RX4, TX4, 21, tyX4, _, cls_X4, by decide, Or.inl rfl, Or.inl q3279⟩
set_option maxHeartbeats 4000000 in
set_option maxRecDepth 100000 in
theorem sp_X4_character {l : Launch} {s0 : State} {D : va_G} {I : AI} {L : AL} {m : Nat} {A : MA} {V : MV} {N : Nat} {F : Fy} (hΓ : Gam l s0 D) (hA : MOk m A) (hM : Mr N F V) (hW : WfF N F) {i : Int32} (hli : ∀ c ∈ F.li, CharOk c) (hl4 : F.li.length ≤ 400) : Spc l s0 D yX4_character 9 [.ref m, .int i] I (mdL L m A V) 0 0 (pMq N I L m A (F) ((chrF F i).1) ((chrF F i).2)) noX := by
  refine Spc.of hΓ cX4_character 2 (some FieldType.char) q3539 (by decide +kernel) (by decide) (Nat.le_of_ble_eq_true rfl) (fun G GX hG => ?_)
  refine hG.aload_n dX4_character_0 rfl ?_
  refine hG.iconst (v := 0) dX4_character_1 rfl ?_
  refine hG.put dX4_character_2 fp_X4_58_X4 mdL_m rfl rfl (Nat.le_of_ble_eq_true rfl) ?_
  refine hG.mp_th ?_
  have hM1 : Mr N F (V.wTh 0) := hM.eqv ⟨rfl, rfl, rfl, rfl, rfl⟩ mv_nw_wTh mv_kp_wTh mv_un_wTh mv_le_wTh mv_tx_wTh mv_ld_wTh mv_ln_wTh (mv_fa_wTh.trans hM.efa) (mv_re_wTh.trans hM.ere) (mv_de_wTh.trans hM.ede) mv_is_wTh mv_sv_wTh
  have hth : (V.wTh 0).th = 0 := mv_th_wTh
  generalize V.wTh 0 = V1 at hM1 hth ⊢
  have hld := hM1.2.2.2.2.2.1
  refine hG.iload_n dX4_character_5 rfl ?_
  refine hG.iconst (v := 0) dX4_character_6 rfl ?_
  refine hG.aload_n dX4_character_7 rfl ?_
  refine hG.get dX4_character_8 fg_X4_181_X4 (Or.inl mdL_m) rfl ?_
  rw [hld]
  refine hG.iconst (v := 1) dX4_character_11 rfl ?_
  refine hG.isub dX4_character_12 ?_
  refine hG.callS dX4_character_13 ks_X4_80 (sp_X4_in hΓ) rfl rfl (Nat.le_of_ble_eq_true rfl) (by decide) (by omega) (by omega) (fun r13 I13 L13 hI13 h13 => ?_) (fun _ _ _ _ _ h => h.elim)
  obtain ⟨rfl, rfl, rfl⟩ := h13
  refine hG.if_eq (tgt := 28) dX4_character_16 rfl (fun c_16 => ?_) (fun c_16 => ?_)
  · rw [show chrF F i = (1, 0) from if_neg (bFT (b2i_0 c_16))] at hG
    refine hG.aload_n dX4_character_28 rfl ?_
    refine hG.iconst (v := 1) dX4_character_29 rfl ?_
    refine hG.callV dX4_character_30 kv_X4_77 (Rcv.raw mdL_m cl_X4) (sp_X4_raises hΓ) rfl rfl (Nat.le_of_ble_eq_true rfl) (by decide) (by omega) (by omega) (fun r30 I30 L30 hI30 h30 => ?_) (fun _ _ _ _ _ h => h.elim)
    obtain ⟨rfl, rfl, rfl⟩ := h30
    refine hG.i2c dX4_character_33 ?_
    refine hG.zret dX4_character_34 rfl (by decide) ?_ (by omega) (by omega) trivial
    exact pMq.mk (hM1.eqv ⟨rfl, rfl, rfl, rfl, rfl⟩ mv_nw_wTh mv_kp_wTh mv_un_wTh mv_le_wTh mv_tx_wTh mv_ld_wTh mv_ln_wTh (mv_fa_wTh.trans hM1.efa) (mv_re_wTh.trans hM1.ere) (mv_de_wTh.trans hM1.ede) mv_is_wTh mv_sv_wTh) mv_th_wTh (fun e => absurd (show (1 : Int32) = 0 from e) (by decide))
  · obtain ⟨j, hj, rfl⟩ := idx_of (by omega) (b2i_1 c_16)
    have hc : F.li[j]? = some (F.li[j]'hj) := List.getElem?_eq_getElem hj
    rw [show chrF F (nI j) = (0, F.li[j]'hj) by unfold chrF; rw [if_pos (b2i_1 c_16), nI_clamp (by omega), hc]] at hG
    have hco := hli _ (List.getElem_mem hj)
    refine hG.aload_n dX4_character_19 rfl ?_
    refine hG.get dX4_character_20 fg_X4_44_X4 (Or.inl mdL_m) rfl ?_
    refine hG.iload_n dX4_character_23 rfl ?_
    refine hG.ld_ln hA j dX4_character_24 rfl (by omega) (v := F.li[j]'hj) (hM1.2.2.2.2.2.2.1 j _ hc) ?_
    refine hG.goto (tgt := 34) dX4_character_25 rfl ?_
    refine hG.zret dX4_character_34 rfl hco.nar ?_ (by omega) (by omega) trivial
    exact pMq.mk hM1 hth (fun _ => rfl)
