/-! landing and waiting -/
abbrev absI (x : Int32) : Int32 := if 0 ≤ x then x else 0 - x
abbrev chn (c : Nat) : Int32 := absI (nI (c % 7) - nI (c / 7 % 7))
def lcoin (f : Nat → Int32) (st acc : Int32) (t : Tal) : Int32 := t.foldl (fun s x => if nI (x.1 % 7) = st then s + x.2 * chn x.1 * f (x.1 / 49) else s) acc
def lnum (st acc : Int32) (t : Tal) : Int32 := t.foldl (fun s x => if nI (x.1 % 7) = st then s + x.2 else s) acc
abbrev lkeep (st : Int32) (t : Tal) : Tal := t.filter (fun x => !decide (nI (x.1 % 7) = st))
def wsum (st : Int32) (t : Tal) : Int32 := t.foldl (fun s x => s + (if nI (x.1 / 7 % 7) = st then x.2 * wgt x.1 else 0)) 0
theorem wsum_app (st : Int32) (t : Tal) (x : Nat × Int32) : wsum st (t ++ [x]) = wsum st t + (if nI (x.1 / 7 % 7) = st then x.2 * wgt x.1 else 0) := by
  unfold wsum
  rw [List.foldl_append]
  rfl
theorem get_mid {α : Type} {ks rest : List α} {x : α} : (ks ++ x :: rest)[ks.length]? = some x := by simp
theorem get_rm {ks rest : List Ent} {x : Ent} : (ads (ks ++ x :: rest))[ks.length + 1]? = (ads (ks ++ rest))[ks.length]? := by
  unfold ads
  rw [List.map_append, List.map_append, List.map_cons, List.getElem?_append_right (by simp), List.getElem?_append_right (by simp)]
  simp
theorem get_end {ks : List Ent} : (ads (ks ++ []))[ks.length]? = none := ads_end (by simp)
set_option maxHeartbeats 4000000 in
set_option maxRecDepth 100000 in
theorem sp_X9_channels {l : Launch} {s0 : State} {D : va_G} {I : AI} {L : AL} (hΓ : Gam l s0 D) {a c : Nat} (h0 : I a (ob ciX9 (grp c))) : Spc l s0 D yX9_channels 2 [.ref a] I L 0 0 (pV (.int (chn c)) I L) noX := by
  refine Spc.of hΓ cX9_channels 1 (some FieldType.int) q2054 (by decide +kernel) (by decide) (Nat.le_of_ble_eq_true rfl) (fun G GX hG => ?_)
  refine hG.aload_n dX9_channels_0 rfl ?_
  refine hG.get dX9_channels_1 fg_X9_16_X9 (Or.inr h0) rfl ?_
  refine hG.aload_n dX9_channels_4 rfl ?_
  refine hG.get dX9_channels_5 fg_X9_13_X9 (Or.inr h0) rfl ?_
  refine hG.isub dX9_channels_8 ?_
  refine hG.mabs dX9_channels_9 q2055 (Nat.le_of_ble_eq_true rfl) (by decide) ?_
  refine hG.iret dX9_channels_12 rfl ?_ (by omega) (by omega) trivial
  exact ⟨rfl, rfl, rfl⟩
theorem cls_X2 : CLs ciX2 RX2 TX2 13 tyX2 := ⟨rfl, in_X2, tyX2_ok, nmX2⟩
theorem fg_X2_274_X9 : LkG RX2 274 ciX9 2 := ⟨RX9, TX9, 3, tyX9, _, cls_X9, by decide, Or.inl rfl, Or.inr ⟨_, q1770⟩⟩
theorem fg_X2_84_X2 : LkG RX2 84 ciX2 8 := ⟨RX2, TX2, 13, tyX2, _, cls_X2, by decide, Or.inl rfl, Or.inl q269⟩
theorem kv_X2_277 : LkV RX2 277 yX9_channels 0 := ⟨q2051, q2052, q2053, q119, by decide +kernel, by decide +kernel, by decide +kernel⟩
theorem fg_X2_37_X2 : LkG RX2 37 ciX2 6 := ⟨RX2, TX2, 13, tyX2, _, cls_X2, by decide, Or.inl rfl, Or.inl q265⟩
theorem fg_X2_279_X9 : LkG RX2 279 ciX9 0 := ⟨RX9, TX9, 3, tyX9, _, cls_X9, by decide, Or.inl rfl, Or.inr ⟨_, q1764⟩⟩
theorem fg_X2_87_X2 : LkG RX2 87 ciX2 10 := ⟨RX2, TX2, 13, tyX2, _, cls_X2, by decide, Or.inl rfl, Or.inl q273⟩
theorem fp_X2_87_X2 {nm : String} : LkP RX2 nm 87 ciX2 10 (tyX2 10) := ⟨RX2, TX2, 13, tyX2, _, cls_X2, by decide, rfl, Or.inl rfl, Or.inl ⟨rfl, q273⟩⟩
theorem kf_X2_173_J23 : LkF RX2 173 RJ23 ⟨"java/util/Iterator", "remove", "()V"⟩ yJ22_remove 0 := ⟨q1931, q1978, q1980, q102, ⟨by decide +kernel, by decide +kernel, by decide +kernel⟩, q1933, q1932, q1981, q1979, q448⟩
set_option maxHeartbeats 4000000 in
set_option maxRecDepth 100000 in
theorem sp_X2_land_2 {l : Launch} {s0 : State} {D : va_G} {I : AI} {L : AL} {dE ca : Nat} {ad : Nat → Nat} {r b fa : Nat} {u : Tal} {f0 f1 f2 f3 f4 f5 : Value} {hr st rp ld pd cr : Int32} {f : Nat → Int32} (hΓ : Gam l s0 D) (hZ : Std s0 D dE ca ad) (h0 : L r = some (obC ciX2 [f0, f1, f2, f3, f4, f5, .ref fa, .int hr, .int st, .int rp, .int ld, .int pd, .int cr])) (hfa : L fa = some (.inl (arI 3 f))) (h1 : L b = some (taC u)) : Spc l s0 D yX2_land_2 8 [.ref r, .ref b] I L 2 7 (fun q I' L' => q = some (.int (lcoin f st 0 u)) ∧ L' = up1 (up1 L b (some (taC (lkeep st u)))) r (some (obC ciX2 [f0, f1, f2, f3, f4, f5, .ref fa, .int hr, .int st, .int rp, .int (lnum st ld u), .int pd, .int cr]))) noX := by
  refine Spc.of hΓ cX2_land_2 6 (some FieldType.int) q2039 (by decide +kernel) (by decide) (Nat.le_of_ble_eq_true rfl) (fun G GX hG => ?_)
  refine hG.opT h1 (fun mp mo es M hne hMa hMm ht hnc hlt hf => ?_)
  subst ht
  have hrb : r ≠ b := ne_val h0 h1 ne_rk
  have hfb : fa ≠ b := ne_val hfa h1 ne_rk
  have hMr := (hf r _ h0 hrb).2
  have hMf := (hf fa _ hfa hfb).2
  have hrm : r ≠ mp := fun e => (hf r _ h0 hrb).1 (by simp [e])
  have hfm : fa ≠ mp := fun e => (hf fa _ hfa hfb).1 (by simp [e])
  have hrf : r ≠ fa := ne_val h0 hfa (fun e => by cases e)
  refine hG.iconst (v := 0) dX2_land_2_0 rfl ?_
  refine hG.istore_n dX2_land_2_1 (by decide) ?_
  refine hG.aload_n dX2_land_2_2 rfl ?_
  refine hG.get dX2_land_2_3 fg_X2_190_X3 (Or.inl hMa) rfl ?_
  refine hG.callV dX2_land_2_6 kv_X2_194 (Rcv.mp hMm) (sp_J5_entrySet hΓ hMm) rfl rfl (Nat.le_of_ble_eq_true rfl) (by decide) (by omega) (by omega) (fun r6 I6 L6 hI6 h6 => ?_) (fun _ _ _ _ _ h => h.elim)
  obtain ⟨rfl, q, rfl, hq⟩ := h6
  refine hG.callF dX2_land_2_9 kf_X2_200_J21 (Rcv.imm hq cl_J21) cl_J21 (sp_J21_iterator hΓ hq hMm) rfl rfl (Nat.le_of_ble_eq_true rfl) (by decide) (by omega) (by omega) (fun r9 I9 L9 hI9 h9 => ?_) (fun _ _ _ _ _ h => h.elim)
  obtain ⟨rfl, it, hitn, hitm, rfl, rfl⟩ := h9
  have hbit : b ≠ it := fun e => by rw [← e, hMa] at hitn; cases hitn
  have hrit : r ≠ it := fun e => by rw [← e, hMr] at hitn; cases hitn
  have hfit : fa ≠ it := fun e => by rw [← e, hMf] at hitn; cases hitn
  have hmit : mp ≠ it := hitm.symm
  refine hG.astore_n dX2_land_2_14 (by decide) ?_
  have loop : ∀ (rest ks : List Ent) (acc ld1 mo1 : Int32) (cv : Value) (I1 : AI) (L1 : AL), L1 it = some (obC ciJ23 [va_rf (ads (ks ++ rest))[ks.length]?, cv, .int (mo1), .int 0, .ref mp]) → L1 mp = some (mpC mo1 (ks ++ rest)) → L1 r = some (obC ciX2 [f0, f1, f2, f3, f4, f5, .ref fa, .int hr, .int st, .int rp, .int ld1, .int pd, .int cr]) → (∀ z, z ≠ it → z ≠ mp → z ≠ r → L1 z = M z) → (∀ x ∈ rest, x.2.1 < 147) → tal ks ++ lkeep st (tal rest) = lkeep st (tal es) → lcoin f st acc (tal rest) = lcoin f st 0 (tal es) → lnum st ld1 (tal rest) = lnum st ld (tal es) → G 15 [(0, .ref r), (2, .int acc), (3, .ref it)] [] I1 L1 2 7 := by
    intro rest
    induction rest with
    | nil =>
      intro ks acc ld1 mo1 cv I1 L1 hit hmp hr1 ho hrl hfl hco hln
      refine hG.aload_n dX2_land_2_15 rfl ?_
      refine hG.callF dX2_land_2_16 kf_X2_51_J23 (Rcv.raw hit cl_J23) cl_J23 (sp_J22_hasNext hΓ hit) rfl rfl (Nat.le_of_ble_eq_true rfl) (by decide) (by omega) (by omega) (fun r16 I16 L16 hI16 h16 => ?_) (fun _ _ _ _ _ h => h.elim)
      obtain ⟨rfl, rfl, rfl⟩ := h16
      refine hG.if_eq (tgt := 123) dX2_land_2_21 rfl (fun c_21 => ?_) (fun c_21 => absurd (by rw [get_end]; rfl) c_21)
      have hfin : tal (ks ++ []) = lkeep st (tal es) := by
        rw [List.append_nil]
        simpa [lkeep, tal] using hfl
      have hac : acc = lcoin f st 0 (tal es) := hco
      have hld : ld1 = lnum st ld (tal es) := hln
      refine hG.sub (S := up1 (up1 (up1 M r (some (obC ciX2 [f0, f1, f2, f3, f4, f5, .ref fa, .int hr, .int st, .int rp, .int (lnum st ld (tal es)), .int pd, .int cr]))) mp (some (mpC mo1 (ks ++ [])))) it none) (fun q x hq => ?_) ?_
      · by_cases e1 : q = it
        · rw [e1, up1_s] at hq; cases hq
        · rw [up1_n e1] at hq
          by_cases e2 : q = mp
          · rw [e2, up1_s] at hq
            rw [e2, hmp]
            exact hq
          · rw [up1_n e2] at hq
            by_cases e3 : q = r
            · rw [e3, up1_s] at hq
              rw [e3, hr1, hld]
              exact hq
            · rw [up1_n e3] at hq
              rw [ho q e1 e2 e3]
              exact hq
      refine hG.clT (up1 L r (some (obC ciX2 [f0, f1, f2, f3, f4, f5, .ref fa, .int hr, .int st, .int rp, .int (lnum st ld (tal es)), .int pd, .int cr]))) _ hne (by rw [up1_n hbit, up1_n hne.symm, up1_n hrb.symm]; exact hMa) (by rw [up1_n hmit, up1_s]) hfin (fun q x hq hqb => ?_) ?_
      · by_cases e2 : q = r
        · subst e2
          rw [up1_s] at hq
          exact ⟨by simp [hrb, hrm], by rw [up1_n hrit, up1_n hrm, up1_s]; exact hq⟩
        · rw [up1_n e2] at hq
          obtain ⟨k1, k2⟩ := hf q x hq hqb
          have e3 : q ≠ it := fun e => by rw [e, hitn] at k2; cases k2
          have e4 : q ≠ mp := fun e => k1 (by simp [e])
          exact ⟨k1, by rw [up1_n e3, up1_n e4, up1_n e2]; exact k2⟩
      rw [up1_comm hrb]
      refine hG.iload_n dX2_land_2_123 rfl ?_
      refine hG.iret dX2_land_2_124 rfl ?_ (by omega) (by omega) trivial
      exact ⟨by rw [hac], rfl⟩
    | cons x rest ih =>
      intro ks acc ld1 mo1 cv I1 L1 hit hmp hr1 ho hrl hfl hco hln
      have hx : (ks ++ x :: rest)[ks.length]? = some x := get_mid
      have hxm : x ∈ ks ++ x :: rest := by simp
      have hxl := hrl x (by simp)
      refine hG.aload_n dX2_land_2_15 rfl ?_
      refine hG.callF dX2_land_2_16 kf_X2_51_J23 (Rcv.raw hit cl_J23) cl_J23 (sp_J22_hasNext hΓ hit) rfl rfl (Nat.le_of_ble_eq_true rfl) (by decide) (by omega) (by omega) (fun r16 I16 L16 hI16 h16 => ?_) (fun _ _ _ _ _ h => h.elim)
      obtain ⟨rfl, rfl, rfl⟩ := h16
      refine hG.if_eq (tgt := 123) dX2_land_2_21 rfl (fun c_21 => absurd c_21 (by rw [ads_get hx]; exact (by decide : ¬ b2i true = 0))) (fun c_21 => ?_)
      refine hG.aload_n dX2_land_2_24 rfl ?_
      refine hG.callF dX2_land_2_25 kf_X2_57_J23 (Rcv.raw hit cl_J23) cl_J23 (sp_J23_next hΓ hx hmp hit) rfl rfl (Nat.le_of_ble_eq_true rfl) (by decide) (by omega) (by omega) (fun r25 I25 L25 hI25 h25 => ?_) (fun _ _ _ _ _ h => h.elim)
      obtain ⟨rfl, rfl, rfl⟩ := h25
      have hit2 : (up1 L1 it (some (obC ciJ23 [va_rf (ads (ks ++ x :: rest))[ks.length + 1]?, .ref x.1, .int (mo1), .int 0, .ref mp]))) it = _ := up1_s
      have hmp2 := (up1_n (x := some (obC ciJ23 [va_rf (ads (ks ++ x :: rest))[ks.length + 1]?, .ref x.1, .int (mo1), .int 0, .ref mp])) hmit).trans hmp
      have hr2 := (up1_n (x := some (obC ciJ23 [va_rf (ads (ks ++ x :: rest))[ks.length + 1]?, .ref x.1, .int (mo1), .int 0, .ref mp])) hrit).trans hr1
      have hfa2 : (up1 L1 it (some (obC ciJ23 [va_rf (ads (ks ++ x :: rest))[ks.length + 1]?, .ref x.1, .int (mo1), .int 0, .ref mp]))) fa = _ := (up1_n hfit).trans ((ho fa hfit hfm hrf.symm).trans hMf)
      refine hG.castY dX2_land_2_30 q2043 (Rcv.en hmp2 hxm) q739 ?_
      refine hG.astore dX2_land_2_33 (by decide) ?_
      refine hG.aload dX2_land_2_35 rfl ?_
      refine hG.callF dX2_land_2_37 kf_X2_205_J31 (Rcv.en hmp2 hxm) cl_J31 (sp_J30_getKey hΓ hmp2 hxm) rfl rfl (Nat.le_of_ble_eq_true rfl) (by decide) (by omega) (by omega) (fun r37 I37 L37 hI37 h37 => ?_) (fun _ _ _ _ _ h => h.elim)
      obtain ⟨rfl, rfl, g, rfl, hg⟩ := h37
      refine hG.castS dX2_land_2_42 q2046 (Rcv.imm hg cl_X9) cl_X9 ?_
      refine hG.astore dX2_land_2_45 (by decide) ?_
      refine hG.aload dX2_land_2_47 rfl ?_
      refine hG.get dX2_land_2_49 fg_X2_274_X9 (Or.inr hg) rfl ?_
      refine hG.aload_n dX2_land_2_52 rfl ?_
      refine hG.get dX2_land_2_53 fg_X2_84_X2 (Or.inl hr2) rfl ?_
      refine hG.icmp_ne (tgt := 120) dX2_land_2_56 rfl (fun c_56 => ?_) (fun c_56 => ?_)
      · refine hG.goto (tgt := 15) dX2_land_2_120 rfl ?_
        have hxt : ¬ nI (x.2.1 % 7) = st := c_56
        refine hG.lsb [(0, .ref r), (2, .int acc), (3, .ref it)] ⟨rfl, rfl, rfl, trivial⟩ ?_
        have e8 : ks ++ x :: rest = (ks ++ [x]) ++ rest := by simp
        have e9 : ks.length + 1 = (ks ++ [x]).length := by simp
        rw [e8, e9] at hit2 hmp2 hr2 ⊢
        refine ih (ks ++ [x]) acc ld1 mo1 (.ref x.1) _ _ hit2 hmp2 hr2 (fun z z1 z2 z3 => (up1_n z1).trans (ho z z1 z2 z3)) (fun y hy => hrl y (by simp [hy])) ?_ ?_ ?_
        · rw [← hfl]
          show tal (ks ++ [x]) ++ _ = _
          simp [tal, lkeep, hxt]
        · rw [← hco]
          show _ = lcoin f st (if nI (x.2.1 % 7) = st then _ else acc) (tal rest)
          rw [if_neg hxt]
        · rw [← hln]
          show _ = lnum st (if nI (x.2.1 % 7) = st then _ else ld1) (tal rest)
          rw [if_neg hxt]
      · refine hG.iload_n dX2_land_2_59 rfl ?_
        refine hG.aload dX2_land_2_60 rfl ?_
        refine hG.callF dX2_land_2_62 kf_X2_214_J31 (Rcv.en hmp2 hxm) cl_J31 (sp_J30_getValue hΓ hmp2 hxm) rfl rfl (Nat.le_of_ble_eq_true rfl) (by decide) (by omega) (by omega) (fun r62 I62 L62 hI62 h62 => ?_) (fun _ _ _ _ _ h => h.elim)
        obtain ⟨rfl, rfl, v, rfl, hv⟩ := h62
        refine hG.castS dX2_land_2_67 q2049 (Rcv.imm hv cl_J25) cl_J25 ?_
        refine hG.callV dX2_land_2_70 kv_X2_219 (Rcv.imm hv cl_J25) (sp_J25_intValue hΓ (Or.inr hv)) rfl rfl (Nat.le_of_ble_eq_true rfl) (by decide) (by omega) (by omega) (fun r70 I70 L70 hI70 h70 => ?_) (fun _ _ _ _ _ h => h.elim)
        obtain ⟨rfl, rfl, rfl⟩ := h70
        refine hG.aload dX2_land_2_73 rfl ?_
        refine hG.callV dX2_land_2_75 kv_X2_277 (Rcv.imm hg cl_X9) (sp_X9_channels hΓ hg) rfl rfl (Nat.le_of_ble_eq_true rfl) (by decide) (by omega) (by omega) (fun r75 I75 L75 hI75 h75 => ?_) (fun _ _ _ _ _ h => h.elim)
        obtain ⟨rfl, rfl, rfl⟩ := h75
        refine hG.imul dX2_land_2_78 ?_
        refine hG.aload_n dX2_land_2_79 rfl ?_
        refine hG.get dX2_land_2_80 fg_X2_37_X2 (Or.inl hr2) rfl ?_
        refine hG.aload dX2_land_2_83 rfl ?_
        refine hG.get dX2_land_2_85 fg_X2_279_X9 (Or.inr hg) rfl ?_
        refine hG.iald dX2_land_2_88 (Or.inl hfa2) (vp_in_nI (by omega) (by decide)) ?_
        rw [nI_clamp (by omega)]
        refine hG.imul dX2_land_2_89 ?_
        refine hG.iadd dX2_land_2_90 ?_
        refine hG.istore_n dX2_land_2_91 (by decide) ?_
        refine hG.aload_n dX2_land_2_92 rfl ?_
        refine hG.dup dX2_land_2_93 rfl ?_
        refine hG.get dX2_land_2_94 fg_X2_87_X2 (Or.inl hr2) rfl ?_
        refine hG.aload dX2_land_2_97 rfl ?_
        refine hG.callF dX2_land_2_99 kf_X2_214_J31 (Rcv.en hmp2 hxm) cl_J31 (sp_J30_getValue hΓ hmp2 hxm) rfl rfl (Nat.le_of_ble_eq_true rfl) (by decide) (by omega) (by omega) (fun r99 I99 L99 hI99 h99 => ?_) (fun _ _ _ _ _ h => h.elim)
        obtain ⟨rfl, rfl, v2, rfl, hv2⟩ := h99
        refine hG.castS dX2_land_2_104 q2049 (Rcv.imm hv2 cl_J25) cl_J25 ?_
        refine hG.callV dX2_land_2_107 kv_X2_219 (Rcv.imm hv2 cl_J25) (sp_J25_intValue hΓ (Or.inr hv2)) rfl rfl (Nat.le_of_ble_eq_true rfl) (by decide) (by omega) (by omega) (fun r107 I107 L107 hI107 h107 => ?_) (fun _ _ _ _ _ h => h.elim)
        obtain ⟨rfl, rfl, rfl⟩ := h107
        refine hG.iadd dX2_land_2_110 ?_
        refine hG.put dX2_land_2_111 fp_X2_87_X2 hr2 rfl rfl (Nat.le_of_ble_eq_true rfl) ?_
        refine hG.aload_n dX2_land_2_114 rfl ?_
        refine hG.callF dX2_land_2_115 kf_X2_173_J23 (Rcv.raw ((up1_n hrit.symm).trans hit2) cl_J23) cl_J23 (sp_J22_remove hΓ hZ.nt ((up1_n hrm.symm).trans hmp2) ((up1_n hrit.symm).trans hit2)) rfl rfl (Nat.le_of_ble_eq_true rfl) (by decide) (by omega) (by omega) (fun r115 I115 L115 hI115 h115 => ?_) (fun _ _ _ _ _ h => h.elim)
        obtain ⟨rfl, rfl, rfl⟩ := h115
        refine hG.goto (tgt := 15) dX2_land_2_120 rfl ?_
        have hxt : nI (x.2.1 % 7) = st := by simpa using c_56
        refine hG.lsb [(0, .ref r), (2, .int (acc + x.2.2 * chn x.2.1 * f (x.2.1 / 49))), (3, .ref it)] ⟨rfl, rfl, rfl, trivial⟩ ?_
        have e9 : (ads (ks ++ x :: rest))[ks.length + 1]? = (ads (ks ++ rest))[ks.length]? := get_rm
        rw [e9]
        refine ih ks _ (ld1 + x.2.2) (mo1 + 1) .null _ _ up1_s ((up1_n hmit).trans up1_s) ((up1_n hrit).trans ((up1_n hrm).trans up1_s)) (fun z z1 z2 z3 => (up1_n z1).trans ((up1_n z2).trans ((up1_n z3).trans ((up1_n z1).trans (ho z z1 z2 z3))))) (fun y hy => hrl y (by simp [hy])) ?_ ?_ ?_
        · rw [← hfl]
          simp [tal, lkeep, hxt]
        · rw [← hco]
          show _ = lcoin f st (if nI (x.2.1 % 7) = st then _ else acc) (tal rest)
          rw [if_pos hxt]
        · rw [← hln]
          show _ = lnum st (if nI (x.2.1 % 7) = st then _ else ld1) (tal rest)
          rw [if_pos hxt]
  exact hG.lsb [(0, .ref r), (2, .int 0), (3, .ref it)] ⟨rfl, rfl, rfl, trivial⟩ (loop es [] 0 ld mo .null _ _ up1_s ((up1_n hmit).trans hMm) ((up1_n hrit).trans hMr) (fun z z1 z2 z3 => up1_n z1) hlt rfl rfl rfl)
