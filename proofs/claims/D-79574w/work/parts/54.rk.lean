/-! an hour -/
def dragA (R : Rv) (a : T3) : T3 := match R.ch[a.1.toNatClampNeg]? with
  | some c0 => drg1 R c0 a R.hr 1
  | none => a
def AnOk (R : Rv) : Prop := R.ch.length ≤ 6 ∧ ∀ a ∈ R.an, ∃ j c0, a.1 = nI j ∧ R.ch[j]? = some c0
theorem dragA_at {R : Rv} {a c0 : T3} {j : Nat} (hl : R.ch.length ≤ 6) (h1 : a.1 = nI j) (h2 : R.ch[j]? = some c0) : dragA R a = drg1 R c0 a R.hr 1 := by
  have hj : j < R.ch.length := (List.getElem?_eq_some_iff.mp h2).1
  unfold dragA
  rw [h1, nI_clamp (by omega), h2]
abbrev anK (R : Rv) (k : Nat) : List T3 := (R.an.take k).map (dragA R) ++ R.an.drop k
theorem anK_at {R : Rv} {k : Nat} {a : T3} (h : R.an[k]? = some a) : (anK R k)[k]? = some a := by
  have hk : k < R.an.length := (List.getElem?_eq_some_iff.mp h).1
  unfold anK
  rw [List.getElem?_append_right (by simp; omega)]
  simp [Nat.min_eq_left (Nat.le_of_lt hk), h]
theorem anK_len {R : Rv} {k : Nat} : (anK R k).length = R.an.length := by simp [anK]; omega
theorem anK_set {R : Rv} {k : Nat} {a : T3} (h : R.an[k]? = some a) : (anK R k).set k (dragA R a) = anK R (k + 1) := by
  obtain ⟨hk, e⟩ := List.getElem?_eq_some_iff.mp h
  unfold anK
  rw [take_next h, List.map_append, List.drop_eq_getElem_cons hk, e]
  rw [List.set_append, if_neg (by simp; omega)]
  simp [Nat.min_eq_left (Nat.le_of_lt hk)]
theorem anK_end {R : Rv} {k : Nat} (h : R.an.length ≤ k) : anK R k = R.an.map (dragA R) := by
  unfold anK
  rw [List.take_of_length_le h, List.drop_of_length_le h, List.append_nil]
abbrev liveR1 (R : Rv) : Rv := (R.wAn (R.an.map (dragA R))).wHr (R.hr + 1)
abbrev liveR (R : Rv) : Rv := (liveR1 R).wFl (R.fl.filter (fun f => !decide (f.2.2 ≤ R.hr + 1)))

theorem kf_X2_173_J15 : LkF RX2 173 RJ15 ⟨"java/util/Iterator", "remove", "()V"⟩ yJ15_remove 0 := ⟨q1931, q1934, q1936, q94, ⟨by decide +kernel, by decide +kernel, by decide +kernel⟩, q1933, q1932, q1937, q1935, q442⟩
theorem fp_X2_81_X2 {nm : String} : LkP RX2 nm 81 ciX2 7 (tyX2 7) := ⟨RX2, TX2, 13, tyX2, _, cls_X2, by decide, rfl, Or.inl rfl, Or.inl ⟨rfl, q266⟩⟩
set_option maxHeartbeats 4000000 in
set_option maxRecDepth 100000 in
theorem sp_X2_live {l : Launch} {s0 : State} {D : va_G} {I : AI} {L : AL} {dE ca : Nat} {ad : Nat → Nat} {r : Nat} {R : Rv} {A : RA} (hΓ : Gam l s0 D) (hZ : Std s0 D dE ca ad) (h : RvO dE I L r R A) (hok : AnOk R) (hl6 : R.an.length ≤ 6) : Spc l s0 D yX2_live 12 [.ref r] I L 37 130 (fun q I' L' => q = none ∧ ∃ A', RvO dE I' L' r (liveR R) A' ∧ Far L (RN r A) (RN r A') L') noX := by
  refine Spc.of hΓ cX2_live 3 none q1900 (by decide +kernel) (by decide) (Nat.le_of_ble_eq_true rfl) (fun G GX hG => ?_)
  have loop : ∀ (w k : Nat) (A1 : RA) (I1 : AI) (L1 : AL), k + w = R.an.length → RvO dE I1 L1 r (R.wAn (anK R k)) A1 → Far L (RN r A) (RN r A1) L1 → (∀ (A2 : RA) (I2 : AI) (L2 : AL), RvO dE I2 L2 r (R.wAn (R.an.map (dragA R))) A2 → Far L (RN r A) (RN r A2) L2 → G 73 [(0, .ref r)] [] I2 L2 36 126) → G 2 [(0, .ref r), (1, .int (nI k))] [] I1 L1 (6 * k) (21 * k) := by
    intro w
    induction w with
    | zero =>
      intro k A1 I1 L1 hkw h1 hF kk
      refine hG.peek h1.h2 (fun J9 S9 _ hli => ?_)
      have hl10 : A1.zs.length ≤ 10 := hli.1
      have hll := h1.e2.len
      have hll2 : A1.zs.length = R.an.length := hll.trans anK_len
      refine hG.iload_n dX2_live_2 rfl ?_
      refine hG.aload_n dX2_live_3 rfl ?_
      refine hG.get dX2_live_4 fg_X2_21_X2 (Or.inl h1.h) rfl ?_
      refine hG.callF dX2_live_7 kf_X2_96_J2 (Rcv.li h1.h2) cl_J2 (sp_J2_size hΓ h1.h2) rfl rfl (Nat.le_of_ble_eq_true rfl) (by decide) (by omega) (by omega) (fun r7 I7 L7 hI7 h7 => ?_) (fun _ _ _ _ _ h => h.elim)
      obtain ⟨rfl, rfl, rfl⟩ := h7
      refine hG.icmp_ge (tgt := 73) dX2_live_12 rfl (fun c_12 => ?_) (fun c_12 => absurd (nI_le (by omega) (by omega)) c_12)
      refine hG.lsb [(0, .ref r)] ⟨rfl, trivial⟩ (hG.wid (k' := 36) (n' := 126) (by omega) (by omega) (kk A1 _ _ (by rw [← anK_end (R := R) (k := k) (by omega)]; exact h1) hF))
    | succ w ih =>
      intro k A1 I1 L1 hkw h1 hF kk
      refine hG.peek h1.h2 (fun J9 S9 _ hli => ?_)
      have hl10 : A1.zs.length ≤ 10 := hli.1
      have hll := h1.e2.len
      have hll2 : A1.zs.length = R.an.length := hll.trans anK_len
      obtain ⟨a, ha, ham⟩ := get_lt (show k < R.an.length by omega)
      obtain ⟨j, c0, haj, hj⟩ := hok.2 a ham
      have hda := dragA_at hok.1 haj hj
      obtain ⟨x, hx, hxc⟩ := h1.e2.get (anK_at ha)
      refine hG.iload_n dX2_live_2 rfl ?_
      refine hG.aload_n dX2_live_3 rfl ?_
      refine hG.get dX2_live_4 fg_X2_21_X2 (Or.inl h1.h) rfl ?_
      refine hG.callF dX2_live_7 kf_X2_96_J2 (Rcv.li h1.h2) cl_J2 (sp_J2_size hΓ h1.h2) rfl rfl (Nat.le_of_ble_eq_true rfl) (by decide) (by omega) (by omega) (fun r7 I7 L7 hI7 h7 => ?_) (fun _ _ _ _ _ h => h.elim)
      obtain ⟨rfl, rfl, rfl⟩ := h7
      refine hG.icmp_ge (tgt := 73) dX2_live_12 rfl (fun c_12 => absurd c_12 (nI_ge (by omega) (by omega))) (fun c_12 => ?_)
      refine hG.aload_n dX2_live_15 rfl ?_
      refine hG.get dX2_live_16 fg_X2_21_X2 (Or.inl h1.h) rfl ?_
      refine hG.iload_n dX2_live_19 rfl ?_
      refine hG.aload_n dX2_live_20 rfl ?_
      refine hG.get dX2_live_21 fg_X2_21_X2 (Or.inl h1.h) rfl ?_
      refine hG.iload_n dX2_live_24 rfl ?_
      refine hG.callF dX2_live_25 kf_X2_108_J2 (Rcv.li h1.h2) cl_J2 (sp_J2_get hΓ h1.h2 hx) rfl rfl (Nat.le_of_ble_eq_true rfl) (by decide) (by omega) (by omega) (fun r25 I25 L25 hI25 h25 => ?_) (fun _ _ _ _ _ h => h.elim)
      obtain ⟨rfl, rfl, rfl⟩ := h25
      refine hG.castS dX2_live_30 q656 (Rcv.imm hxc cl_X8) cl_X8 ?_
      refine hG.aload_n dX2_live_33 rfl ?_
      refine hG.aload_n dX2_live_34 rfl ?_
      refine hG.get dX2_live_35 fg_X2_21_X2 (Or.inl h1.h) rfl ?_
      refine hG.iload_n dX2_live_38 rfl ?_
      refine hG.callF dX2_live_39 kf_X2_108_J2 (Rcv.li h1.h2) cl_J2 (sp_J2_get hΓ h1.h2 hx) rfl rfl (Nat.le_of_ble_eq_true rfl) (by decide) (by omega) (by omega) (fun r39 I39 L39 hI39 h39 => ?_) (fun _ _ _ _ _ h => h.elim)
      obtain ⟨rfl, rfl, rfl⟩ := h39
      refine hG.castS dX2_live_44 q656 (Rcv.imm hxc cl_X8) cl_X8 ?_
      refine hG.aload_n dX2_live_47 rfl ?_
      refine hG.get dX2_live_48 fg_X2_81_X2 (Or.inl h1.h) rfl ?_
      refine hG.callV dX2_live_51 kv_X2_159 (Rcv.raw h1.h cl_X2) (sp_X2_drags hΓ hZ h1 hxc haj hj) rfl rfl (Nat.le_of_ble_eq_true rfl) (by decide) (by omega) (by omega) (fun r51 I51 L51 hI51 h51 => ?_) (fun _ _ _ _ _ h => h.elim)
      obtain ⟨rfl, rfl⟩ := h51
      refine hG.iconst (v := 1) dX2_live_54 rfl ?_
      refine hG.callV dX2_live_55 kv_X2_162 (Rcv.imm (hI51 _ _ hxc) cl_X8) (sp_X8_dragged hΓ (hI51 _ _ hxc)) rfl rfl (Nat.le_of_ble_eq_true rfl) (by decide) (by omega) (by omega) (fun r55 I55 L55 hI55 h55 => ?_) (fun _ _ _ _ _ h => h.elim)
      obtain ⟨rfl, y, rfl, hy⟩ := h55
      have hm := h1.mono (ile_tr hI51 hI55) (fun _ _ _ hx => hx)
      have hy2 : I55 y (t3E ciX8 (dragA R a)) := by rw [hda]; exact hy
      refine hG.callF dX2_live_58 kf_X2_166_J2 (Rcv.li hm.h2) cl_J2 (sp_J2_set hΓ (elt_of hy cl_X8 q3712) hm.h2 hx) rfl rfl (Nat.le_of_ble_eq_true rfl) (by decide) (by omega) (by omega) (fun r58 I58 L58 hI58 h58 => ?_) (fun _ _ _ _ _ h => h.elim)
      obtain ⟨rfl, rfl, rfl⟩ := h58
      have h2 := hm.sAn (m := A1.m2) (hm.e2.set (i := k) hy2)
      refine hG.castS dX2_live_63 q656 (Rcv.imm ((ile_tr hI51 hI55) _ _ hxc) cl_X8) cl_X8 ?_
      refine hG.astore_n dX2_live_66 (by decide) ?_
      refine hG.iinc dX2_live_67 rfl (by decide) ?_
      refine hG.goto (tgt := 2) dX2_live_70 rfl ?_
      refine hG.lsb [(0, .ref r), (1, .int (nI k + Int32.ofInt 1))] ⟨rfl, rfl, trivial⟩ ?_
      rw [show nI k + Int32.ofInt 1 = nI (k + 1) from nI_add k 1]
      refine ih (k + 1) ((A1.wM2 A1.m2).wZs (A1.zs.set k y)) _ _ (by omega) ?_ (hF.tr (h1.f_a2 _)) kk
      have h3 := h2
      rw [show (anK R k).set k (dragA R a) = anK R (k + 1) from anK_set ha] at h3
      exact h3
  have k73 : ∀ (A2 : RA) (I2 : AI) (L2 : AL), RvO dE I2 L2 r (R.wAn (R.an.map (dragA R))) A2 → Far L (RN r A) (RN r A2) L2 → G 73 [(0, .ref r)] [] I2 L2 36 126 := by
    intro A2 I2 L2 h2 hF2
    refine hG.aload_n dX2_live_73 rfl ?_
    refine hG.dup dX2_live_74 rfl ?_
    refine hG.get dX2_live_75 fg_X2_81_X2 (Or.inl h2.h) rfl ?_
    refine hG.iconst (v := 1) dX2_live_78 rfl ?_
    refine hG.iadd dX2_live_79 ?_
    refine hG.put dX2_live_80 fp_X2_81_X2 h2.h rfl rfl (Nat.le_of_ble_eq_true rfl) ?_
    have h3 := h2.sInts (R.hr + 1) R.st R.rp R.ld R.pd R.cr
    refine hG.aload_n dX2_live_83 rfl ?_
    refine hG.get dX2_live_84 fg_X2_18_X2 (Or.inl h3.h) rfl ?_
    refine hG.callF dX2_live_87 kf_X2_45_J2 (Rcv.li h3.h1) cl_J2 (sp_J2_iterator hΓ h3.h1) rfl rfl (Nat.le_of_ble_eq_true rfl) (by decide) (by omega) (by omega) (fun r87 I87 L87 hI87 h87 => ?_) (fun _ _ _ _ _ h => h.elim)
    obtain ⟨rfl, it, hita, hitn, rfl, rfl⟩ := h87
    have hitN : it ∉ RN r A2 := fun hm => h3.dom it hm hitn
    have hF3 := hF2.tr (h2.f_r (some (obC ciX2 [.ref A2.a0, .ref A2.a1, .ref A2.a2, .ref A2.a3, .ref A2.a4, .ref A2.a5, .ref A2.a6, .int (R.hr + 1), .int R.st, .int R.rp, .int R.ld, .int R.pd, .int R.cr])))
    have hitL : ∀ z y, L z = some y → z ∉ RN r A → z ≠ it := fun z y hz hn e => by
      have := (hF3 z y hz hn).2
      rw [e] at this
      have h9 := hitn.symm.trans this
      cases h9
    refine hG.astore_n dX2_live_92 (by decide) ?_
    have loop2 : ∀ (rest ks : List T3) (ys : List Nat) (lr m1 : Int32) (I1 : AI) (L1 : AL), L1 it = some (obC ciJ15 [.int (nI ks.length), .int lr, .int m1, .ref A2.a1]) → RvO dE I1 L1 r ((liveR1 R).wFl (ks ++ rest)) ((A2.wM1 m1).wYs ys) → ks ++ rest.filter (fun f => !decide (f.2.2 ≤ R.hr + 1)) = R.fl.filter (fun f => !decide (f.2.2 ≤ R.hr + 1)) → Far L (RN r A) (RN r A2) L1 → G 93 [(0, .ref r), (1, .ref it)] [] I1 L1 37 130 := by
      intro rest
      induction rest with
      | nil =>
        intro ks ys lr m1 I1 L1 hit h1 hfl hF
        have hll := h1.e1.len
        have hfl2 : ks = R.fl.filter (fun f => !decide (f.2.2 ≤ R.hr + 1)) := by rw [← hfl]; simp
        have hle : ks.length = ys.length := by rw [hll]; simp
        refine hG.aload_n dX2_live_93 rfl ?_
        refine hG.callF dX2_live_94 kf_X2_51_J15 (Rcv.raw hit cl_J15) cl_J15 (sp_J15_hasNext hΓ (Nat.le_of_eq hle) h1.h1 hit) rfl rfl (Nat.le_of_ble_eq_true rfl) (by decide) (by omega) (by omega) (fun r94 I94 L94 hI94 h94 => ?_) (fun _ _ _ _ _ h => h.elim)
        obtain ⟨rfl, rfl, rfl⟩ := h94
        refine hG.if_eq (tgt := 130) dX2_live_99 rfl (fun c_99 => ?_) (fun c_99 => absurd (by rw [decide_eq_false (by omega)]; rfl) c_99)
        refine hG.vret dX2_live_130 rfl ?_ (by omega) (by omega) trivial
        refine ⟨rfl, (A2.wM1 m1).wYs ys, ?_, hF⟩
        rw [List.append_nil] at h1
        rw [show liveR R = (liveR1 R).wFl ks by rw [hfl2]]
        exact h1
      | cons f rest ih =>
        intro ks ys lr m1 I1 L1 hit h1 hfl hF
        have hll : ys.length = (ks ++ f :: rest).length := h1.e1.len
        have hll2 : ks.length < ys.length := by rw [hll]; simp
        have hf9 : (ks ++ f :: rest)[ks.length]? = some f := get_mid
        obtain ⟨x, hx, hxc⟩ := h1.e1.get hf9
        have hm : ∀ c, RvO dE I1 (up1 L1 it c) r ((liveR1 R).wFl (ks ++ f :: rest)) ((A2.wM1 m1).wYs ys) := fun c => h1.mono ile_rf (fun q hq y hy => (up1_n (fun e : q = it => hitN (e ▸ hq))).trans hy)
        have hFu : ∀ c, Far L (RN r A) (RN r A2) (up1 L1 it c) := fun c z y hz hn => by
          obtain ⟨k1, k2⟩ := hF z y hz hn
          exact ⟨k1, (up1_n (hitL z y hz hn)).trans k2⟩
        refine hG.aload_n dX2_live_93 rfl ?_
        refine hG.callF dX2_live_94 kf_X2_51_J15 (Rcv.raw hit cl_J15) cl_J15 (sp_J15_hasNext hΓ (Nat.le_of_lt hll2) h1.h1 hit) rfl rfl (Nat.le_of_ble_eq_true rfl) (by decide) (by omega) (by omega) (fun r94 I94 L94 hI94 h94 => ?_) (fun _ _ _ _ _ h => h.elim)
        obtain ⟨rfl, rfl, rfl⟩ := h94
        refine hG.if_eq (tgt := 130) dX2_live_99 rfl (fun c_99 => absurd c_99 (by rw [decide_eq_true hll2]; decide)) (fun c_99 => ?_)
        refine hG.aload_n dX2_live_102 rfl ?_
        refine hG.callF dX2_live_103 kf_X2_57_J15 (Rcv.raw hit cl_J15) cl_J15 (sp_J15_next hΓ hx h1.h1 hit) rfl rfl (Nat.le_of_ble_eq_true rfl) (by decide) (by omega) (by omega) (fun r103 I103 L103 hI103 h103 => ?_) (fun _ _ _ _ _ h => h.elim)
        obtain ⟨rfl, rfl, rfl⟩ := h103
        refine hG.castS dX2_live_108 q655 (Rcv.imm hxc cl_X11) cl_X11 ?_
        refine hG.get dX2_live_111 fg_X2_170_X11 (Or.inr hxc) rfl ?_
        refine hG.aload_n dX2_live_114 rfl ?_
        refine hG.get dX2_live_115 fg_X2_81_X2 (Or.inl (hm _).h) rfl ?_
        refine hG.icmp_gt (tgt := 93) dX2_live_118 rfl (fun c_118 => ?_) (fun c_118 => ?_)
        · refine hG.lsb [(0, .ref r), (1, .ref it)] ⟨rfl, rfl, trivial⟩ ?_
          have hgt : ¬ f.2.2 ≤ R.hr + 1 := lt_not.mp c_118
          have e8 : ks ++ f :: rest = (ks ++ [f]) ++ rest := by simp
          have hm2 := hm (some (obC ciJ15 [.int (nI (ks.length + 1)), .int (nI ks.length), .int m1, .ref A2.a1]))
          rw [e8] at hm2
          exact ih (ks ++ [f]) ys (nI ks.length) m1 _ _ (by rw [up1_s, List.length_append, List.length_singleton]) hm2 (by rw [← hfl]; simp [List.filter_cons, hgt]) (hFu _)
        · refine hG.aload_n dX2_live_121 rfl ?_
          refine hG.callFW dX2_live_122 kf_X2_173_J15 (Rcv.raw up1_s cl_J15) cl_J15 (sp_J15_remove hΓ (h1.e1.elt cl_X11 q3715) hx (hm _).h1 up1_s) rfl rfl (Nat.le_of_ble_eq_true rfl) (by decide) (by omega) (by omega) (fun r122 I122 L122 hI122 h122 => ?_) (fun _ _ _ _ _ h => h.elim)
          obtain ⟨rfl, rfl, rfl⟩ := h122
          refine hG.goto (tgt := 93) dX2_live_127 rfl ?_
          refine hG.lsb [(0, .ref r), (1, .ref it)] ⟨rfl, rfl, trivial⟩ ?_
          have hle9 : f.2.2 ≤ R.hr + 1 := Decidable.not_not.mp (fun q => c_118 (lt_not.mpr q))
          have h3 := (hm (some (obC ciJ15 [.int (nI (ks.length + 1)), .int (nI ks.length), .int m1, .ref A2.a1]))).sFl (m := m1 + 1) (h1.e1.ers (i := ks.length))
          have e8 : (ks ++ f :: rest).eraseIdx ks.length = ks ++ rest := by simp [List.eraseIdx_append_of_length_le]
          rw [e8] at h3
          refine ih ks (ys.eraseIdx ks.length) _ (m1 + 1) _ _ up1_s (h3.mono ile_rf (fun q hq y hy => (up1_n (fun e : q = it => hitN (e ▸ hq))).trans hy)) (by rw [← hfl]; simp [List.filter_cons, hle9]) (fun z y hz hn => ?_)
          obtain ⟨k1, k2⟩ := ((hFu (some (obC ciJ15 [.int (nI (ks.length + 1)), .int (nI ks.length), .int m1, .ref A2.a1]))).tr ((hm (some (obC ciJ15 [.int (nI (ks.length + 1)), .int (nI ks.length), .int m1, .ref A2.a1]))).f_a1 _)) z y hz hn
          exact ⟨k1, (up1_n (hitL z y hz hn)).trans k2⟩
    exact hG.lsb [(0, .ref r), (1, .ref it)] ⟨rfl, rfl, trivial⟩ (loop2 R.fl [] A2.ys _ A2.m1 _ _ up1_s (h3.mono ile_rf (fun q hq y hy => (up1_n (fun e : q = it => hitN (e ▸ hq))).trans hy)) rfl (fun z y hz hn => ⟨(hF3 z y hz hn).1, (up1_n (hitL z y hz hn)).trans (hF3 z y hz hn).2⟩))
  refine hG.iconst (v := 0) dX2_live_0 rfl ?_
  refine hG.istore_n dX2_live_1 (by decide) ?_
  exact hG.lsb [(0, .ref r), (1, .int (nI 0))] ⟨rfl, rfl, trivial⟩ (loop R.an.length 0 A I L (by omega) (by rw [show anK R 0 = R.an from rfl]; exact h) Far.rf k73)
