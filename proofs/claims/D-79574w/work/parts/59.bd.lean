/-! a river becomes another one -/
theorem RvO.aw {dE : Nat} {I J : AI} {L : AL} {r a : Nat} {R : Rv} {A : RA} (h : RvO dE I L r R A) (hI : ile I J) (ha : a ∉ RN r A) (c : Option Cel) : RvO dE J (up1 L a c) r R A := h.mono hI (fun z hz y hy => (up1_n (fun e : z = a => ha (e ▸ hz))).trans hy)
theorem disj_n {r o : Nat} {A B : RA} (h : ∀ q ∈ RN r A, q ∉ RN o B) {a b : Nat} (ha : a ∈ RN r A) (hb : b ∈ RN o B) : b ≠ a := fun e => h a ha (e ▸ hb)
set_option maxHeartbeats 4000000 in
set_option maxRecDepth 100000 in
theorem sp_X2_become {l : Launch} {s0 : State} {D : va_G} {I : AI} {L : AL} {dE ca : Nat} {ad : Nat → Nat} (hΓ : Gam l s0 D) (hZ : Std s0 D dE ca ad) {r o : Nat} {A B : RA} {Ro : Rv} (h : RvO dE I L r rv0 A) (g : RvO dE I L o Ro B) (hd : ∀ q ∈ RN r A, q ∉ RN o B) (hw : TOk Ro.ch.length Ro.wa) (hf : TOk Ro.ch.length Ro.fo) (ha : TOk Ro.ch.length Ro.af) (hlw : Ro.wa.length ≤ 24) (hlf : Ro.fo.length ≤ 24) (hla : Ro.af.length ≤ 24) : Spc l s0 D yX2_become 11 [.ref r, .ref o] I L 300 3400 (fun q I' L' => q = some (.ref r) ∧ ∃ A', RvO dE I' L' r Ro A' ∧ Far L (RN r A) (RN r A') L') noX := by
  refine Spc.of hΓ cX2_become 4 (some (FieldType.object "BraidedFerry$River")) q408 (by decide +kernel) (by decide) (Nat.le_of_ble_eq_true rfl) (fun G GX hG => ?_)
  have k3 : ∀ (A2 : RA) (L2 : AL), RvO dE I L2 r (((rv0.wCh Ro.ch).wFl Ro.fl).wAn Ro.an) A2 → RvO dE I L2 o Ro B → (∀ q ∈ RN r A2, q ∉ RN o B) → Far L (RN r A) (RN r A2) L2 → G 129 [(0, .ref r), (1, .ref o)] [] I L2 33 312 := by
    intro A2 L2 h2 g2 hd F2
    refine hG.aload_n dX2_become_129 rfl ?_
    refine hG.get dX2_become_130 fg_X2_27_X2 (Or.inl h2.h) rfl ?_
    refine hG.aload_n dX2_become_133 rfl ?_
    refine hG.get dX2_become_134 fg_X2_27_X2 (Or.inl g2.h) rfl ?_
    refine hG.callV dX2_become_137 kv_X2_71 (Rcv.ta h2.h3) (sp_X3_addAll hΓ hZ h2.h3 g2.h3 (disj_n hd (by simp [RN]) (by simp [RN])).symm hw.nz hlw) rfl rfl (Nat.le_of_ble_eq_true rfl) (by decide) (by omega) (by omega) (fun r137 I137 L137 hI137 h137 => ?_) (fun _ _ _ _ _ h => h.elim)
    obtain ⟨rfl, rfl⟩ := h137
    have h3 := (h2.mono hI137 (fun _ _ _ hx => hx)).sWa Ro.wa
    have g3 := g2.aw hI137 (hd A2.a3 (by simp [RN])) (some (taC Ro.wa))
    have F3 := F2.tr (h2.f_a3 (some (taC Ro.wa)))
    refine hG.aload_n dX2_become_140 rfl ?_
    refine hG.get dX2_become_141 fg_X2_31_X2 (Or.inl h3.h) rfl ?_
    refine hG.aload_n dX2_become_144 rfl ?_
    refine hG.get dX2_become_145 fg_X2_31_X2 (Or.inl g3.h) rfl ?_
    refine hG.callV dX2_become_148 kv_X2_71 (Rcv.ta h3.h4) (sp_X3_addAll hΓ hZ h3.h4 g3.h4 (disj_n hd (by simp [RN]) (by simp [RN])).symm hf.nz hlf) rfl rfl (Nat.le_of_ble_eq_true rfl) (by decide) (by omega) (by omega) (fun r148 I148 L148 hI148 h148 => ?_) (fun _ _ _ _ _ h => h.elim)
    obtain ⟨rfl, rfl⟩ := h148
    have h4 := (h3.mono hI148 (fun _ _ _ hx => hx)).sFo Ro.fo
    have g4 := g3.aw hI148 (hd A2.a4 (by simp [RN])) (some (taC Ro.fo))
    have F4 := F3.tr (h3.f_a4 (some (taC Ro.fo)))
    refine hG.aload_n dX2_become_151 rfl ?_
    refine hG.get dX2_become_152 fg_X2_34_X2 (Or.inl h4.h) rfl ?_
    refine hG.aload_n dX2_become_155 rfl ?_
    refine hG.get dX2_become_156 fg_X2_34_X2 (Or.inl g4.h) rfl ?_
    refine hG.callV dX2_become_159 kv_X2_71 (Rcv.ta h4.h5) (sp_X3_addAll hΓ hZ h4.h5 g4.h5 (disj_n hd (by simp [RN]) (by simp [RN])).symm ha.nz hla) rfl rfl (Nat.le_of_ble_eq_true rfl) (by decide) (by omega) (by omega) (fun r159 I159 L159 hI159 h159 => ?_) (fun _ _ _ _ _ h => h.elim)
    obtain ⟨rfl, rfl⟩ := h159
    have h5 := (h4.mono hI159 (fun _ _ _ hx => hx)).sAf Ro.af
    have g5 := g4.aw hI159 (hd A2.a5 (by simp [RN])) (some (taC Ro.af))
    have F5 := F4.tr (h4.f_a5 (some (taC Ro.af)))
    refine hG.aload_n dX2_become_162 rfl ?_
    refine hG.get dX2_become_163 fg_X2_37_X2 (Or.inl g5.h) rfl ?_
    refine hG.iconst (v := 0) dX2_become_166 rfl ?_
    refine hG.aload_n dX2_become_167 rfl ?_
    refine hG.get dX2_become_168 fg_X2_37_X2 (Or.inl h5.h) rfl ?_
    refine hG.iconst (v := 0) dX2_become_171 rfl ?_
    refine hG.iconst (v := 3) dX2_become_172 rfl ?_
    refine hG.acopyI dX2_become_173 q1617 rfl (Or.inl g5.h6) h5.h6 (by decide) (by decide) (by decide) (by decide) (by decide) (fun _ _ => rfl) (Nat.le_of_ble_eq_true rfl) (by decide) ?_
    have h6 := h5.sFa (g := (va_cpy B.g A2.g 0 0 3)) Ro.f0 Ro.f1 Ro.f2 g5.g0 g5.g1 g5.g2
    have g6 := g5.aw ile_rf (hd A2.a6 (by simp [RN])) (some (.inl (arI 3 (va_cpy B.g A2.g 0 0 3))))
    have F6 := F5.tr (h5.f_a6 (some (.inl (arI 3 (va_cpy B.g A2.g 0 0 3)))))
    have hor : o ≠ r := disj_n hd (by simp [RN]) (by simp [RN])
    refine hG.aload_n dX2_become_176 rfl ?_
    refine hG.aload_n dX2_become_177 rfl ?_
    refine hG.get dX2_become_178 fg_X2_81_X2 (Or.inl g6.h) rfl ?_
    refine hG.put dX2_become_181 fp_X2_81_X2 h6.h rfl rfl (Nat.le_of_ble_eq_true rfl) ?_
    refine hG.aload_n dX2_become_184 rfl ?_
    refine hG.aload_n dX2_become_185 rfl ?_
    refine hG.get dX2_become_186 fg_X2_84_X2 (Or.inl ((up1_n hor).trans g6.h)) rfl ?_
    refine hG.put dX2_become_189 fp_X2_84_X2 up1_s rfl rfl (Nat.le_of_ble_eq_true rfl) ?_
    rw [up1_up1]
    refine hG.aload_n dX2_become_192 rfl ?_
    refine hG.aload_n dX2_become_193 rfl ?_
    refine hG.get dX2_become_194 fg_X2_41_X2 (Or.inl ((up1_n hor).trans g6.h)) rfl ?_
    refine hG.put dX2_become_197 fp_X2_41_X2 up1_s rfl rfl (Nat.le_of_ble_eq_true rfl) ?_
    rw [up1_up1]
    refine hG.aload_n dX2_become_200 rfl ?_
    refine hG.aload_n dX2_become_201 rfl ?_
    refine hG.get dX2_become_202 fg_X2_87_X2 (Or.inl ((up1_n hor).trans g6.h)) rfl ?_
    refine hG.put dX2_become_205 fp_X2_87_X2 up1_s rfl rfl (Nat.le_of_ble_eq_true rfl) ?_
    rw [up1_up1]
    refine hG.aload_n dX2_become_208 rfl ?_
    refine hG.aload_n dX2_become_209 rfl ?_
    refine hG.get dX2_become_210 fg_X2_90_X2 (Or.inl ((up1_n hor).trans g6.h)) rfl ?_
    refine hG.put dX2_become_213 fp_X2_90_X2 up1_s rfl rfl (Nat.le_of_ble_eq_true rfl) ?_
    rw [up1_up1]
    refine hG.aload_n dX2_become_216 rfl ?_
    refine hG.aload_n dX2_become_217 rfl ?_
    refine hG.get dX2_become_218 fg_X2_93_X2 (Or.inl ((up1_n hor).trans g6.h)) rfl ?_
    refine hG.put dX2_become_221 fp_X2_93_X2 up1_s rfl rfl (Nat.le_of_ble_eq_true rfl) ?_
    rw [up1_up1]
    refine hG.aload_n dX2_become_224 rfl ?_
    refine hG.aret dX2_become_225 rfl (by first | exact Or.inl ⟨_, rfl⟩ | exact Or.inr ⟨_, rfl⟩) (by first | exact Or.inr ⟨_, rfl⟩ | exact Or.inl rfl) ?_ (by omega) (by omega) trivial
    exact ⟨rfl, _, rv_cast (h6.sInts Ro.hr Ro.st Ro.rp Ro.ld Ro.pd Ro.cr) (rv_eq rfl rfl rfl rfl rfl rfl rfl rfl rfl rfl rfl rfl rfl rfl rfl), F6.tr (h6.f_r _)⟩
  have k2 : ∀ (A2 : RA) (L2 : AL), RvO dE I L2 r ((rv0.wCh Ro.ch).wFl Ro.fl) A2 → RvO dE I L2 o Ro B → (∀ q ∈ RN r A2, q ∉ RN o B) → Far L (RN r A) (RN r A2) L2 → G 86 [(0, .ref r), (1, .ref o)] [] I L2 22 208 := by
    intro A2 L2 h2 g2 hd F2
    refine hG.peek g2.h2 (fun J9 S9 _ hli => ?_)
    have hl10 : B.zs.length ≤ 10 := hli.1
    have hlen : B.zs.length = Ro.an.length := g2.e2.len
    have hz0 : A2.zs = [] := List.eq_nil_of_length_eq_zero (by have := h2.e2.len; exact this)
    have h2 : RvO dE I L2 r (((rv0.wCh Ro.ch).wFl Ro.fl).wAn (Ro.an.take 0)) ((A2.wM2 A2.m2).wZs (B.zs.take 0)) := by
      have e9 : ((A2.wM2 A2.m2).wZs (B.zs.take 0)) = A2 := by
        rw [List.take_zero, ← hz0]
        rfl
      rw [e9]
      exact h2
    refine hG.aload_n dX2_become_86 rfl ?_
    refine hG.get dX2_become_87 fg_X2_21_X2 (Or.inl g2.h) rfl ?_
    refine hG.callF dX2_become_90 kf_X2_45_J2 (Rcv.li g2.h2) cl_J2 (sp_J2_iterator hΓ g2.h2) rfl rfl (Nat.le_of_ble_eq_true rfl) (by decide) (by omega) (by omega) (fun r90 I90 L90 hI90 h90 => ?_) (fun _ _ _ _ _ h => h.elim)
    obtain ⟨rfl, it, hita, hitn, rfl, rfl⟩ := h90
    have hitr : it ∉ RN r A2 := fun hm => h2.dom it hm hitn
    have hito : it ∉ RN o B := fun hm => g2.dom it hm hitn
    have hitL : ∀ z y, L z = some y → z ∉ RN r A → z ≠ it := fun z y hz hn e => by
      have := (F2 z y hz hn).2
      rw [e] at this
      have h9 := hitn.symm.trans this
      cases h9
    refine hG.astore_n dX2_become_95 (by decide) ?_
    have loop : ∀ (w k : Nat) (m lr : Int32) (L1 : AL), k + w = Ro.an.length → RvO dE I L1 r (((rv0.wCh Ro.ch).wFl Ro.fl).wAn (Ro.an.take k)) ((A2.wM2 m).wZs (B.zs.take k)) → RvO dE I L1 o Ro B → L1 it = some (obC ciJ15 [.int (nI k), .int lr, .int B.m2, .ref B.a2]) → Far L (RN r A) (RN r A2) L1 → G 96 [(0, .ref r), (1, .ref o), (2, .ref it)] [] I L1 (23 + k) (212 + 10 * k) := by
      intro w
      induction w with
      | zero =>
        intro k m lr L1 hkw h1 g1 hit hF
        have hke : k = Ro.an.length := by omega
        refine hG.aload_n dX2_become_96 rfl ?_
        refine hG.callF dX2_become_97 kf_X2_51_J15 (Rcv.raw hit cl_J15) cl_J15 (sp_J15_hasNext hΓ (by omega) g1.h2 hit) rfl rfl (Nat.le_of_ble_eq_true rfl) (by decide) (by omega) (by omega) (fun r97 I97 L97 hI97 h97 => ?_) (fun _ _ _ _ _ h => h.elim)
        obtain ⟨rfl, rfl, rfl⟩ := h97
        refine hG.if_eq (tgt := 129) dX2_become_102 rfl (fun c_102 => ?_) (fun c_102 => absurd (by rw [decide_eq_false (by omega)]; rfl) c_102)
        refine hG.lsb [(0, .ref r), (1, .ref o)] ⟨rfl, rfl, trivial⟩ (hG.wid (by omega) (by omega) (k3 ((A2.wM2 m).wZs B.zs) _ ?_ g1 hd hF))
        rw [hke, List.take_length, show B.zs.take Ro.an.length = B.zs by rw [← hlen]; exact List.take_length] at h1
        exact h1
      | succ w ih =>
        intro k m lr L1 hkw h1 g1 hit hF
        obtain ⟨c, hc, -⟩ := get_lt (show k < Ro.an.length by omega)
        obtain ⟨x, hx, hxc⟩ := g1.e2.get hc
        refine hG.aload_n dX2_become_96 rfl ?_
        refine hG.callF dX2_become_97 kf_X2_51_J15 (Rcv.raw hit cl_J15) cl_J15 (sp_J15_hasNext hΓ (by omega) g1.h2 hit) rfl rfl (Nat.le_of_ble_eq_true rfl) (by decide) (by omega) (by omega) (fun r97 I97 L97 hI97 h97 => ?_) (fun _ _ _ _ _ h => h.elim)
        obtain ⟨rfl, rfl, rfl⟩ := h97
        refine hG.if_eq (tgt := 129) dX2_become_102 rfl (fun c_102 => absurd c_102 (by rw [decide_eq_true (by omega)]; decide)) (fun c_102 => ?_)
        refine hG.aload_n dX2_become_105 rfl ?_
        refine hG.callF dX2_become_106 kf_X2_57_J15 (Rcv.raw hit cl_J15) cl_J15 (sp_J15_next hΓ hx g1.h2 hit) rfl rfl (Nat.le_of_ble_eq_true rfl) (by decide) (by omega) (by omega) (fun r106 I106 L106 hI106 h106 => ?_) (fun _ _ _ _ _ h => h.elim)
        obtain ⟨rfl, rfl, rfl⟩ := h106
        have hm := h1.aw ile_rf hitr (some (obC ciJ15 [.int (nI (k + 1)), .int (nI k), .int B.m2, .ref B.a2]))
        have gm := g1.aw ile_rf hito (some (obC ciJ15 [.int (nI (k + 1)), .int (nI k), .int B.m2, .ref B.a2]))
        refine hG.castS dX2_become_111 q656 (Rcv.imm hxc cl_X8) cl_X8 ?_
        refine hG.astore_n dX2_become_114 (by decide) ?_
        refine hG.aload_n dX2_become_115 rfl ?_
        refine hG.get dX2_become_116 fg_X2_21_X2 (Or.inl hm.h) rfl ?_
        refine hG.aload_n dX2_become_119 rfl ?_
        refine hG.callF dX2_become_120 kf_X2_63_J2 (Rcv.li hm.h2) cl_J2 (sp_J2_add hΓ hZ.li (elt_of hxc cl_X8 q3712) hm.h2 (by show (B.zs.take k).length < 10; rw [List.length_take]; omega)) rfl rfl (Nat.le_of_ble_eq_true rfl) (by decide) (by omega) (by omega) (fun r120 I120 L120 hI120 h120 => ?_) (fun _ _ _ _ _ h => h.elim)
        obtain ⟨rfl, rfl, rfl⟩ := h120
        have h3 := hm.sAn (m := m + 1) (hm.e2.app hxc)
        refine hG.pop dX2_become_125 rfl ?_
        refine hG.goto (tgt := 96) dX2_become_126 rfl ?_
        refine hG.lsb [(0, .ref r), (1, .ref o), (2, .ref it)] ⟨rfl, rfl, rfl, trivial⟩ (hG.wid (k' := 23 + (k + 1)) (n' := 212 + 10 * (k + 1)) (by omega) (by omega) (ih (k + 1) (m + 1) (nI k) _ (by omega) ?_ ?_ ?_ ?_))
        · have e1 : Ro.an.take (k + 1) = Ro.an.take k ++ [c] := take_next hc
          have e2 : B.zs.take (k + 1) = B.zs.take k ++ [x] := take_next hx
          rw [e1, e2]
          exact h3
        · exact gm.aw ile_rf (hd A2.a2 (by simp [RN])) _
        · exact (up1_n (fun e : it = A2.a2 => hitr (by rw [e]; simp [RN]))).trans up1_s
        · exact fun z y hz hn => ⟨(hF z y hz hn).1, (up1_n (fun e => (hF z y hz hn).1 (by rw [e]; simp [RN]))).trans ((up1_n (hitL z y hz hn)).trans (hF z y hz hn).2)⟩
  
    exact hG.lsb [(0, .ref r), (1, .ref o), (2, .ref it)] ⟨rfl, rfl, rfl, trivial⟩ (hG.wid (by omega) (by omega) (loop Ro.an.length 0 A2.m2 _ _ (by omega) (h2.aw ile_rf hitr _) (g2.aw ile_rf hito _) up1_s (fun z y hz hn => ⟨(F2 z y hz hn).1, (up1_n (hitL z y hz hn)).trans (F2 z y hz hn).2⟩)))
  have k1 : ∀ (A2 : RA) (L2 : AL), RvO dE I L2 r (rv0.wCh Ro.ch) A2 → RvO dE I L2 o Ro B → (∀ q ∈ RN r A2, q ∉ RN o B) → Far L (RN r A) (RN r A2) L2 → G 43 [(0, .ref r), (1, .ref o)] [] I L2 11 104 := by
    intro A2 L2 h2 g2 hd F2
    refine hG.peek g2.h1 (fun J9 S9 _ hli => ?_)
    have hl10 : B.ys.length ≤ 10 := hli.1
    have hlen : B.ys.length = Ro.fl.length := g2.e1.len
    have hz0 : A2.ys = [] := List.eq_nil_of_length_eq_zero (by have := h2.e1.len; exact this)
    have h2 : RvO dE I L2 r ((rv0.wCh Ro.ch).wFl (Ro.fl.take 0)) ((A2.wM1 A2.m1).wYs (B.ys.take 0)) := by
      have e9 : ((A2.wM1 A2.m1).wYs (B.ys.take 0)) = A2 := by
        rw [List.take_zero, ← hz0]
        rfl
      rw [e9]
      exact h2
    refine hG.aload_n dX2_become_43 rfl ?_
    refine hG.get dX2_become_44 fg_X2_18_X2 (Or.inl g2.h) rfl ?_
    refine hG.callF dX2_become_47 kf_X2_45_J2 (Rcv.li g2.h1) cl_J2 (sp_J2_iterator hΓ g2.h1) rfl rfl (Nat.le_of_ble_eq_true rfl) (by decide) (by omega) (by omega) (fun r47 I47 L47 hI47 h47 => ?_) (fun _ _ _ _ _ h => h.elim)
    obtain ⟨rfl, it, hita, hitn, rfl, rfl⟩ := h47
    have hitr : it ∉ RN r A2 := fun hm => h2.dom it hm hitn
    have hito : it ∉ RN o B := fun hm => g2.dom it hm hitn
    have hitL : ∀ z y, L z = some y → z ∉ RN r A → z ≠ it := fun z y hz hn e => by
      have := (F2 z y hz hn).2
      rw [e] at this
      have h9 := hitn.symm.trans this
      cases h9
    refine hG.astore_n dX2_become_52 (by decide) ?_
    have loop : ∀ (w k : Nat) (m lr : Int32) (L1 : AL), k + w = Ro.fl.length → RvO dE I L1 r ((rv0.wCh Ro.ch).wFl (Ro.fl.take k)) ((A2.wM1 m).wYs (B.ys.take k)) → RvO dE I L1 o Ro B → L1 it = some (obC ciJ15 [.int (nI k), .int lr, .int B.m1, .ref B.a1]) → Far L (RN r A) (RN r A2) L1 → G 53 [(0, .ref r), (1, .ref o), (2, .ref it)] [] I L1 (12 + k) (108 + 10 * k) := by
      intro w
      induction w with
      | zero =>
        intro k m lr L1 hkw h1 g1 hit hF
        have hke : k = Ro.fl.length := by omega
        refine hG.aload_n dX2_become_53 rfl ?_
        refine hG.callF dX2_become_54 kf_X2_51_J15 (Rcv.raw hit cl_J15) cl_J15 (sp_J15_hasNext hΓ (by omega) g1.h1 hit) rfl rfl (Nat.le_of_ble_eq_true rfl) (by decide) (by omega) (by omega) (fun r54 I54 L54 hI54 h54 => ?_) (fun _ _ _ _ _ h => h.elim)
        obtain ⟨rfl, rfl, rfl⟩ := h54
        refine hG.if_eq (tgt := 86) dX2_become_59 rfl (fun c_59 => ?_) (fun c_59 => absurd (by rw [decide_eq_false (by omega)]; rfl) c_59)
        refine hG.lsb [(0, .ref r), (1, .ref o)] ⟨rfl, rfl, trivial⟩ (hG.wid (by omega) (by omega) (k2 ((A2.wM1 m).wYs B.ys) _ ?_ g1 hd hF))
        rw [hke, List.take_length, show B.ys.take Ro.fl.length = B.ys by rw [← hlen]; exact List.take_length] at h1
        exact h1
      | succ w ih =>
        intro k m lr L1 hkw h1 g1 hit hF
        obtain ⟨c, hc, -⟩ := get_lt (show k < Ro.fl.length by omega)
        obtain ⟨x, hx, hxc⟩ := g1.e1.get hc
        refine hG.aload_n dX2_become_53 rfl ?_
        refine hG.callF dX2_become_54 kf_X2_51_J15 (Rcv.raw hit cl_J15) cl_J15 (sp_J15_hasNext hΓ (by omega) g1.h1 hit) rfl rfl (Nat.le_of_ble_eq_true rfl) (by decide) (by omega) (by omega) (fun r54 I54 L54 hI54 h54 => ?_) (fun _ _ _ _ _ h => h.elim)
        obtain ⟨rfl, rfl, rfl⟩ := h54
        refine hG.if_eq (tgt := 86) dX2_become_59 rfl (fun c_59 => absurd c_59 (by rw [decide_eq_true (by omega)]; decide)) (fun c_59 => ?_)
        refine hG.aload_n dX2_become_62 rfl ?_
        refine hG.callF dX2_become_63 kf_X2_57_J15 (Rcv.raw hit cl_J15) cl_J15 (sp_J15_next hΓ hx g1.h1 hit) rfl rfl (Nat.le_of_ble_eq_true rfl) (by decide) (by omega) (by omega) (fun r63 I63 L63 hI63 h63 => ?_) (fun _ _ _ _ _ h => h.elim)
        obtain ⟨rfl, rfl, rfl⟩ := h63
        have hm := h1.aw ile_rf hitr (some (obC ciJ15 [.int (nI (k + 1)), .int (nI k), .int B.m1, .ref B.a1]))
        have gm := g1.aw ile_rf hito (some (obC ciJ15 [.int (nI (k + 1)), .int (nI k), .int B.m1, .ref B.a1]))
        refine hG.castS dX2_become_68 q655 (Rcv.imm hxc cl_X11) cl_X11 ?_
        refine hG.astore_n dX2_become_71 (by decide) ?_
        refine hG.aload_n dX2_become_72 rfl ?_
        refine hG.get dX2_become_73 fg_X2_18_X2 (Or.inl hm.h) rfl ?_
        refine hG.aload_n dX2_become_76 rfl ?_
        refine hG.callF dX2_become_77 kf_X2_63_J2 (Rcv.li hm.h1) cl_J2 (sp_J2_add hΓ hZ.li (elt_of hxc cl_X11 q3715) hm.h1 (by show (B.ys.take k).length < 10; rw [List.length_take]; omega)) rfl rfl (Nat.le_of_ble_eq_true rfl) (by decide) (by omega) (by omega) (fun r77 I77 L77 hI77 h77 => ?_) (fun _ _ _ _ _ h => h.elim)
        obtain ⟨rfl, rfl, rfl⟩ := h77
        have h3 := hm.sFl (m := m + 1) (hm.e1.app hxc)
        refine hG.pop dX2_become_82 rfl ?_
        refine hG.goto (tgt := 53) dX2_become_83 rfl ?_
        refine hG.lsb [(0, .ref r), (1, .ref o), (2, .ref it)] ⟨rfl, rfl, rfl, trivial⟩ (hG.wid (k' := 12 + (k + 1)) (n' := 108 + 10 * (k + 1)) (by omega) (by omega) (ih (k + 1) (m + 1) (nI k) _ (by omega) ?_ ?_ ?_ ?_))
        · have e1 : Ro.fl.take (k + 1) = Ro.fl.take k ++ [c] := take_next hc
          have e2 : B.ys.take (k + 1) = B.ys.take k ++ [x] := take_next hx
          rw [e1, e2]
          exact h3
        · exact gm.aw ile_rf (hd A2.a1 (by simp [RN])) _
        · exact (up1_n (fun e : it = A2.a1 => hitr (by rw [e]; simp [RN]))).trans up1_s
        · exact fun z y hz hn => ⟨(hF z y hz hn).1, (up1_n (fun e => (hF z y hz hn).1 (by rw [e]; simp [RN]))).trans ((up1_n (hitL z y hz hn)).trans (hF z y hz hn).2)⟩
  
    exact hG.lsb [(0, .ref r), (1, .ref o), (2, .ref it)] ⟨rfl, rfl, rfl, trivial⟩ (hG.wid (by omega) (by omega) (loop Ro.fl.length 0 A2.m1 _ _ (by omega) (h2.aw ile_rf hitr _) (g2.aw ile_rf hito _) up1_s (fun z y hz hn => ⟨(F2 z y hz hn).1, (up1_n (hitL z y hz hn)).trans (F2 z y hz hn).2⟩)))
  have k0 : ∀ (A2 : RA) (L2 : AL), RvO dE I L2 r rv0 A2 → RvO dE I L2 o Ro B → (∀ q ∈ RN r A2, q ∉ RN o B) → Far L (RN r A) (RN r A2) L2 → G 0 [(0, .ref r), (1, .ref o)] [] I L2 0 0 := by
    intro A2 L2 h2 g2 hd F2
    refine hG.peek g2.h0 (fun J9 S9 _ hli => ?_)
    have hl10 : B.xs.length ≤ 10 := hli.1
    have hlen : B.xs.length = Ro.ch.length := g2.e0.len
    have hz0 : A2.xs = [] := List.eq_nil_of_length_eq_zero (by have := h2.e0.len; exact this)
    have h2 : RvO dE I L2 r (rv0.wCh (Ro.ch.take 0)) ((A2.wM0 A2.m0).wXs (B.xs.take 0)) := by
      have e9 : ((A2.wM0 A2.m0).wXs (B.xs.take 0)) = A2 := by
        rw [List.take_zero, ← hz0]
        rfl
      rw [e9]
      exact h2
    refine hG.aload_n dX2_become_0 rfl ?_
    refine hG.get dX2_become_1 fg_X2_12_X2 (Or.inl g2.h) rfl ?_
    refine hG.callF dX2_become_4 kf_X2_45_J2 (Rcv.li g2.h0) cl_J2 (sp_J2_iterator hΓ g2.h0) rfl rfl (Nat.le_of_ble_eq_true rfl) (by decide) (by omega) (by omega) (fun r4 I4 L4 hI4 h4 => ?_) (fun _ _ _ _ _ h => h.elim)
    obtain ⟨rfl, it, hita, hitn, rfl, rfl⟩ := h4
    have hitr : it ∉ RN r A2 := fun hm => h2.dom it hm hitn
    have hito : it ∉ RN o B := fun hm => g2.dom it hm hitn
    have hitL : ∀ z y, L z = some y → z ∉ RN r A → z ≠ it := fun z y hz hn e => by
      have := (F2 z y hz hn).2
      rw [e] at this
      have h9 := hitn.symm.trans this
      cases h9
    refine hG.astore_n dX2_become_9 (by decide) ?_
    have loop : ∀ (w k : Nat) (m lr : Int32) (L1 : AL), k + w = Ro.ch.length → RvO dE I L1 r (rv0.wCh (Ro.ch.take k)) ((A2.wM0 m).wXs (B.xs.take k)) → RvO dE I L1 o Ro B → L1 it = some (obC ciJ15 [.int (nI k), .int lr, .int B.m0, .ref B.a0]) → Far L (RN r A) (RN r A2) L1 → G 10 [(0, .ref r), (1, .ref o), (2, .ref it)] [] I L1 (1 + k) (4 + 10 * k) := by
      intro w
      induction w with
      | zero =>
        intro k m lr L1 hkw h1 g1 hit hF
        have hke : k = Ro.ch.length := by omega
        refine hG.aload_n dX2_become_10 rfl ?_
        refine hG.callF dX2_become_11 kf_X2_51_J15 (Rcv.raw hit cl_J15) cl_J15 (sp_J15_hasNext hΓ (by omega) g1.h0 hit) rfl rfl (Nat.le_of_ble_eq_true rfl) (by decide) (by omega) (by omega) (fun r11 I11 L11 hI11 h11 => ?_) (fun _ _ _ _ _ h => h.elim)
        obtain ⟨rfl, rfl, rfl⟩ := h11
        refine hG.if_eq (tgt := 43) dX2_become_16 rfl (fun c_16 => ?_) (fun c_16 => absurd (by rw [decide_eq_false (by omega)]; rfl) c_16)
        refine hG.lsb [(0, .ref r), (1, .ref o)] ⟨rfl, rfl, trivial⟩ (hG.wid (by omega) (by omega) (k1 ((A2.wM0 m).wXs B.xs) _ ?_ g1 hd hF))
        rw [hke, List.take_length, show B.xs.take Ro.ch.length = B.xs by rw [← hlen]; exact List.take_length] at h1
        exact h1
      | succ w ih =>
        intro k m lr L1 hkw h1 g1 hit hF
        obtain ⟨c, hc, -⟩ := get_lt (show k < Ro.ch.length by omega)
        obtain ⟨x, hx, hxc⟩ := g1.e0.get hc
        refine hG.aload_n dX2_become_10 rfl ?_
        refine hG.callF dX2_become_11 kf_X2_51_J15 (Rcv.raw hit cl_J15) cl_J15 (sp_J15_hasNext hΓ (by omega) g1.h0 hit) rfl rfl (Nat.le_of_ble_eq_true rfl) (by decide) (by omega) (by omega) (fun r11 I11 L11 hI11 h11 => ?_) (fun _ _ _ _ _ h => h.elim)
        obtain ⟨rfl, rfl, rfl⟩ := h11
        refine hG.if_eq (tgt := 43) dX2_become_16 rfl (fun c_16 => absurd c_16 (by rw [decide_eq_true (by omega)]; decide)) (fun c_16 => ?_)
        refine hG.aload_n dX2_become_19 rfl ?_
        refine hG.callF dX2_become_20 kf_X2_57_J15 (Rcv.raw hit cl_J15) cl_J15 (sp_J15_next hΓ hx g1.h0 hit) rfl rfl (Nat.le_of_ble_eq_true rfl) (by decide) (by omega) (by omega) (fun r20 I20 L20 hI20 h20 => ?_) (fun _ _ _ _ _ h => h.elim)
        obtain ⟨rfl, rfl, rfl⟩ := h20
        have hm := h1.aw ile_rf hitr (some (obC ciJ15 [.int (nI (k + 1)), .int (nI k), .int B.m0, .ref B.a0]))
        have gm := g1.aw ile_rf hito (some (obC ciJ15 [.int (nI (k + 1)), .int (nI k), .int B.m0, .ref B.a0]))
        refine hG.castS dX2_become_25 q556 (Rcv.imm hxc cl_X6) cl_X6 ?_
        refine hG.astore_n dX2_become_28 (by decide) ?_
        refine hG.aload_n dX2_become_29 rfl ?_
        refine hG.get dX2_become_30 fg_X2_12_X2 (Or.inl hm.h) rfl ?_
        refine hG.aload_n dX2_become_33 rfl ?_
        refine hG.callF dX2_become_34 kf_X2_63_J2 (Rcv.li hm.h0) cl_J2 (sp_J2_add hΓ hZ.li (elt_of hxc cl_X6 q3692) hm.h0 (by show (B.xs.take k).length < 10; rw [List.length_take]; omega)) rfl rfl (Nat.le_of_ble_eq_true rfl) (by decide) (by omega) (by omega) (fun r34 I34 L34 hI34 h34 => ?_) (fun _ _ _ _ _ h => h.elim)
        obtain ⟨rfl, rfl, rfl⟩ := h34
        have h3 := hm.sCh (m := m + 1) (hm.e0.app hxc)
        refine hG.pop dX2_become_39 rfl ?_
        refine hG.goto (tgt := 10) dX2_become_40 rfl ?_
        refine hG.lsb [(0, .ref r), (1, .ref o), (2, .ref it)] ⟨rfl, rfl, rfl, trivial⟩ (hG.wid (k' := 1 + (k + 1)) (n' := 4 + 10 * (k + 1)) (by omega) (by omega) (ih (k + 1) (m + 1) (nI k) _ (by omega) ?_ ?_ ?_ ?_))
        · have e1 : Ro.ch.take (k + 1) = Ro.ch.take k ++ [c] := take_next hc
          have e2 : B.xs.take (k + 1) = B.xs.take k ++ [x] := take_next hx
          rw [e1, e2]
          exact h3
        · exact gm.aw ile_rf (hd A2.a0 (by simp [RN])) _
        · exact (up1_n (fun e : it = A2.a0 => hitr (by rw [e]; simp [RN]))).trans up1_s
        · exact fun z y hz hn => ⟨(hF z y hz hn).1, (up1_n (fun e => (hF z y hz hn).1 (by rw [e]; simp [RN]))).trans ((up1_n (hitL z y hz hn)).trans (hF z y hz hn).2)⟩
  
    exact hG.lsb [(0, .ref r), (1, .ref o), (2, .ref it)] ⟨rfl, rfl, rfl, trivial⟩ (hG.wid (by omega) (by omega) (loop Ro.ch.length 0 A2.m0 _ _ (by omega) (h2.aw ile_rf hitr _) (g2.aw ile_rf hito _) up1_s (fun z y hz hn => ⟨(F2 z y hz hn).1, (up1_n (hitL z y hz hn)).trans (F2 z y hz hn).2⟩)))
  exact k0 A L h g hd Far.rf
