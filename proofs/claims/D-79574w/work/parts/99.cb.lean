/-! the model does what it read -/
theorem pIs.int {N : Nat} {I : AI} {L : AL} {m : Nat} {A : MA} {V : MV} {cd : Bool → Int32} {o : Out} {q : Option Value} {I2 : AI} {L2 : AL} (h : pIs N I L m A V cd o q I2 L2) : ∃ z, q = some (.int z) := by
  obtain ⟨-, n, a, r, d, -, h⟩ := h
  rcases o with ⟨v, R2⟩ | b | p
  · exact ⟨_, h.1⟩
  · exact ⟨_, h.1⟩
  · exact ⟨_, h.1⟩
def pCd (N : Nat) (I : AI) (L : AL) (m : Nat) (A : MA) (V : MV) (o : Out) : Option Value → AI → AL → Prop := fun q I2 L2 => ∃ cd : Bool → Int32, (∀ b, cd b < 0) ∧ pIs N I L m A V cd o q I2 L2
theorem cd12 : ∀ b : Bool, (match b with | true => (-2 : Int32) | false => -1) < 0 := by intro b; cases b <;> decide
theorem wX_self {V : MV} : wX V V.nw V.an V.re V.de = V := rfl
theorem boa_3 {R : Rv} {k w n s : Nat} (hs : 1 < s) (hs2 : s < 1000) : ∃ b, boaO (nI k) (nI w) (nI n) (nI s) R = .inr (.inl b) := by
  unfold boaO
  split
  · rw [if_neg (fun h => absurd ((nI_leI (b := 1) (by omega) (by decide)).mp (inR_iff.mp h.2.2).2) (by omega))]
    exact ⟨_, rfl⟩
  · exact ⟨_, rfl⟩
theorem fg_X4_232_X4 : LkG RX4 232 ciX4 15 := ⟨RX4, TX4, 21, tyX4, _, cls_X4, by decide, Or.inl rfl, Or.inl q3285⟩
set_option maxHeartbeats 4000000 in
set_option maxRecDepth 100000 in
theorem sp_X4_carries {l : Launch} {s0 : State} {D : va_G} {I : AI} {L : AL} {m : Nat} {A : MA} {V : MV} {N : Nat} {R : Rv} (hΓ : Gam l s0 D) (hA : MOk m A) (hR : Rep N R V.nw) (hw : Wf N R) (hN : N ≤ 400) {cm : Cm} (h6 : cm.1 ≤ 6) (h5 : cm.2.2.2.2 < 1000) (hTd : TdM cm V.cm V.to) : Spc l s0 D yX4_carries 8 [.ref m] I (mdL L m A V) 0 0 ((pCd N I L m A V (outC cm R))) noX := by
  refine Spc.of hΓ cX4_carries 1 (some FieldType.int) q3628 (by decide +kernel) (by decide) (Nat.le_of_ble_eq_true rfl) (fun G GX hG => ?_)
  obtain ⟨n0, a, b, c, d⟩ := cm
  have h5 : d < 1000 := h5
  rcases (by have : n0 ≤ 6 := h6; omega : n0 = 0 ∨ n0 = 1 ∨ n0 = 2 ∨ n0 = 3 ∨ n0 = 4 ∨ n0 = 5 ∨ n0 = 6) with rfl | rfl | rfl | rfl | rfl | rfl | rfl
  · obtain ⟨hTd, i, hi, g0, ha⟩ := hTd
    rcases (by omega : i = 0 ∨ i = 1) with rfl | rfl
    · have ha : a = 1 := ha
      subst ha
      refine hG.aload_n dX4_carries_0 rfl ?_
      refine hG.get dX4_carries_1 fg_X4_232_X4 (Or.inl mdL_m) rfl ?_
      rw [show V.cm = nI 0 from hTd]
      refine hG.tabIn (off := 40) (tgt := 44) dX4_carries_4 (by decide +kernel) (by decide +kernel) (by decide +kernel) rfl ?_
      refine hG.aload_n dX4_carries_44 rfl ?_
      refine hG.aload_n dX4_carries_45 rfl ?_
      refine hG.get dX4_carries_46 fg_X4_51_X4 (Or.inl mdL_m) rfl ?_
      refine hG.iconst (v := 0) dX4_carries_49 rfl ?_
      refine hG.ld_to hA 0 dX4_carries_50 rfl (by decide) (v := nI 0) (g0) ?_
      refine hG.if_ne (tgt := 58) dX4_carries_51 rfl (fun c_51 => absurd rfl c_51) (fun c_51 => ?_)
      refine hG.iconst (v := 1) dX4_carries_54 rfl ?_
      refine hG.goto (tgt := 59) dX4_carries_55 rfl ?_
      refine hG.callV dX4_carries_59 kv_X4_214 (Rcv.raw mdL_m cl_X4) (sp_X4_crosses (N := N) (R := R) (V := V) hΓ hA hR hw (w := true)) rfl rfl (Nat.le_of_ble_eq_true rfl) (by decide) (by omega) (by omega) (fun r59 I59 L59 hI59 h59 => ?_) (fun _ _ _ _ _ h => h.elim)
      obtain ⟨z59, rfl⟩ := pIs.int h59
      refine hG.iret dX4_carries_62 rfl ?_ (by omega) (by omega) trivial
      exact ⟨_, cd12, h59⟩
    · have ha : a = 0 := ha
      subst ha
      refine hG.aload_n dX4_carries_0 rfl ?_
      refine hG.get dX4_carries_1 fg_X4_232_X4 (Or.inl mdL_m) rfl ?_
      rw [show V.cm = nI 0 from hTd]
      refine hG.tabIn (off := 40) (tgt := 44) dX4_carries_4 (by decide +kernel) (by decide +kernel) (by decide +kernel) rfl ?_
      refine hG.aload_n dX4_carries_44 rfl ?_
      refine hG.aload_n dX4_carries_45 rfl ?_
      refine hG.get dX4_carries_46 fg_X4_51_X4 (Or.inl mdL_m) rfl ?_
      refine hG.iconst (v := 0) dX4_carries_49 rfl ?_
      refine hG.ld_to hA 0 dX4_carries_50 rfl (by decide) (v := nI 1) (g0) ?_
      refine hG.if_ne (tgt := 58) dX4_carries_51 rfl (fun c_51 => ?_) (fun c_51 => absurd c_51 (by decide))
      refine hG.iconst (v := 0) dX4_carries_58 rfl ?_
      refine hG.callV dX4_carries_59 kv_X4_214 (Rcv.raw mdL_m cl_X4) (sp_X4_crosses (N := N) (R := R) (V := V) hΓ hA hR hw (w := false)) rfl rfl (Nat.le_of_ble_eq_true rfl) (by decide) (by omega) (by omega) (fun r59 I59 L59 hI59 h59 => ?_) (fun _ _ _ _ _ h => h.elim)
      obtain ⟨z59, rfl⟩ := pIs.int h59
      refine hG.iret dX4_carries_62 rfl ?_ (by omega) (by omega) trivial
      exact ⟨_, cd12, h59⟩
  · obtain ⟨hTd, g0⟩ := hTd
    refine hG.aload_n dX4_carries_0 rfl ?_
    refine hG.get dX4_carries_1 fg_X4_232_X4 (Or.inl mdL_m) rfl ?_
    rw [show V.cm = nI 1 from hTd]
    refine hG.tabIn (off := 59) (tgt := 63) dX4_carries_4 (by decide +kernel) (by decide +kernel) (by decide +kernel) rfl ?_
    refine hG.aload_n dX4_carries_63 rfl ?_
    refine hG.aload_n dX4_carries_64 rfl ?_
    refine hG.get dX4_carries_65 fg_X4_51_X4 (Or.inl mdL_m) rfl ?_
    refine hG.iconst (v := 0) dX4_carries_68 rfl ?_
    refine hG.ld_to hA 0 dX4_carries_69 rfl (by decide) (v := nI a) (g0) ?_
    refine hG.callV dX4_carries_70 kv_X4_217 (Rcv.raw mdL_m cl_X4) (sp_X4_passes (N := N) (R := R) (V := V) hΓ hA hR hw) rfl rfl (Nat.le_of_ble_eq_true rfl) (by decide) (by omega) (by omega) (fun r70 I70 L70 hI70 h70 => ?_) (fun _ _ _ _ _ h => h.elim)
    obtain ⟨z70, rfl⟩ := pIs.int h70
    refine hG.iret dX4_carries_73 rfl ?_ (by omega) (by omega) trivial
    exact ⟨fun _ => -1, fun _ => (by decide : (-1 : Int32) < 0), h70⟩
  · obtain ⟨hTd, -⟩ := hTd
    refine hG.aload_n dX4_carries_0 rfl ?_
    refine hG.get dX4_carries_1 fg_X4_232_X4 (Or.inl mdL_m) rfl ?_
    rw [show V.cm = nI 2 from hTd]
    refine hG.tabIn (off := 70) (tgt := 74) dX4_carries_4 (by decide +kernel) (by decide +kernel) (by decide +kernel) rfl ?_
    refine hG.aload_n dX4_carries_74 rfl ?_
    refine hG.callV dX4_carries_75 kv_X4_175 (Rcv.raw mdL_m cl_X4) (sp_X4_lands (N := N) (R := R) (V := V) hΓ hA hR hw) rfl rfl (Nat.le_of_ble_eq_true rfl) (by decide) (by omega) (by omega) (fun r75 I75 L75 hI75 h75 => ?_) (fun _ _ _ _ _ h => h.elim)
    obtain ⟨z75, rfl⟩ := pIs.int h75
    refine hG.iret dX4_carries_78 rfl ?_ (by omega) (by omega) trivial
    exact ⟨_, cd12, h75⟩
  · obtain ⟨hTd, g0, g1, g2, g3⟩ := hTd
    refine hG.aload_n dX4_carries_0 rfl ?_
    refine hG.get dX4_carries_1 fg_X4_232_X4 (Or.inl mdL_m) rfl ?_
    rw [show V.cm = nI 3 from hTd]
    refine hG.tabIn (off := 75) (tgt := 79) dX4_carries_4 (by decide +kernel) (by decide +kernel) (by decide +kernel) rfl ?_
    refine hG.aload_n dX4_carries_79 rfl ?_
    refine hG.aload_n dX4_carries_80 rfl ?_
    refine hG.get dX4_carries_81 fg_X4_51_X4 (Or.inl mdL_m) rfl ?_
    refine hG.iconst (v := 0) dX4_carries_84 rfl ?_
    refine hG.ld_to hA 0 dX4_carries_85 rfl (by decide) (v := nI a) (g0) ?_
    refine hG.aload_n dX4_carries_86 rfl ?_
    refine hG.get dX4_carries_87 fg_X4_51_X4 (Or.inl mdL_m) rfl ?_
    refine hG.iconst (v := 1) dX4_carries_90 rfl ?_
    refine hG.ld_to hA 1 dX4_carries_91 rfl (by decide) (v := nI b) (g1) ?_
    refine hG.aload_n dX4_carries_92 rfl ?_
    refine hG.get dX4_carries_93 fg_X4_51_X4 (Or.inl mdL_m) rfl ?_
    refine hG.iconst (v := 2) dX4_carries_96 rfl ?_
    refine hG.ld_to hA 2 dX4_carries_97 rfl (by decide) (v := nI c) (g2) ?_
    refine hG.aload_n dX4_carries_98 rfl ?_
    refine hG.get dX4_carries_99 fg_X4_51_X4 (Or.inl mdL_m) rfl ?_
    refine hG.iconst (v := 3) dX4_carries_102 rfl ?_
    refine hG.ld_to hA 3 dX4_carries_103 rfl (by decide) (v := nI d) (g3) ?_
    refine hG.callV dX4_carries_104 kv_X4_164 (Rcv.raw mdL_m cl_X4) (sp_X4_comes (N := N) (R := R) (V := V) hΓ hA hR hw (by omega)) rfl rfl (Nat.le_of_ble_eq_true rfl) (by decide) (by omega) (by omega) (fun r104 I104 L104 hI104 h104 => ?_) (fun _ _ _ _ _ h => h.elim)
    obtain ⟨z104, rfl⟩ := pIs.int h104
    refine hG.iret dX4_carries_107 rfl ?_ (by omega) (by omega) trivial
    exact ⟨_, cd12, h104⟩
  · obtain ⟨hTd, g0, g1, g2, g3⟩ := hTd
    by_cases h1d : 1 < d
    · skip
      refine hG.aload_n dX4_carries_0 rfl ?_
      refine hG.get dX4_carries_1 fg_X4_232_X4 (Or.inl mdL_m) rfl ?_
      rw [show V.cm = nI 4 from hTd]
      refine hG.tabIn (off := 104) (tgt := 108) dX4_carries_4 (by decide +kernel) (by decide +kernel) (by decide +kernel) rfl ?_
      refine hG.aload_n dX4_carries_108 rfl ?_
      refine hG.get dX4_carries_109 fg_X4_51_X4 (Or.inl mdL_m) rfl ?_
      refine hG.iconst (v := 3) dX4_carries_112 rfl ?_
      refine hG.ld_to hA 3 dX4_carries_113 rfl (by decide) (v := nI d) (g3) ?_
      refine hG.iconst (v := 1) dX4_carries_114 rfl ?_
      refine hG.icmp_le (tgt := 122) dX4_carries_115 rfl (fun c_115 => absurd c_115 (nI_ge (a := 1) (by omega) (by omega))) (fun c_115 => ?_)
      refine hG.iconst (v := -1) dX4_carries_118 rfl ?_
      refine hG.goto (tgt := 159) dX4_carries_119 rfl ?_
      refine hG.iret dX4_carries_159 rfl ?_ (by omega) (by omega) trivial
      obtain ⟨b9, hb9⟩ := boa_3 (R := R) (k := a) (w := b) (n := c) h1d h5
      exact ⟨fun _ => -1, fun _ => (by decide : (-1 : Int32) < 0), rfl, V.nw, V.an, V.re, V.de, (by rw [wX_self]), by rw [show outC (4, a, b, c, d) R = .inr (.inl b9) from hb9]; exact ⟨rfl, rfl, rfl, rfl⟩⟩
    · rcases (by omega : d = 1 ∨ d = 0) with rfl | rfl
      · skip
        refine hG.aload_n dX4_carries_0 rfl ?_
        refine hG.get dX4_carries_1 fg_X4_232_X4 (Or.inl mdL_m) rfl ?_
        rw [show V.cm = nI 4 from hTd]
        refine hG.tabIn (off := 104) (tgt := 108) dX4_carries_4 (by decide +kernel) (by decide +kernel) (by decide +kernel) rfl ?_
        refine hG.aload_n dX4_carries_108 rfl ?_
        refine hG.get dX4_carries_109 fg_X4_51_X4 (Or.inl mdL_m) rfl ?_
        refine hG.iconst (v := 3) dX4_carries_112 rfl ?_
        refine hG.ld_to hA 3 dX4_carries_113 rfl (by decide) (v := nI 1) (g3) ?_
        refine hG.iconst (v := 1) dX4_carries_114 rfl ?_
        refine hG.icmp_le (tgt := 122) dX4_carries_115 rfl (fun c_115 => ?_) (fun c_115 => absurd (by decide) c_115)
        refine hG.aload_n dX4_carries_122 rfl ?_
        refine hG.aload_n dX4_carries_123 rfl ?_
        refine hG.get dX4_carries_124 fg_X4_51_X4 (Or.inl mdL_m) rfl ?_
        refine hG.iconst (v := 0) dX4_carries_127 rfl ?_
        refine hG.ld_to hA 0 dX4_carries_128 rfl (by decide) (v := nI a) (g0) ?_
        refine hG.aload_n dX4_carries_129 rfl ?_
        refine hG.get dX4_carries_130 fg_X4_51_X4 (Or.inl mdL_m) rfl ?_
        refine hG.iconst (v := 1) dX4_carries_133 rfl ?_
        refine hG.ld_to hA 1 dX4_carries_134 rfl (by decide) (v := nI b) (g1) ?_
        refine hG.aload_n dX4_carries_135 rfl ?_
        refine hG.get dX4_carries_136 fg_X4_51_X4 (Or.inl mdL_m) rfl ?_
        refine hG.iconst (v := 2) dX4_carries_139 rfl ?_
        refine hG.ld_to hA 2 dX4_carries_140 rfl (by decide) (v := nI c) (g2) ?_
        refine hG.aload_n dX4_carries_141 rfl ?_
        refine hG.get dX4_carries_142 fg_X4_51_X4 (Or.inl mdL_m) rfl ?_
        refine hG.iconst (v := 3) dX4_carries_145 rfl ?_
        refine hG.ld_to hA 3 dX4_carries_146 rfl (by decide) (v := nI 1) (g3) ?_
        refine hG.iconst (v := 1) dX4_carries_147 rfl ?_
        refine hG.icmp_ne (tgt := 155) dX4_carries_148 rfl (fun c_148 => absurd rfl c_148) (fun c_148 => ?_)
        refine hG.iconst (v := 1) dX4_carries_151 rfl ?_
        refine hG.goto (tgt := 156) dX4_carries_152 rfl ?_
        refine hG.callV dX4_carries_156 kv_X4_168 (Rcv.raw mdL_m cl_X4) (sp_X4_boards (N := N) (R := R) (V := V) hΓ hA hR hw (w := true)) rfl rfl (Nat.le_of_ble_eq_true rfl) (by decide) (by omega) (by omega) (fun r156 I156 L156 hI156 h156 => ?_) (fun _ _ _ _ _ h => h.elim)
        obtain ⟨z156, rfl⟩ := pIs.int h156
        refine hG.iret dX4_carries_159 rfl ?_ (by omega) (by omega) trivial
        exact ⟨_, cd12, h156⟩
      · skip
        refine hG.aload_n dX4_carries_0 rfl ?_
        refine hG.get dX4_carries_1 fg_X4_232_X4 (Or.inl mdL_m) rfl ?_
        rw [show V.cm = nI 4 from hTd]
        refine hG.tabIn (off := 104) (tgt := 108) dX4_carries_4 (by decide +kernel) (by decide +kernel) (by decide +kernel) rfl ?_
        refine hG.aload_n dX4_carries_108 rfl ?_
        refine hG.get dX4_carries_109 fg_X4_51_X4 (Or.inl mdL_m) rfl ?_
        refine hG.iconst (v := 3) dX4_carries_112 rfl ?_
        refine hG.ld_to hA 3 dX4_carries_113 rfl (by decide) (v := nI 0) (g3) ?_
        refine hG.iconst (v := 1) dX4_carries_114 rfl ?_
        refine hG.icmp_le (tgt := 122) dX4_carries_115 rfl (fun c_115 => ?_) (fun c_115 => absurd (by decide) c_115)
        refine hG.aload_n dX4_carries_122 rfl ?_
        refine hG.aload_n dX4_carries_123 rfl ?_
        refine hG.get dX4_carries_124 fg_X4_51_X4 (Or.inl mdL_m) rfl ?_
        refine hG.iconst (v := 0) dX4_carries_127 rfl ?_
        refine hG.ld_to hA 0 dX4_carries_128 rfl (by decide) (v := nI a) (g0) ?_
        refine hG.aload_n dX4_carries_129 rfl ?_
        refine hG.get dX4_carries_130 fg_X4_51_X4 (Or.inl mdL_m) rfl ?_
        refine hG.iconst (v := 1) dX4_carries_133 rfl ?_
        refine hG.ld_to hA 1 dX4_carries_134 rfl (by decide) (v := nI b) (g1) ?_
        refine hG.aload_n dX4_carries_135 rfl ?_
        refine hG.get dX4_carries_136 fg_X4_51_X4 (Or.inl mdL_m) rfl ?_
        refine hG.iconst (v := 2) dX4_carries_139 rfl ?_
        refine hG.ld_to hA 2 dX4_carries_140 rfl (by decide) (v := nI c) (g2) ?_
        refine hG.aload_n dX4_carries_141 rfl ?_
        refine hG.get dX4_carries_142 fg_X4_51_X4 (Or.inl mdL_m) rfl ?_
        refine hG.iconst (v := 3) dX4_carries_145 rfl ?_
        refine hG.ld_to hA 3 dX4_carries_146 rfl (by decide) (v := nI 0) (g3) ?_
        refine hG.iconst (v := 1) dX4_carries_147 rfl ?_
        refine hG.icmp_ne (tgt := 155) dX4_carries_148 rfl (fun c_148 => ?_) (fun c_148 => absurd c_148 (by decide))
        refine hG.iconst (v := 0) dX4_carries_155 rfl ?_
        refine hG.callV dX4_carries_156 kv_X4_168 (Rcv.raw mdL_m cl_X4) (sp_X4_boards (N := N) (R := R) (V := V) hΓ hA hR hw (w := false)) rfl rfl (Nat.le_of_ble_eq_true rfl) (by decide) (by omega) (by omega) (fun r156 I156 L156 hI156 h156 => ?_) (fun _ _ _ _ _ h => h.elim)
        obtain ⟨z156, rfl⟩ := pIs.int h156
        refine hG.iret dX4_carries_159 rfl ?_ (by omega) (by omega) trivial
        exact ⟨_, cd12, h156⟩
  · obtain ⟨hTd, g0, g1⟩ := hTd
    refine hG.aload_n dX4_carries_0 rfl ?_
    refine hG.get dX4_carries_1 fg_X4_232_X4 (Or.inl mdL_m) rfl ?_
    rw [show V.cm = nI 5 from hTd]
    refine hG.tabIn (off := 156) (tgt := 160) dX4_carries_4 (by decide +kernel) (by decide +kernel) (by decide +kernel) rfl ?_
    refine hG.aload_n dX4_carries_160 rfl ?_
    refine hG.aload_n dX4_carries_161 rfl ?_
    refine hG.get dX4_carries_162 fg_X4_51_X4 (Or.inl mdL_m) rfl ?_
    refine hG.iconst (v := 0) dX4_carries_165 rfl ?_
    refine hG.ld_to hA 0 dX4_carries_166 rfl (by decide) (v := nI a) (g0) ?_
    refine hG.aload_n dX4_carries_167 rfl ?_
    refine hG.get dX4_carries_168 fg_X4_51_X4 (Or.inl mdL_m) rfl ?_
    refine hG.iconst (v := 1) dX4_carries_171 rfl ?_
    refine hG.ld_to hA 1 dX4_carries_172 rfl (by decide) (v := nI b) (g1) ?_
    refine hG.callV dX4_carries_173 kv_X4_127 (Rcv.raw mdL_m cl_X4) (sp_X4_sets (N := N) (R := R) (V := V) hΓ hA hR hw) rfl rfl (Nat.le_of_ble_eq_true rfl) (by decide) (by omega) (by omega) (fun r173 I173 L173 hI173 h173 => ?_) (fun _ _ _ _ _ h => h.elim)
    obtain ⟨z173, rfl⟩ := pIs.int h173
    refine hG.iret dX4_carries_176 rfl ?_ (by omega) (by omega) trivial
    exact ⟨_, cd12, h173⟩
  · obtain ⟨hTd, g0⟩ := hTd
    refine hG.aload_n dX4_carries_0 rfl ?_
    refine hG.get dX4_carries_1 fg_X4_232_X4 (Or.inl mdL_m) rfl ?_
    rw [show V.cm = nI 6 from hTd]
    refine hG.tabOut (tgt := 177) dX4_carries_4 (by decide +kernel) rfl ?_
    refine hG.aload_n dX4_carries_177 rfl ?_
    refine hG.aload_n dX4_carries_178 rfl ?_
    refine hG.get dX4_carries_179 fg_X4_51_X4 (Or.inl mdL_m) rfl ?_
    refine hG.iconst (v := 0) dX4_carries_182 rfl ?_
    refine hG.ld_to hA 0 dX4_carries_183 rfl (by decide) (v := nI a) (g0) ?_
    refine hG.callV dX4_carries_184 kv_X4_133 (Rcv.raw mdL_m cl_X4) (sp_X4_weighsOne (N := N) (R := R) (V := V) hΓ hA hR hw) rfl rfl (Nat.le_of_ble_eq_true rfl) (by decide) (by omega) (by omega) (fun r184 I184 L184 hI184 h184 => ?_) (fun _ _ _ _ _ h => h.elim)
    obtain ⟨z184, rfl⟩ := pIs.int h184
    refine hG.iret dX4_carries_187 rfl ?_ (by omega) (by omega) trivial
    exact ⟨_, cd12, h184⟩
