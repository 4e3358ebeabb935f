/-! may the ferry cross -/
def cst (R : Rv) (w : Bool) : Int32 := match w with
  | true => R.st
  | false => R.st - 1
abbrev lackV (R : Rv) (c0 : T3) (c : Int32) : Int32 := c0.1 + leastD R.an c - R.rp
abbrev trimV (R : Rv) : Int32 := absI (tsum true R.fo - tsum true R.af)
def chk2 (R : Rv) (c0 : T3) (c : Int32) : Option (Int32 × Int32) := if leastD R.an c = -1 then some (4, c) else if ¬ lackV R c0 c ≤ 0 then some (5, lackV R c0 c) else if ¬ trimV R ≤ 10 then some (6, trimV R) else if ¬ flowV R c0 R.hr ≤ 12 then some (9, flowV R c0 R.hr) else if ¬ R.hr + 1 ≤ 9999 then some (10, R.hr + 1) else none
def chk (R : Rv) (w : Bool) : Option (Int32 × Int32) := if inR (cst R w) 0 (nI R.ch.length - 1) = true then (match R.ch[(cst R w).toNatClampNeg]? with
  | none => none
  | some c0 => chk2 R c0 (cst R w)) else some (3, R.st)
theorem chk_0 {R : Rv} {w : Bool} (h : inR (cst R w) 0 (nI R.ch.length - 1) = false) : chk R w = some (3, R.st) := by
  unfold chk
  rw [h]
  rfl
theorem chk_in {R : Rv} {w : Bool} {i : Nat} {c0 : T3} (h : inR (cst R w) 0 (nI R.ch.length - 1) = true) (hi : cst R w = nI i) (hl : i < 2 ^ 31) (hc : R.ch[i]? = some c0) : chk R w = chk2 R c0 (cst R w) := by
  unfold chk
  rw [if_pos h, hi, nI_clamp hl, hc]
theorem kv_X2_286 : LkV RX2 286 yX2_leastDrag 1 := ⟨q1872, q1873, q1874, q74, by decide +kernel, by decide +kernel, by decide +kernel⟩
theorem fg_X2_234_X6 : LkG RX2 234 ciX6 0 := ⟨RX6, TX6, 3, tyX6, _, cls_X6, by decide, Or.inl rfl, Or.inr ⟨_, q2119⟩⟩
theorem fg_X2_41_X2 : LkG RX2 41 ciX2 9 := ⟨RX2, TX2, 13, tyX2, _, cls_X2, by decide, Or.inl rfl, Or.inl q271⟩
theorem kv_X2_180 : LkV RX2 180 yX2_allowHours 1 := ⟨q1893, q1895, qs8, q74, by decide +kernel, by decide +kernel, by decide +kernel⟩
set_option maxHeartbeats 4000000 in
set_option maxRecDepth 100000 in
theorem sp_X2_check {l : Launch} {s0 : State} {D : va_G} {I : AI} {L : AL} {dE ca : Nat} {ad : Nat → Nat} {r : Nat} {R : Rv} {A : RA} (hΓ : Gam l s0 D) (hZ : Std s0 D dE ca ad) (h : RvO dE I L r R A) {w : Bool} : Spc l s0 D yX2_check 9 [.ref r, .int (b2i w)] I L 12 70 (fun q I' L' => q = none ∧ chk R w = none ∧ L = L') (fun E q I' L' => ∃ p : Int32 × Int32, chk R w = some p ∧ E = RX7 ∧ L = L' ∧ I' q (rfE p.1 p.2)) := by
  refine Spc.of hΓ cX2_check 7 none q1871 (by decide +kernel) (by decide) (Nat.le_of_ble_eq_true rfl) (fun G GX hG => ?_)
  refine hG.peek h.h0 (fun J9 S9 _ hli => ?_)
  have hl10 : A.xs.length ≤ 10 := hli.1
  have hll := h.e0.len
  rcases w with _ | _
  · refine hG.iload_n dX2_check_0 rfl ?_
    refine hG.if_eq (tgt := 11) dX2_check_1 rfl (fun c_1 => ?_) (fun c_1 => absurd rfl c_1)
    refine hG.aload_n dX2_check_11 rfl ?_
    refine hG.get dX2_check_12 fg_X2_84_X2 (Or.inl h.h) rfl ?_
    refine hG.iconst (v := 1) dX2_check_15 rfl ?_
    refine hG.isub dX2_check_16 ?_
    refine hG.istore_n dX2_check_17 (by decide) ?_
    refine hG.iload_n dX2_check_18 rfl ?_
    refine hG.iconst (v := 0) dX2_check_19 rfl ?_
    refine hG.aload_n dX2_check_20 rfl ?_
    refine hG.get dX2_check_21 fg_X2_12_X2 (Or.inl h.h) rfl ?_
    refine hG.callF dX2_check_24 kf_X2_96_J2 (Rcv.li h.h0) cl_J2 (sp_J2_size hΓ h.h0) rfl rfl (Nat.le_of_ble_eq_true rfl) (by decide) (by omega) (by omega) (fun r24 I24 L24 hI24 h24 => ?_) (fun _ _ _ _ _ h => h.elim)
    obtain ⟨rfl, rfl, rfl⟩ := h24
    refine hG.iconst (v := 1) dX2_check_29 rfl ?_
    refine hG.isub dX2_check_30 ?_
    refine hG.callNS dX2_check_31 ks_X2_100 (sp_X1_inRange hΓ) rfl rfl (Nat.le_of_ble_eq_true rfl) (by decide) (by omega) (by omega) (fun r31 I31 L31 hI31 h31 => ?_) (fun _ _ _ _ _ h => h.elim)
    obtain ⟨rfl, rfl, rfl⟩ := h31
    refine hG.iconst (v := 3) dX2_check_34 rfl ?_
    refine hG.aload_n dX2_check_35 rfl ?_
    refine hG.get dX2_check_36 fg_X2_84_X2 (Or.inl h.h) rfl ?_
    refine hG.callNS dX2_check_39 ks_X2_176 (sp_X1_allow hΓ) rfl rfl (Nat.le_of_ble_eq_true rfl) (by decide) (by omega) (by omega) (fun r39 I39 L39 hI39 h39 => ?_) (fun E q I' L' hI ⟨e1, e2, e3, e4⟩ => hG.out (by simp) ⟨_, chk_0 (by rw [← hll]; exact e2), e1, e3, e4⟩ (by omega) (by omega) trivial)
    obtain ⟨rfl, hb, rfl, rfl⟩ := h39
    rw [hll] at hb
    obtain ⟨i, hi, hci⟩ := idx_of (by omega) hb
    obtain ⟨c0, hc0, -⟩ := get_lt hi
    obtain ⟨x0, hx0, hx0c⟩ := h.e0.get hc0
    have hck := chk_in (w := false) hb hci (by omega) hc0
    unfold chk2 at hck
    refine hG.aload_n dX2_check_42 rfl ?_
    refine hG.iload_n dX2_check_43 rfl ?_
    refine hG.callV dX2_check_44 kv_X2_286 (Rcv.raw h.h cl_X2) (sp_X2_leastDrag hΓ hZ h) rfl rfl (Nat.le_of_ble_eq_true rfl) (by decide) (by omega) (by omega) (fun r44 I44 L44 hI44 h44 => ?_) (fun _ _ _ _ _ h => h.elim)
    obtain ⟨rfl, rfl, rfl⟩ := h44
    refine hG.istore_n dX2_check_47 (by decide) ?_
    refine hG.iload_n dX2_check_48 rfl ?_
    refine hG.iconst (v := -1) dX2_check_49 rfl ?_
    refine hG.dia1 (p := 50) (fun kt kf => hG.icmp_eq (tgt := 57) dX2_check_50 rfl kt kf) dX2_check_53 dX2_check_54 rfl dX2_check_57 ?_
    refine hG.iconst (v := 4) dX2_check_58 rfl ?_
    refine hG.iload_n dX2_check_59 rfl ?_
    refine hG.callNS dX2_check_60 ks_X2_176 (sp_X1_allow hΓ) rfl rfl (Nat.le_of_ble_eq_true rfl) (by decide) (by omega) (by omega) (fun r60 I60 L60 hI60 h60 => ?_) (fun E q I' L' hI ⟨e1, e2, e3, e4⟩ => hG.out (by simp) ⟨_, hck.trans (if_pos (ndecF.mp e2)), e1, e3, e4⟩ (by omega) (by omega) trivial)
    obtain ⟨rfl, hb2, rfl, rfl⟩ := h60
    have hd : ¬ leastD R.an (cst R false) = -1 := ndec.mp hb2
    rw [if_neg hd] at hck
    refine hG.lsb [(0, .ref r), (2, .int (nI i)), (3, .int (leastD R.an (cst R false)))] ⟨rfl, congrArg (fun z => some (Value.int z)) hci, rfl, trivial⟩ ?_
    refine hG.aload_n dX2_check_63 rfl ?_
    refine hG.get dX2_check_64 fg_X2_12_X2 (Or.inl h.h) rfl ?_
    refine hG.iload_n dX2_check_67 rfl ?_
    refine hG.callF dX2_check_68 kf_X2_108_J2 (Rcv.li h.h0) cl_J2 (sp_J2_get hΓ h.h0 hx0) rfl rfl (Nat.le_of_ble_eq_true rfl) (by decide) (by omega) (by omega) (fun r68 I68 L68 hI68 h68 => ?_) (fun _ _ _ _ _ h => h.elim)
    obtain ⟨rfl, rfl, rfl⟩ := h68
    refine hG.castS dX2_check_73 q556 (Rcv.imm hx0c cl_X6) cl_X6 ?_
    refine hG.get dX2_check_76 fg_X2_234_X6 (Or.inr hx0c) rfl ?_
    refine hG.iload_n dX2_check_79 rfl ?_
    refine hG.iadd dX2_check_80 ?_
    refine hG.aload_n dX2_check_81 rfl ?_
    refine hG.get dX2_check_82 fg_X2_41_X2 (Or.inl h.h) rfl ?_
    refine hG.isub dX2_check_85 ?_
    refine hG.istore dX2_check_86 (by decide) ?_
    refine hG.iload dX2_check_88 rfl ?_
    refine hG.dia1 (p := 90) (fun kt kf => hG.if_gt (tgt := 97) dX2_check_90 rfl kt kf) dX2_check_93 dX2_check_94 rfl dX2_check_97 ?_
    refine hG.iconst (v := 5) dX2_check_98 rfl ?_
    refine hG.iload dX2_check_99 rfl ?_
    refine hG.callNS dX2_check_101 ks_X2_176 (sp_X1_allow hΓ) rfl rfl (Nat.le_of_ble_eq_true rfl) (by decide) (by omega) (by omega) (fun r101 I101 L101 hI101 h101 => ?_) (fun E q I' L' hI ⟨e1, e2, e3, e4⟩ => hG.out (by simp) ⟨_, hck.trans (if_pos (lt_not.mp (ndecF.mp e2))), e1, e3, e4⟩ (by omega) (by omega) trivial)
    obtain ⟨rfl, hb3, rfl, rfl⟩ := h101
    rw [if_neg (show ¬ ¬ lackV R c0 (cst R false) ≤ 0 from fun q => ndec.mp hb3 (lt_not.mpr q))] at hck
    refine hG.aload_n dX2_check_104 rfl ?_
    refine hG.get dX2_check_105 fg_X2_31_X2 (Or.inl h.h) rfl ?_
    refine hG.callV dX2_check_108 kv_X2_112 (Rcv.ta h.h4) (sp_X3_weight hΓ hZ h.h4) rfl rfl (Nat.le_of_ble_eq_true rfl) (by decide) (by omega) (by omega) (fun r108 I108 L108 hI108 h108 => ?_) (fun _ _ _ _ _ h => h.elim)
    obtain ⟨rfl, rfl⟩ := h108
    refine hG.aload_n dX2_check_111 rfl ?_
    refine hG.get dX2_check_112 fg_X2_34_X2 (Or.inl h.h) rfl ?_
    refine hG.callV dX2_check_115 kv_X2_112 (Rcv.ta h.h5) (sp_X3_weight hΓ hZ h.h5) rfl rfl (Nat.le_of_ble_eq_true rfl) (by decide) (by omega) (by omega) (fun r115 I115 L115 hI115 h115 => ?_) (fun _ _ _ _ _ h => h.elim)
    obtain ⟨rfl, rfl⟩ := h115
    have h2 := h.mono (ile_tr hI108 hI115) (fun _ _ _ hx => hx)
    refine hG.isub dX2_check_118 ?_
    refine hG.mabs dX2_check_119 q1880 (Nat.le_of_ble_eq_true rfl) (by decide) ?_
    refine hG.istore dX2_check_122 (by decide) ?_
    refine hG.iload dX2_check_124 rfl ?_
    refine hG.bipush (v := 10) dX2_check_126 rfl ?_
    refine hG.dia1 (p := 128) (fun kt kf => hG.icmp_gt (tgt := 135) dX2_check_128 rfl kt kf) dX2_check_131 dX2_check_132 rfl dX2_check_135 ?_
    refine hG.bipush (v := 6) dX2_check_136 rfl ?_
    refine hG.iload dX2_check_138 rfl ?_
    refine hG.callNS dX2_check_140 ks_X2_176 (sp_X1_allow hΓ) rfl rfl (Nat.le_of_ble_eq_true rfl) (by decide) (by omega) (by omega) (fun r140 I140 L140 hI140 h140 => ?_) (fun E q I' L' hI ⟨e1, e2, e3, e4⟩ => hG.out (by simp) ⟨_, hck.trans (if_pos (lt_not.mp (ndecF.mp e2))), e1, e3, e4⟩ (by omega) (by omega) trivial)
    obtain ⟨rfl, hb4, rfl, rfl⟩ := h140
    rw [if_neg (show ¬ ¬ trimV R ≤ 10 from fun q => ndec.mp hb4 (lt_not.mpr q))] at hck
    refine hG.aload_n dX2_check_143 rfl ?_
    refine hG.iload_n dX2_check_144 rfl ?_
    refine hG.aload_n dX2_check_145 rfl ?_
    refine hG.get dX2_check_146 fg_X2_81_X2 (Or.inl h.h) rfl ?_
    refine hG.callV dX2_check_149 kv_X2_137 (Rcv.raw h.h cl_X2) (sp_X2_flow hΓ hZ h2 hc0) rfl rfl (Nat.le_of_ble_eq_true rfl) (by decide) (by omega) (by omega) (fun r149 I149 L149 hI149 h149 => ?_) (fun _ _ _ _ _ h => h.elim)
    obtain ⟨rfl, rfl, rfl⟩ := h149
    refine hG.istore dX2_check_152 (by decide) ?_
    refine hG.iload dX2_check_154 rfl ?_
    refine hG.bipush (v := 12) dX2_check_156 rfl ?_
    refine hG.dia1 (p := 158) (fun kt kf => hG.icmp_gt (tgt := 165) dX2_check_158 rfl kt kf) dX2_check_161 dX2_check_162 rfl dX2_check_165 ?_
    refine hG.bipush (v := 9) dX2_check_166 rfl ?_
    refine hG.iload dX2_check_168 rfl ?_
    refine hG.callNS dX2_check_170 ks_X2_176 (sp_X1_allow hΓ) rfl rfl (Nat.le_of_ble_eq_true rfl) (by decide) (by omega) (by omega) (fun r170 I170 L170 hI170 h170 => ?_) (fun E q I' L' hI ⟨e1, e2, e3, e4⟩ => hG.out (by simp) ⟨_, hck.trans (if_pos (lt_not.mp (ndecF.mp e2))), e1, e3, e4⟩ (by omega) (by omega) trivial)
    obtain ⟨rfl, hb5, rfl, rfl⟩ := h170
    rw [if_neg (show ¬ ¬ flowV R c0 R.hr ≤ 12 from fun q => ndec.mp hb5 (lt_not.mpr q))] at hck
    refine hG.aload_n dX2_check_173 rfl ?_
    refine hG.iconst (v := 1) dX2_check_174 rfl ?_
    refine hG.callV dX2_check_175 kv_X2_180 (Rcv.raw h.h cl_X2) (sp_X2_allowHours hΓ h2) rfl rfl (Nat.le_of_ble_eq_true rfl) (by decide) (by omega) (by omega) (fun r175 I175 L175 hI175 h175 => ?_) (fun E q I' L' hI ⟨e1, e2, e3, e4⟩ => hG.out (by simp) ⟨_, hck.trans (if_pos e2), e1, e3, e4⟩ (by omega) (by omega) trivial)
    obtain ⟨rfl, hb6, rfl, rfl⟩ := h175
    rw [if_neg (show ¬ ¬ R.hr + 1 ≤ 9999 from fun q => q hb6)] at hck
    refine hG.vret dX2_check_178 rfl ?_ (by omega) (by omega) trivial
    exact ⟨rfl, hck, rfl⟩
  · refine hG.iload_n dX2_check_0 rfl ?_
    refine hG.if_eq (tgt := 11) dX2_check_1 rfl (fun c_1 => absurd c_1 (by decide)) (fun c_1 => ?_)
    refine hG.aload_n dX2_check_4 rfl ?_
    refine hG.get dX2_check_5 fg_X2_84_X2 (Or.inl h.h) rfl ?_
    refine hG.goto (tgt := 17) dX2_check_8 rfl ?_
    refine hG.istore_n dX2_check_17 (by decide) ?_
    refine hG.iload_n dX2_check_18 rfl ?_
    refine hG.iconst (v := 0) dX2_check_19 rfl ?_
    refine hG.aload_n dX2_check_20 rfl ?_
    refine hG.get dX2_check_21 fg_X2_12_X2 (Or.inl h.h) rfl ?_
    refine hG.callF dX2_check_24 kf_X2_96_J2 (Rcv.li h.h0) cl_J2 (sp_J2_size hΓ h.h0) rfl rfl (Nat.le_of_ble_eq_true rfl) (by decide) (by omega) (by omega) (fun r24 I24 L24 hI24 h24 => ?_) (fun _ _ _ _ _ h => h.elim)
    obtain ⟨rfl, rfl, rfl⟩ := h24
    refine hG.iconst (v := 1) dX2_check_29 rfl ?_
    refine hG.isub dX2_check_30 ?_
    refine hG.callNS dX2_check_31 ks_X2_100 (sp_X1_inRange hΓ) rfl rfl (Nat.le_of_ble_eq_true rfl) (by decide) (by omega) (by omega) (fun r31 I31 L31 hI31 h31 => ?_) (fun _ _ _ _ _ h => h.elim)
    obtain ⟨rfl, rfl, rfl⟩ := h31
    refine hG.iconst (v := 3) dX2_check_34 rfl ?_
    refine hG.aload_n dX2_check_35 rfl ?_
    refine hG.get dX2_check_36 fg_X2_84_X2 (Or.inl h.h) rfl ?_
    refine hG.callNS dX2_check_39 ks_X2_176 (sp_X1_allow hΓ) rfl rfl (Nat.le_of_ble_eq_true rfl) (by decide) (by omega) (by omega) (fun r39 I39 L39 hI39 h39 => ?_) (fun E q I' L' hI ⟨e1, e2, e3, e4⟩ => hG.out (by simp) ⟨_, chk_0 (by rw [← hll]; exact e2), e1, e3, e4⟩ (by omega) (by omega) trivial)
    obtain ⟨rfl, hb, rfl, rfl⟩ := h39
    rw [hll] at hb
    obtain ⟨i, hi, hci⟩ := idx_of (by omega) hb
    obtain ⟨c0, hc0, -⟩ := get_lt hi
    obtain ⟨x0, hx0, hx0c⟩ := h.e0.get hc0
    have hck := chk_in (w := true) hb hci (by omega) hc0
    unfold chk2 at hck
    refine hG.aload_n dX2_check_42 rfl ?_
    refine hG.iload_n dX2_check_43 rfl ?_
    refine hG.callV dX2_check_44 kv_X2_286 (Rcv.raw h.h cl_X2) (sp_X2_leastDrag hΓ hZ h) rfl rfl (Nat.le_of_ble_eq_true rfl) (by decide) (by omega) (by omega) (fun r44 I44 L44 hI44 h44 => ?_) (fun _ _ _ _ _ h => h.elim)
    obtain ⟨rfl, rfl, rfl⟩ := h44
    refine hG.istore_n dX2_check_47 (by decide) ?_
    refine hG.iload_n dX2_check_48 rfl ?_
    refine hG.iconst (v := -1) dX2_check_49 rfl ?_
    refine hG.dia1 (p := 50) (fun kt kf => hG.icmp_eq (tgt := 57) dX2_check_50 rfl kt kf) dX2_check_53 dX2_check_54 rfl dX2_check_57 ?_
    refine hG.iconst (v := 4) dX2_check_58 rfl ?_
    refine hG.iload_n dX2_check_59 rfl ?_
    refine hG.callNS dX2_check_60 ks_X2_176 (sp_X1_allow hΓ) rfl rfl (Nat.le_of_ble_eq_true rfl) (by decide) (by omega) (by omega) (fun r60 I60 L60 hI60 h60 => ?_) (fun E q I' L' hI ⟨e1, e2, e3, e4⟩ => hG.out (by simp) ⟨_, hck.trans (if_pos (ndecF.mp e2)), e1, e3, e4⟩ (by omega) (by omega) trivial)
    obtain ⟨rfl, hb2, rfl, rfl⟩ := h60
    have hd : ¬ leastD R.an (cst R true) = -1 := ndec.mp hb2
    rw [if_neg hd] at hck
    refine hG.lsb [(0, .ref r), (2, .int (nI i)), (3, .int (leastD R.an (cst R true)))] ⟨rfl, congrArg (fun z => some (Value.int z)) hci, rfl, trivial⟩ ?_
    refine hG.aload_n dX2_check_63 rfl ?_
    refine hG.get dX2_check_64 fg_X2_12_X2 (Or.inl h.h) rfl ?_
    refine hG.iload_n dX2_check_67 rfl ?_
    refine hG.callF dX2_check_68 kf_X2_108_J2 (Rcv.li h.h0) cl_J2 (sp_J2_get hΓ h.h0 hx0) rfl rfl (Nat.le_of_ble_eq_true rfl) (by decide) (by omega) (by omega) (fun r68 I68 L68 hI68 h68 => ?_) (fun _ _ _ _ _ h => h.elim)
    obtain ⟨rfl, rfl, rfl⟩ := h68
    refine hG.castS dX2_check_73 q556 (Rcv.imm hx0c cl_X6) cl_X6 ?_
    refine hG.get dX2_check_76 fg_X2_234_X6 (Or.inr hx0c) rfl ?_
    refine hG.iload_n dX2_check_79 rfl ?_
    refine hG.iadd dX2_check_80 ?_
    refine hG.aload_n dX2_check_81 rfl ?_
    refine hG.get dX2_check_82 fg_X2_41_X2 (Or.inl h.h) rfl ?_
    refine hG.isub dX2_check_85 ?_
    refine hG.istore dX2_check_86 (by decide) ?_
    refine hG.iload dX2_check_88 rfl ?_
    refine hG.dia1 (p := 90) (fun kt kf => hG.if_gt (tgt := 97) dX2_check_90 rfl kt kf) dX2_check_93 dX2_check_94 rfl dX2_check_97 ?_
    refine hG.iconst (v := 5) dX2_check_98 rfl ?_
    refine hG.iload dX2_check_99 rfl ?_
    refine hG.callNS dX2_check_101 ks_X2_176 (sp_X1_allow hΓ) rfl rfl (Nat.le_of_ble_eq_true rfl) (by decide) (by omega) (by omega) (fun r101 I101 L101 hI101 h101 => ?_) (fun E q I' L' hI ⟨e1, e2, e3, e4⟩ => hG.out (by simp) ⟨_, hck.trans (if_pos (lt_not.mp (ndecF.mp e2))), e1, e3, e4⟩ (by omega) (by omega) trivial)
    obtain ⟨rfl, hb3, rfl, rfl⟩ := h101
    rw [if_neg (show ¬ ¬ lackV R c0 (cst R true) ≤ 0 from fun q => ndec.mp hb3 (lt_not.mpr q))] at hck
    refine hG.aload_n dX2_check_104 rfl ?_
    refine hG.get dX2_check_105 fg_X2_31_X2 (Or.inl h.h) rfl ?_
    refine hG.callV dX2_check_108 kv_X2_112 (Rcv.ta h.h4) (sp_X3_weight hΓ hZ h.h4) rfl rfl (Nat.le_of_ble_eq_true rfl) (by decide) (by omega) (by omega) (fun r108 I108 L108 hI108 h108 => ?_) (fun _ _ _ _ _ h => h.elim)
    obtain ⟨rfl, rfl⟩ := h108
    refine hG.aload_n dX2_check_111 rfl ?_
    refine hG.get dX2_check_112 fg_X2_34_X2 (Or.inl h.h) rfl ?_
    refine hG.callV dX2_check_115 kv_X2_112 (Rcv.ta h.h5) (sp_X3_weight hΓ hZ h.h5) rfl rfl (Nat.le_of_ble_eq_true rfl) (by decide) (by omega) (by omega) (fun r115 I115 L115 hI115 h115 => ?_) (fun _ _ _ _ _ h => h.elim)
    obtain ⟨rfl, rfl⟩ := h115
    have h2 := h.mono (ile_tr hI108 hI115) (fun _ _ _ hx => hx)
    refine hG.isub dX2_check_118 ?_
    refine hG.mabs dX2_check_119 q1880 (Nat.le_of_ble_eq_true rfl) (by decide) ?_
    refine hG.istore dX2_check_122 (by decide) ?_
    refine hG.iload dX2_check_124 rfl ?_
    refine hG.bipush (v := 10) dX2_check_126 rfl ?_
    refine hG.dia1 (p := 128) (fun kt kf => hG.icmp_gt (tgt := 135) dX2_check_128 rfl kt kf) dX2_check_131 dX2_check_132 rfl dX2_check_135 ?_
    refine hG.bipush (v := 6) dX2_check_136 rfl ?_
    refine hG.iload dX2_check_138 rfl ?_
    refine hG.callNS dX2_check_140 ks_X2_176 (sp_X1_allow hΓ) rfl rfl (Nat.le_of_ble_eq_true rfl) (by decide) (by omega) (by omega) (fun r140 I140 L140 hI140 h140 => ?_) (fun E q I' L' hI ⟨e1, e2, e3, e4⟩ => hG.out (by simp) ⟨_, hck.trans (if_pos (lt_not.mp (ndecF.mp e2))), e1, e3, e4⟩ (by omega) (by omega) trivial)
    obtain ⟨rfl, hb4, rfl, rfl⟩ := h140
    rw [if_neg (show ¬ ¬ trimV R ≤ 10 from fun q => ndec.mp hb4 (lt_not.mpr q))] at hck
    refine hG.aload_n dX2_check_143 rfl ?_
    refine hG.iload_n dX2_check_144 rfl ?_
    refine hG.aload_n dX2_check_145 rfl ?_
    refine hG.get dX2_check_146 fg_X2_81_X2 (Or.inl h.h) rfl ?_
    refine hG.callV dX2_check_149 kv_X2_137 (Rcv.raw h.h cl_X2) (sp_X2_flow hΓ hZ h2 hc0) rfl rfl (Nat.le_of_ble_eq_true rfl) (by decide) (by omega) (by omega) (fun r149 I149 L149 hI149 h149 => ?_) (fun _ _ _ _ _ h => h.elim)
    obtain ⟨rfl, rfl, rfl⟩ := h149
    refine hG.istore dX2_check_152 (by decide) ?_
    refine hG.iload dX2_check_154 rfl ?_
    refine hG.bipush (v := 12) dX2_check_156 rfl ?_
    refine hG.dia1 (p := 158) (fun kt kf => hG.icmp_gt (tgt := 165) dX2_check_158 rfl kt kf) dX2_check_161 dX2_check_162 rfl dX2_check_165 ?_
    refine hG.bipush (v := 9) dX2_check_166 rfl ?_
    refine hG.iload dX2_check_168 rfl ?_
    refine hG.callNS dX2_check_170 ks_X2_176 (sp_X1_allow hΓ) rfl rfl (Nat.le_of_ble_eq_true rfl) (by decide) (by omega) (by omega) (fun r170 I170 L170 hI170 h170 => ?_) (fun E q I' L' hI ⟨e1, e2, e3, e4⟩ => hG.out (by simp) ⟨_, hck.trans (if_pos (lt_not.mp (ndecF.mp e2))), e1, e3, e4⟩ (by omega) (by omega) trivial)
    obtain ⟨rfl, hb5, rfl, rfl⟩ := h170
    rw [if_neg (show ¬ ¬ flowV R c0 R.hr ≤ 12 from fun q => ndec.mp hb5 (lt_not.mpr q))] at hck
    refine hG.aload_n dX2_check_173 rfl ?_
    refine hG.iconst (v := 1) dX2_check_174 rfl ?_
    refine hG.callV dX2_check_175 kv_X2_180 (Rcv.raw h.h cl_X2) (sp_X2_allowHours hΓ h2) rfl rfl (Nat.le_of_ble_eq_true rfl) (by decide) (by omega) (by omega) (fun r175 I175 L175 hI175 h175 => ?_) (fun E q I' L' hI ⟨e1, e2, e3, e4⟩ => hG.out (by simp) ⟨_, hck.trans (if_pos e2), e1, e3, e4⟩ (by omega) (by omega) trivial)
    obtain ⟨rfl, hb6, rfl, rfl⟩ := h175
    rw [if_neg (show ¬ ¬ R.hr + 1 ≤ 9999 from fun q => q hb6)] at hck
    refine hG.vret dX2_check_178 rfl ?_ (by omega) (by omega) trivial
    exact ⟨rfl, hck, rfl⟩
