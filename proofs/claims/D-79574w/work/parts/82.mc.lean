/-! hours that pass, and what bars a crossing -/
theorem liveN_hr {R : Rv} : ∀ k, (liveN R k).hr = R.hr + nI k
  | 0 => (Int32.add_zero R.hr).symm
  | k + 1 => by
    show (liveN R k).hr + 1 = _
    rw [liveN_hr k, Int32.add_assoc, nI_1]
theorem sub3 (a b c : Int32) : a - b + (b - c) = a - c := by grind
/-- an hour before the last one -/
theorem hr_lt {x : Int32} {k H : Nat} (h0 : 0 ≤ x) (h1 : x ≤ 9999) (hH : H ≤ 99) (h : x + nI H ≤ 9999) (hk : k < H) : x + nI k + 1 ≤ 9999 := by
  have a0 := i_le.mp h0
  have a1 := i_le.mp h1
  have a2 := i_le.mp h
  have e9 : (9999 : Int32).toInt = 9999 := rfl
  rw [tlt0] at a0
  rw [e9] at a1 a2
  have eH : (nI H).toInt = H := nI_toInt (by omega)
  have ek : (nI (k + 1)).toInt = (k + 1 : Nat) := nI_toInt (by omega)
  rw [t_add (by omega) (by omega)] at a2
  refine i_le.mpr ?_
  rw [Int32.add_assoc, nI_1, t_add (by omega) (by omega), e9]
  omega
theorem Wf.liveN {N : Nat} {R : Rv} {H : Nat} (hw : Wf N R) (hH : H ≤ 99) (h : R.hr + nI H ≤ 9999) : ∀ k, k ≤ H → Wf N (liveN R k)
  | 0, _ => hw
  | k + 1, hk => by
    have h1 := Wf.liveN hw hH h k (by omega)
    refine h1.live ?_
    rw [liveN_hr]
    exact hr_lt hw.hr.1 hw.hr.2 hH h (by omega)
theorem kv_X4_211 : LkV RX4 211 yX4_hour 0 := ⟨q3560, q3562, qs63, q87, by decide +kernel, by decide +kernel, by decide +kernel⟩
set_option maxHeartbeats 4000000 in
set_option maxRecDepth 100000 in
theorem sp_X4_passes {l : Launch} {s0 : State} {D : va_G} {I : AI} {L : AL} {m : Nat} {A : MA} {V : MV} {N : Nat} {R : Rv} (hΓ : Gam l s0 D) (hA : MOk m A) (hR : Rep N R V.nw) (hw : Wf N R) {n : Int32} : Spc l s0 D yX4_passes 7 [.ref m, .int n] I (mdL L m A V) 0 0 (pIs N I L m A V (fun _ => -1) (pasO n R)) noX := by
  refine Spc.of hΓ cX4_passes 4 (some FieldType.int) q3575 (by decide +kernel) (by decide) (Nat.le_of_ble_eq_true rfl) (fun G GX hG => ?_)
  refine hG.iload_n dX4_passes_0 rfl ?_
  refine hG.iconst (v := 1) dX4_passes_1 rfl ?_
  refine hG.bipush (v := 99) dX4_passes_2 rfl ?_
  refine hG.callS dX4_passes_4 ks_X4_80 (sp_X4_in hΓ) rfl rfl (Nat.le_of_ble_eq_true rfl) (by decide) (by omega) (by omega) (fun r4 I4 L4 hI4 h4 => ?_) (fun _ _ _ _ _ h => h.elim)
  obtain ⟨rfl, rfl, rfl⟩ := h4
  refine hG.if_ne (tgt := 12) dX4_passes_7 rfl (fun c_7 => ?_) (fun c_7 => ?_)
  · obtain ⟨g1, g2⟩ := inR_iff.mp (b2i_1 c_7)
    obtain ⟨H, hH, rfl⟩ := idx_le (n := n) (m := 99) (by decide) (inR_iff.mpr ⟨Int32.le_trans (by decide) g1, g2⟩)
    have ho : pasO (nI H) R = _ := if_pos (b2i_1 c_7)
    rw [nI_clamp (by omega)] at ho
    refine hG.aload_n dX4_passes_12 rfl ?_
    refine hG.get dX4_passes_13 fg_X4_21_X4 (Or.inl mdL_m) rfl ?_
    refine hG.iconst (v := 3) dX4_passes_16 rfl ?_
    refine hG.nld hA (3) dX4_passes_17 rfl (by decide) hR.k3 ?_
    refine hG.iload_n dX4_passes_18 rfl ?_
    refine hG.iadd dX4_passes_19 ?_
    refine hG.sipush (v := 9999) dX4_passes_20 rfl ?_
    refine hG.icmp_le (tgt := 41) dX4_passes_23 rfl (fun c_23 => ?_) (fun c_23 => ?_)
    · refine hG.iconst (v := 0) dX4_passes_41 rfl ?_
      refine hG.istore_n dX4_passes_42 (by decide) ?_
      refine hG.iconst (v := 0) dX4_passes_43 rfl ?_
      refine hG.istore_n dX4_passes_44 (by decide) ?_
      have hb : R.hr + nI H ≤ 9999 := c_23
      rw [if_pos hb] at ho
      have loop : ∀ (w k : Nat) (t : Nat → Int32), k + w = H → Rep N (liveN R k) t → G 45 [(0, .ref m), (1, .int (nI H)), (2, .int (holdN R.an - holdN (liveN R k).an)), (3, .int (nI k))] [] I (mdL L m A (V.wNw t)) 0 0 := by
        intro w
        induction w with
        | zero =>
          intro k t hkw ht
          have hke : k = H := by omega
          subst hke
          refine hG.iload_n dX4_passes_45 rfl ?_
          refine hG.iload_n dX4_passes_46 rfl ?_
          refine hG.icmp_ge (tgt := 63) dX4_passes_47 rfl (fun c_47 => ?_) (fun c_47 => absurd (nI_le (by omega) (by omega)) c_47)
          refine hG.aload_n dX4_passes_63 rfl ?_
          refine hG.iload_n dX4_passes_64 rfl ?_
          refine hG.callV dX4_passes_65 kv_X4_124 (Rcv.raw mdL_m cl_X4) (sp_X4_does hΓ) rfl rfl (Nat.le_of_ble_eq_true rfl) (by decide) (by omega) (by omega) (fun r65 I65 L65 hI65 h65 => ?_) (fun _ _ _ _ _ h => h.elim)
          obtain ⟨rfl, rfl, rfl⟩ := h65
          refine hG.iret dX4_passes_68 rfl ?_ (by omega) (by omega) trivial
          exact pIs.d ho (ht.mono (Nat.le_succ N))
        | succ w ih =>
          intro k t hkw ht
          have hw1 := hw.liveN hH hb k (by omega)
          refine hG.iload_n dX4_passes_45 rfl ?_
          refine hG.iload_n dX4_passes_46 rfl ?_
          refine hG.icmp_ge (tgt := 63) dX4_passes_47 rfl (fun c_47 => absurd c_47 (nI_ge (by omega) (by omega))) (fun c_47 => ?_)
          refine hG.iload_n dX4_passes_50 rfl ?_
          refine hG.aload_n dX4_passes_51 rfl ?_
          refine hG.callV dX4_passes_52 kv_X4_211 (Rcv.raw mdL_m cl_X4) (sp_X4_hour hΓ hA (V := V.wNw t) ht hw1) rfl rfl (Nat.le_of_ble_eq_true rfl) (by decide) (by omega) (by omega) (fun r52 I52 L52 hI52 h52 => ?_) (fun _ _ _ _ _ h => h.elim)
          obtain ⟨rfl, n, rfl, hn, rfl⟩ := h52
          refine hG.iadd dX4_passes_55 ?_
          rw [sub3]
          refine hG.istore_n dX4_passes_56 (by decide) ?_
          refine hG.iinc dX4_passes_57 rfl (by decide) ?_
          refine hG.goto (tgt := 45) dX4_passes_60 rfl ?_
          refine hG.lsb [(0, .ref m), (1, .int (nI H)), (2, .int (holdN R.an - holdN (liveR (liveN R k)).an)), (3, .int (nI k + Int32.ofInt 1))] ⟨rfl, rfl, rfl, rfl, trivial⟩ ?_
          rw [show nI k + Int32.ofInt 1 = nI (k + 1) from nI_add k 1]
          exact ih (k + 1) n (by omega) hn
      have e0 : holdN R.an - holdN (liveN R 0).an = 0 := Int32.sub_self _
      have h9 := loop H 0 V.nw (by omega) hR
      rw [e0] at h9
      exact hG.lsb [(0, .ref m), (1, .int (nI H)), (2, .int 0), (3, .int (nI 0))] ⟨rfl, rfl, rfl, rfl, trivial⟩ h9
    · refine hG.aload_n dX4_passes_26 rfl ?_
      refine hG.bipush (v := 10) dX4_passes_27 rfl ?_
      refine hG.aload_n dX4_passes_29 rfl ?_
      refine hG.get dX4_passes_30 fg_X4_21_X4 (Or.inl mdL_m) rfl ?_
      refine hG.iconst (v := 3) dX4_passes_33 rfl ?_
      refine hG.nld hA (3) dX4_passes_34 rfl (by decide) hR.k3 ?_
      refine hG.iload_n dX4_passes_35 rfl ?_
      refine hG.iadd dX4_passes_36 ?_
      refine hG.callV dX4_passes_37 kv_X4_87 (Rcv.raw mdL_m cl_X4) (sp_X4_why hΓ) rfl rfl (Nat.le_of_ble_eq_true rfl) (by decide) (by omega) (by omega) (fun r37 I37 L37 hI37 h37 => ?_) (fun _ _ _ _ _ h => h.elim)
      obtain ⟨rfl, rfl, rfl⟩ := h37
      refine hG.iret dX4_passes_40 rfl ?_ (by omega) (by omega) trivial
      exact pIs.r (a := V.an) (ho.trans (if_neg c_23)) (show (0 : Int32) < 10 by decide)
  · refine hG.iconst (v := -1) dX4_passes_10 rfl ?_
    refine hG.iret dX4_passes_11 rfl ?_ (by omega) (by omega) trivial
    first
    | exact pIs.e (b := true) (a := V.an) (if_neg (bFT (b2i_0 c_7))) rfl
theorem wAn_wAn {V : MV} {x y : Int32} : (V.wAn x).wAn y = V.wAn y := rfl
def brP (I : AI) (L : AL) (m : Nat) (A : MA) (V : MV) (o : Option (Int32 × Int32)) : Option Value → AI → AL → Prop := fun q I' L' => I = I' ∧ ∃ a : Int32, L' = mdL L m A (V.wAn a) ∧ match o with
  | none => q = some (.int 0) ∧ a = 0
  | some p => q = some (.int p.1) ∧ a = p.2
theorem brP.s {I : AI} {L : AL} {m : Nat} {A : MA} {V : MV} {o : Option (Int32 × Int32)} {p : Int32 × Int32} (h : o = some p) : brP I L m A V o (some (.int p.1)) I (mdL L m A (V.wAn p.2)) := by
  subst h
  exact ⟨rfl, p.2, rfl, rfl, rfl⟩
theorem brP.n {I : AI} {L : AL} {m : Nat} {A : MA} {V : MV} {o : Option (Int32 × Int32)} (h : o = none) : brP I L m A V o (some (.int 0)) I (mdL L m A (V.wAn 0)) := by
  subst h
  exact ⟨rfl, 0, rfl, rfl, rfl⟩
theorem leastD_bd {N : Nat} {R : Rv} (hw : Wf N R) (c : Int32) : leastD R.an c = -1 ∨ 0 ≤ leastD R.an c := by
  have key : ∀ (l : List T3) (s : Int32), (∀ a ∈ l, AnOk1 a) → (s = -1 ∨ 0 ≤ s) → (l.foldl (ldStep c) s = -1 ∨ 0 ≤ l.foldl (ldStep c) s) := by
    intro l
    induction l with
    | nil => intro s _ h; exact h
    | cons a l ih =>
      intro s hl h
      refine ih (ldStep c s a) (fun b hb => hl b (by simp [hb])) ?_
      unfold ldStep
      split
      · exact Or.inr (hl a (by simp)).2.2.1
      · exact h
  exact key R.an (-1) hw.as (Or.inl rfl)
theorem leastD_lt {N : Nat} {R : Rv} (hw : Wf N R) (c : Int32) : leastD R.an c < 0 ↔ leastD R.an c = -1 := ⟨fun h => (leastD_bd hw c).elim id (fun z => absurd z (lt_not.mp h)), fun h => by rw [h]; decide⟩
theorem inR_suc {j n : Nat} (hj : j < 2 ^ 20) (hn : n < 2 ^ 20) : inR (nI (j + 1)) 0 (nI n) = inR (nI j) 0 (nI n - 1) := by
  cases n with
  | zero =>
    have h1 : ¬ inR (nI (j + 1)) 0 (nI 0) = true := fun h => absurd ((nI_leI (by omega) (by omega)).mp (inR_iff.mp h).2) (by omega)
    have h2 : ¬ inR (nI j) 0 (nI 0 - 1) = true := fun h => absurd (Int32.le_trans (inR_iff.mp h).1 (inR_iff.mp h).2) (by decide)
    rw [Bool.eq_false_iff.mpr h1, Bool.eq_false_iff.mpr h2]
  | succ n =>
    rw [nI_pred]
    have : (inR (nI (j + 1)) 0 (nI (n + 1)) = true) ↔ (inR (nI j) 0 (nI n) = true) := by
      rw [inR_iff, inR_iff, nI_leI (by omega) (by omega), nI_leI (by omega) (by omega)]
      exact ⟨fun h => ⟨nI_pos' (by omega), by omega⟩, fun h => ⟨nI_pos' (by omega), by omega⟩⟩
    exact Bool.eq_iff_iff.mpr this
theorem kv_X4_121 : LkV RX4 121 yX4_leastDrag 1 := ⟨q3402, q3404, qs44, q87, by decide +kernel, by decide +kernel, by decide +kernel⟩
set_option maxHeartbeats 800000 in
set_option maxRecDepth 100000 in
theorem sp_X4_bars {l : Launch} {s0 : State} {D : va_G} {I : AI} {L : AL} {m : Nat} {A : MA} {V : MV} {N : Nat} {R : Rv} (hΓ : Gam l s0 D) (hA : MOk m A) (hR : Rep N R V.nw) (hw : Wf N R) {w : Bool} : Spc l s0 D yX4_bars 4 [.ref m, .int (b2i w)] I (mdL L m A V) 0 0 (brP I L m A V (chk R w)) noX := by
  refine Spc.of hΓ cX4_bars 5 (some FieldType.int) q3559 (by decide +kernel) (by decide) (Nat.le_of_ble_eq_true rfl) (fun G GX hG => ?_)
  rcases w with _ | _
  · have hl6 := hw.ch6
    have hRa : ∀ x, Rep N R (V.wAn x).nw := fun _ => hR
    obtain ⟨j, hj, hst⟩ := hw.st
    have k48 : ∀ (w : Bool) (i : Nat) (c0 : T3) (x : Int32), chk R false = chk2 R c0 (nI i) → R.ch[i]? = some c0 → G 48 [(0, .ref m), (3, .int (nI i))] [] I (mdL L m A (V.wAn x)) 0 0 := by
      intro w i c0 x hck hj
      have hil : i < R.ch.length := (List.getElem?_eq_some_iff.mp hj).1
      have hl6 := hw.ch6
      unfold chk2 at hck
      refine hG.aload_n dX4_bars_48 rfl ?_
      refine hG.iload_n dX4_bars_49 rfl ?_
      refine hG.put dX4_bars_50 fp_X4_64_X4 mdL_m rfl rfl (Nat.le_of_ble_eq_true rfl) ?_
      refine hG.mp_an ?_
      rw [wAn_wAn]
      refine hG.aload_n dX4_bars_53 rfl ?_
      refine hG.iload_n dX4_bars_54 rfl ?_
      refine hG.callV dX4_bars_55 kv_X4_121 (Rcv.raw mdL_m cl_X4) (sp_X4_leastDrag hΓ hA (V := V.wAn _) (hRa _) hw) rfl rfl (Nat.le_of_ble_eq_true rfl) (by decide) (by omega) (by omega) (fun r55 I55 L55 hI55 h55 => ?_) (fun _ _ _ _ _ h => h.elim)
      obtain ⟨rfl, rfl, rfl⟩ := h55
      refine hG.istore dX4_bars_58 (by decide) ?_
      refine hG.iload dX4_bars_60 rfl ?_
      refine hG.if_ge (tgt := 67) dX4_bars_62 rfl (fun c_62 => ?_) (fun c_62 => ?_)
      · have hl9 : ¬ leastD R.an (nI i) = -1 := fun e => absurd ((leastD_lt hw _).mpr e) (Int32.not_lt.mpr c_62)
        rw [if_neg hl9] at hck
        refine hG.aload_n dX4_bars_67 rfl ?_
        refine hG.aload_n dX4_bars_68 rfl ?_
        refine hG.get dX4_bars_69 fg_X4_21_X4 (Or.inl mdL_m) rfl ?_
        refine hG.bipush (v := 13) dX4_bars_72 rfl ?_
        refine hG.iconst (v := 3) dX4_bars_74 rfl ?_
        refine hG.iload_n dX4_bars_75 rfl ?_
        refine hG.imul dX4_bars_76 ?_
        refine hG.iadd dX4_bars_77 ?_
        refine hG.nld hA (13 + 3 * i) dX4_bars_78 (ix3 13 i) (by omega) (hR.c hj).1 ?_
        refine hG.iload dX4_bars_79 rfl ?_
        refine hG.iadd dX4_bars_81 ?_
        refine hG.aload_n dX4_bars_82 rfl ?_
        refine hG.get dX4_bars_83 fg_X4_21_X4 (Or.inl mdL_m) rfl ?_
        refine hG.iconst (v := 5) dX4_bars_86 rfl ?_
        refine hG.nld hA (5) dX4_bars_87 rfl (by decide) hR.k5 ?_
        refine hG.isub dX4_bars_88 ?_
        refine hG.put dX4_bars_89 fp_X4_64_X4 mdL_m rfl rfl (Nat.le_of_ble_eq_true rfl) ?_
        refine hG.mp_an ?_
        rw [wAn_wAn]
        refine hG.aload_n dX4_bars_92 rfl ?_
        refine hG.get dX4_bars_93 fg_X4_64_X4 (Or.inl mdL_m) rfl ?_
        refine hG.if_le (tgt := 101) dX4_bars_96 rfl (fun c_96 => ?_) (fun c_96 => ?_)
        · rw [if_neg (Decidable.not_not.mpr (show lackV R c0 (nI i) ≤ 0 from c_96))] at hck
          refine hG.aload_n dX4_bars_101 rfl ?_
          refine hG.aload_n dX4_bars_102 rfl ?_
          refine hG.sipush (v := 358) dX4_bars_103 rfl ?_
          refine hG.callV dX4_bars_106 kv_X4_139 (Rcv.raw mdL_m cl_X4) (sp_X4_weightOf (row := 358) hΓ hA (V := V.wAn _) (by decide) (fun c hc => (hRa _).fo hc) hw.fo) rfl rfl (Nat.le_of_ble_eq_true rfl) (by decide) (by omega) (by omega) (fun r106 I106 L106 hI106 h106 => ?_) (fun _ _ _ _ _ h => h.elim)
          obtain ⟨rfl, rfl, rfl⟩ := h106
          refine hG.aload_n dX4_bars_109 rfl ?_
          refine hG.sipush (v := 505) dX4_bars_110 rfl ?_
          refine hG.callV dX4_bars_113 kv_X4_139 (Rcv.raw mdL_m cl_X4) (sp_X4_weightOf (row := 505) hΓ hA (V := V.wAn _) (by decide) (fun c hc => (hRa _).af hc) hw.af) rfl rfl (Nat.le_of_ble_eq_true rfl) (by decide) (by omega) (by omega) (fun r113 I113 L113 hI113 h113 => ?_) (fun _ _ _ _ _ h => h.elim)
          obtain ⟨rfl, rfl, rfl⟩ := h113
          refine hG.isub dX4_bars_116 ?_
          refine hG.mabs dX4_bars_117 q3509 (Nat.le_of_ble_eq_true rfl) (by decide) ?_
          refine hG.put dX4_bars_120 fp_X4_64_X4 mdL_m rfl rfl (Nat.le_of_ble_eq_true rfl) ?_
          refine hG.mp_an ?_
          rw [wAn_wAn]
          refine hG.aload_n dX4_bars_123 rfl ?_
          refine hG.get dX4_bars_124 fg_X4_64_X4 (Or.inl mdL_m) rfl ?_
          refine hG.bipush (v := 10) dX4_bars_127 rfl ?_
          refine hG.icmp_le (tgt := 135) dX4_bars_129 rfl (fun c_129 => ?_) (fun c_129 => ?_)
          · rw [if_neg (Decidable.not_not.mpr (show trimV R ≤ 10 from c_129))] at hck
            refine hG.aload_n dX4_bars_135 rfl ?_
            refine hG.aload_n dX4_bars_136 rfl ?_
            refine hG.iload_n dX4_bars_137 rfl ?_
            refine hG.aload_n dX4_bars_138 rfl ?_
            refine hG.get dX4_bars_139 fg_X4_21_X4 (Or.inl mdL_m) rfl ?_
            refine hG.iconst (v := 3) dX4_bars_142 rfl ?_
            refine hG.nld hA (3) dX4_bars_143 rfl (by decide) hR.k3 ?_
            refine hG.callV dX4_bars_144 kv_X4_114 (Rcv.raw mdL_m cl_X4) (sp_X4_flowAt hΓ hA (V := V.wAn _) (hRa _) hw hj) rfl rfl (Nat.le_of_ble_eq_true rfl) (by decide) (by omega) (by omega) (fun r144 I144 L144 hI144 h144 => ?_) (fun _ _ _ _ _ h => h.elim)
            obtain ⟨rfl, rfl, rfl⟩ := h144
            refine hG.put dX4_bars_147 fp_X4_64_X4 mdL_m rfl rfl (Nat.le_of_ble_eq_true rfl) ?_
            refine hG.mp_an ?_
            rw [wAn_wAn]
            refine hG.aload_n dX4_bars_150 rfl ?_
            refine hG.get dX4_bars_151 fg_X4_64_X4 (Or.inl mdL_m) rfl ?_
            refine hG.bipush (v := 12) dX4_bars_154 rfl ?_
            refine hG.icmp_le (tgt := 162) dX4_bars_156 rfl (fun c_156 => ?_) (fun c_156 => ?_)
            · rw [if_neg (Decidable.not_not.mpr (show flowV R c0 R.hr ≤ 12 from c_156))] at hck
              refine hG.aload_n dX4_bars_162 rfl ?_
              refine hG.aload_n dX4_bars_163 rfl ?_
              refine hG.get dX4_bars_164 fg_X4_21_X4 (Or.inl mdL_m) rfl ?_
              refine hG.iconst (v := 3) dX4_bars_167 rfl ?_
              refine hG.nld hA (3) dX4_bars_168 rfl (by decide) hR.k3 ?_
              refine hG.iconst (v := 1) dX4_bars_169 rfl ?_
              refine hG.iadd dX4_bars_170 ?_
              refine hG.put dX4_bars_171 fp_X4_64_X4 mdL_m rfl rfl (Nat.le_of_ble_eq_true rfl) ?_
              refine hG.mp_an ?_
              rw [wAn_wAn]
              refine hG.aload_n dX4_bars_174 rfl ?_
              refine hG.get dX4_bars_175 fg_X4_64_X4 (Or.inl mdL_m) rfl ?_
              refine hG.sipush (v := 9999) dX4_bars_178 rfl ?_
              refine hG.icmp_le (tgt := 187) dX4_bars_181 rfl (fun c_181 => ?_) (fun c_181 => ?_)
              · rw [if_neg (Decidable.not_not.mpr (show R.hr + 1 ≤ 9999 from c_181))] at hck
                refine hG.aload_n dX4_bars_187 rfl ?_
                refine hG.iconst (v := 0) dX4_bars_188 rfl ?_
                refine hG.put dX4_bars_189 fp_X4_64_X4 mdL_m rfl rfl (Nat.le_of_ble_eq_true rfl) ?_
                refine hG.mp_an ?_
                rw [wAn_wAn]
                refine hG.iconst (v := 0) dX4_bars_192 rfl ?_
                refine hG.iret dX4_bars_193 rfl ?_ (by omega) (by omega) trivial
                exact brP.n hck
              · refine hG.bipush (v := 10) dX4_bars_184 rfl ?_
                refine hG.iret dX4_bars_186 rfl ?_ (by omega) (by omega) trivial
                exact brP.s (hck.trans (if_pos c_181))
            · refine hG.bipush (v := 9) dX4_bars_159 rfl ?_
              refine hG.iret dX4_bars_161 rfl ?_ (by omega) (by omega) trivial
              exact brP.s (hck.trans (if_pos c_156))
          · refine hG.bipush (v := 6) dX4_bars_132 rfl ?_
            refine hG.iret dX4_bars_134 rfl ?_ (by omega) (by omega) trivial
            exact brP.s (hck.trans (if_pos c_129))
        · refine hG.iconst (v := 5) dX4_bars_99 rfl ?_
          refine hG.iret dX4_bars_100 rfl ?_ (by omega) (by omega) trivial
          exact brP.s (hck.trans (if_pos c_96))
      · refine hG.iconst (v := 4) dX4_bars_65 rfl ?_
        refine hG.iret dX4_bars_66 rfl ?_ (by omega) (by omega) trivial
        exact brP.s (hck.trans (if_pos ((leastD_lt hw _).mp (Int32.not_le.mp c_62))))
    refine hG.aload_n dX4_bars_0 rfl ?_
    refine hG.get dX4_bars_1 fg_X4_21_X4 (Or.inl mdL_m) rfl ?_
    refine hG.iconst (v := 4) dX4_bars_4 rfl ?_
    refine hG.nld hA 4 dX4_bars_5 rfl (by decide) (v := nI j) (hR.k4.trans hst) ?_
    refine hG.iload_n dX4_bars_6 rfl ?_
    refine hG.if_eq (tgt := 14) dX4_bars_7 rfl (fun c_7 => ?_) (fun c_7 => absurd rfl c_7)
    refine hG.iconst (v := -1) dX4_bars_14 rfl ?_
    refine hG.iadd dX4_bars_15 ?_
    rw [show nI j + -1 = nI j - 1 from (Int32.sub_eq_add_neg _ _).symm]
    refine hG.istore_n dX4_bars_16 (by decide) ?_
    refine hG.aload_n dX4_bars_17 rfl ?_
    refine hG.aload_n dX4_bars_18 rfl ?_
    refine hG.get dX4_bars_19 fg_X4_21_X4 (Or.inl mdL_m) rfl ?_
    refine hG.iconst (v := 4) dX4_bars_22 rfl ?_
    refine hG.nld hA (4) (v := nI j) dX4_bars_23 rfl (by decide) (hR.k4.trans hst) ?_
    refine hG.put dX4_bars_24 fp_X4_64_X4 mdL_m rfl rfl (Nat.le_of_ble_eq_true rfl) ?_
    refine hG.mp_an ?_
    refine hG.aload_n dX4_bars_27 rfl ?_
    refine hG.iload_n dX4_bars_28 rfl ?_
    refine hG.callV dX4_bars_29 kv_X4_158 (Rcv.raw mdL_m cl_X4) (sp_X4_isStop hΓ hA (V := V.wAn _) (hRa _) hw) rfl rfl (Nat.le_of_ble_eq_true rfl) (by decide) (by omega) (by omega) (fun r29 I29 L29 hI29 h29 => ?_) (fun _ _ _ _ _ h => h.elim)
    obtain ⟨rfl, rfl, rfl⟩ := h29
    refine hG.if_ne (tgt := 37) dX4_bars_32 rfl (fun c_32 => ?_) (fun c_32 => ?_)
    · obtain ⟨i, rfl⟩ : ∃ i, j = i + 1 := by
        cases j with
        | zero => exact absurd (inR_iff.mp (b2i_1 c_32)).1 (by decide)
        | succ i => exact ⟨i, rfl⟩
      rw [nI_pred]
      refine hG.aload_n dX4_bars_37 rfl ?_
      refine hG.get dX4_bars_38 fg_X4_21_X4 (Or.inl mdL_m) rfl ?_
      refine hG.iconst (v := 4) dX4_bars_41 rfl ?_
      refine hG.nld hA (4) (v := nI (i + 1)) dX4_bars_42 rfl (by decide) (hR.k4.trans hst) ?_
      refine hG.iload_n dX4_bars_43 rfl ?_
      refine hG.mmin dX4_bars_44 q3393 (Nat.le_of_ble_eq_true rfl) (by decide) ?_
      rw [if_pos (nI_lt (a := i) (b := i + 1) (by omega) (by omega))]
      refine hG.istore_n dX4_bars_47 (by decide) ?_
      obtain ⟨c0, hc0, -⟩ := get_lt (show i < R.ch.length by omega)
      refine hG.lsb [(0, .ref m), (3, .int (nI i))] ⟨rfl, rfl, trivial⟩ (k48 false i c0 _ ?_ hc0)
      have hcs : cst R false = nI i := by
        show R.st - 1 = nI i
        rw [hst, nI_pred]
      rw [chk_in (w := false) (by rw [hcs]; exact inR_idx (by omega) (show i < R.ch.length by omega) rfl) hcs (by omega) hc0, hcs]
    · refine hG.iconst (v := 3) dX4_bars_35 rfl ?_
      refine hG.iret dX4_bars_36 rfl ?_ (by omega) (by omega) trivial
      have hc0 : chk R false = some (3, nI j) := by
        rw [chk_0 (w := false) (show inR (R.st - 1) 0 (nI R.ch.length - 1) = false from ?_), hst]
        rw [hst]
        cases j with
        | zero => exact Bool.eq_false_iff.mpr (fun h => absurd (inR_iff.mp h).1 (by decide))
        | succ i => exact absurd (b2i_0 c_32) (by rw [nI_pred]; exact fun h => bFT h (inR_iff.mpr ⟨nI_pos' (by omega), nI_le (by omega) (by omega)⟩))
      exact brP.s hc0
  · have hl6 := hw.ch6
    have hRa : ∀ x, Rep N R (V.wAn x).nw := fun _ => hR
    obtain ⟨j, hj, hst⟩ := hw.st
    have k48 : ∀ (w : Bool) (i : Nat) (c0 : T3) (x : Int32), chk R true = chk2 R c0 (nI i) → R.ch[i]? = some c0 → G 48 [(0, .ref m), (3, .int (nI i))] [] I (mdL L m A (V.wAn x)) 0 0 := by
      intro w i c0 x hck hj
      have hil : i < R.ch.length := (List.getElem?_eq_some_iff.mp hj).1
      have hl6 := hw.ch6
      unfold chk2 at hck
      refine hG.aload_n dX4_bars_48 rfl ?_
      refine hG.iload_n dX4_bars_49 rfl ?_
      refine hG.put dX4_bars_50 fp_X4_64_X4 mdL_m rfl rfl (Nat.le_of_ble_eq_true rfl) ?_
      refine hG.mp_an ?_
      rw [wAn_wAn]
      refine hG.aload_n dX4_bars_53 rfl ?_
      refine hG.iload_n dX4_bars_54 rfl ?_
      refine hG.callV dX4_bars_55 kv_X4_121 (Rcv.raw mdL_m cl_X4) (sp_X4_leastDrag hΓ hA (V := V.wAn _) (hRa _) hw) rfl rfl (Nat.le_of_ble_eq_true rfl) (by decide) (by omega) (by omega) (fun r55 I55 L55 hI55 h55 => ?_) (fun _ _ _ _ _ h => h.elim)
      obtain ⟨rfl, rfl, rfl⟩ := h55
      refine hG.istore dX4_bars_58 (by decide) ?_
      refine hG.iload dX4_bars_60 rfl ?_
      refine hG.if_ge (tgt := 67) dX4_bars_62 rfl (fun c_62 => ?_) (fun c_62 => ?_)
      · have hl9 : ¬ leastD R.an (nI i) = -1 := fun e => absurd ((leastD_lt hw _).mpr e) (Int32.not_lt.mpr c_62)
        rw [if_neg hl9] at hck
        refine hG.aload_n dX4_bars_67 rfl ?_
        refine hG.aload_n dX4_bars_68 rfl ?_
        refine hG.get dX4_bars_69 fg_X4_21_X4 (Or.inl mdL_m) rfl ?_
        refine hG.bipush (v := 13) dX4_bars_72 rfl ?_
        refine hG.iconst (v := 3) dX4_bars_74 rfl ?_
        refine hG.iload_n dX4_bars_75 rfl ?_
        refine hG.imul dX4_bars_76 ?_
        refine hG.iadd dX4_bars_77 ?_
        refine hG.nld hA (13 + 3 * i) dX4_bars_78 (ix3 13 i) (by omega) (hR.c hj).1 ?_
        refine hG.iload dX4_bars_79 rfl ?_
        refine hG.iadd dX4_bars_81 ?_
        refine hG.aload_n dX4_bars_82 rfl ?_
        refine hG.get dX4_bars_83 fg_X4_21_X4 (Or.inl mdL_m) rfl ?_
        refine hG.iconst (v := 5) dX4_bars_86 rfl ?_
        refine hG.nld hA (5) dX4_bars_87 rfl (by decide) hR.k5 ?_
        refine hG.isub dX4_bars_88 ?_
        refine hG.put dX4_bars_89 fp_X4_64_X4 mdL_m rfl rfl (Nat.le_of_ble_eq_true rfl) ?_
        refine hG.mp_an ?_
        rw [wAn_wAn]
        refine hG.aload_n dX4_bars_92 rfl ?_
        refine hG.get dX4_bars_93 fg_X4_64_X4 (Or.inl mdL_m) rfl ?_
        refine hG.if_le (tgt := 101) dX4_bars_96 rfl (fun c_96 => ?_) (fun c_96 => ?_)
        · rw [if_neg (Decidable.not_not.mpr (show lackV R c0 (nI i) ≤ 0 from c_96))] at hck
          refine hG.aload_n dX4_bars_101 rfl ?_
          refine hG.aload_n dX4_bars_102 rfl ?_
          refine hG.sipush (v := 358) dX4_bars_103 rfl ?_
          refine hG.callV dX4_bars_106 kv_X4_139 (Rcv.raw mdL_m cl_X4) (sp_X4_weightOf (row := 358) hΓ hA (V := V.wAn _) (by decide) (fun c hc => (hRa _).fo hc) hw.fo) rfl rfl (Nat.le_of_ble_eq_true rfl) (by decide) (by omega) (by omega) (fun r106 I106 L106 hI106 h106 => ?_) (fun _ _ _ _ _ h => h.elim)
          obtain ⟨rfl, rfl, rfl⟩ := h106
          refine hG.aload_n dX4_bars_109 rfl ?_
          refine hG.sipush (v := 505) dX4_bars_110 rfl ?_
          refine hG.callV dX4_bars_113 kv_X4_139 (Rcv.raw mdL_m cl_X4) (sp_X4_weightOf (row := 505) hΓ hA (V := V.wAn _) (by decide) (fun c hc => (hRa _).af hc) hw.af) rfl rfl (Nat.le_of_ble_eq_true rfl) (by decide) (by omega) (by omega) (fun r113 I113 L113 hI113 h113 => ?_) (fun _ _ _ _ _ h => h.elim)
          obtain ⟨rfl, rfl, rfl⟩ := h113
          refine hG.isub dX4_bars_116 ?_
          refine hG.mabs dX4_bars_117 q3509 (Nat.le_of_ble_eq_true rfl) (by decide) ?_
          refine hG.put dX4_bars_120 fp_X4_64_X4 mdL_m rfl rfl (Nat.le_of_ble_eq_true rfl) ?_
          refine hG.mp_an ?_
          rw [wAn_wAn]
          refine hG.aload_n dX4_bars_123 rfl ?_
          refine hG.get dX4_bars_124 fg_X4_64_X4 (Or.inl mdL_m) rfl ?_
          refine hG.bipush (v := 10) dX4_bars_127 rfl ?_
          refine hG.icmp_le (tgt := 135) dX4_bars_129 rfl (fun c_129 => ?_) (fun c_129 => ?_)
          · rw [if_neg (Decidable.not_not.mpr (show trimV R ≤ 10 from c_129))] at hck
            refine hG.aload_n dX4_bars_135 rfl ?_
            refine hG.aload_n dX4_bars_136 rfl ?_
            refine hG.iload_n dX4_bars_137 rfl ?_
            refine hG.aload_n dX4_bars_138 rfl ?_
            refine hG.get dX4_bars_139 fg_X4_21_X4 (Or.inl mdL_m) rfl ?_
            refine hG.iconst (v := 3) dX4_bars_142 rfl ?_
            refine hG.nld hA (3) dX4_bars_143 rfl (by decide) hR.k3 ?_
            refine hG.callV dX4_bars_144 kv_X4_114 (Rcv.raw mdL_m cl_X4) (sp_X4_flowAt hΓ hA (V := V.wAn _) (hRa _) hw hj) rfl rfl (Nat.le_of_ble_eq_true rfl) (by decide) (by omega) (by omega) (fun r144 I144 L144 hI144 h144 => ?_) (fun _ _ _ _ _ h => h.elim)
            obtain ⟨rfl, rfl, rfl⟩ := h144
            refine hG.put dX4_bars_147 fp_X4_64_X4 mdL_m rfl rfl (Nat.le_of_ble_eq_true rfl) ?_
            refine hG.mp_an ?_
            rw [wAn_wAn]
            refine hG.aload_n dX4_bars_150 rfl ?_
            refine hG.get dX4_bars_151 fg_X4_64_X4 (Or.inl mdL_m) rfl ?_
            refine hG.bipush (v := 12) dX4_bars_154 rfl ?_
            refine hG.icmp_le (tgt := 162) dX4_bars_156 rfl (fun c_156 => ?_) (fun c_156 => ?_)
            · rw [if_neg (Decidable.not_not.mpr (show flowV R c0 R.hr ≤ 12 from c_156))] at hck
              refine hG.aload_n dX4_bars_162 rfl ?_
              refine hG.aload_n dX4_bars_163 rfl ?_
              refine hG.get dX4_bars_164 fg_X4_21_X4 (Or.inl mdL_m) rfl ?_
              refine hG.iconst (v := 3) dX4_bars_167 rfl ?_
              refine hG.nld hA (3) dX4_bars_168 rfl (by decide) hR.k3 ?_
              refine hG.iconst (v := 1) dX4_bars_169 rfl ?_
              refine hG.iadd dX4_bars_170 ?_
              refine hG.put dX4_bars_171 fp_X4_64_X4 mdL_m rfl rfl (Nat.le_of_ble_eq_true rfl) ?_
              refine hG.mp_an ?_
              rw [wAn_wAn]
              refine hG.aload_n dX4_bars_174 rfl ?_
              refine hG.get dX4_bars_175 fg_X4_64_X4 (Or.inl mdL_m) rfl ?_
              refine hG.sipush (v := 9999) dX4_bars_178 rfl ?_
              refine hG.icmp_le (tgt := 187) dX4_bars_181 rfl (fun c_181 => ?_) (fun c_181 => ?_)
              · rw [if_neg (Decidable.not_not.mpr (show R.hr + 1 ≤ 9999 from c_181))] at hck
                refine hG.aload_n dX4_bars_187 rfl ?_
                refine hG.iconst (v := 0) dX4_bars_188 rfl ?_
                refine hG.put dX4_bars_189 fp_X4_64_X4 mdL_m rfl rfl (Nat.le_of_ble_eq_true rfl) ?_
                refine hG.mp_an ?_
                rw [wAn_wAn]
                refine hG.iconst (v := 0) dX4_bars_192 rfl ?_
                refine hG.iret dX4_bars_193 rfl ?_ (by omega) (by omega) trivial
                exact brP.n hck
              · refine hG.bipush (v := 10) dX4_bars_184 rfl ?_
                refine hG.iret dX4_bars_186 rfl ?_ (by omega) (by omega) trivial
                exact brP.s (hck.trans (if_pos c_181))
            · refine hG.bipush (v := 9) dX4_bars_159 rfl ?_
              refine hG.iret dX4_bars_161 rfl ?_ (by omega) (by omega) trivial
              exact brP.s (hck.trans (if_pos c_156))
          · refine hG.bipush (v := 6) dX4_bars_132 rfl ?_
            refine hG.iret dX4_bars_134 rfl ?_ (by omega) (by omega) trivial
            exact brP.s (hck.trans (if_pos c_129))
        · refine hG.iconst (v := 5) dX4_bars_99 rfl ?_
          refine hG.iret dX4_bars_100 rfl ?_ (by omega) (by omega) trivial
          exact brP.s (hck.trans (if_pos c_96))
      · refine hG.iconst (v := 4) dX4_bars_65 rfl ?_
        refine hG.iret dX4_bars_66 rfl ?_ (by omega) (by omega) trivial
        exact brP.s (hck.trans (if_pos ((leastD_lt hw _).mp (Int32.not_le.mp c_62))))
    refine hG.aload_n dX4_bars_0 rfl ?_
    refine hG.get dX4_bars_1 fg_X4_21_X4 (Or.inl mdL_m) rfl ?_
    refine hG.iconst (v := 4) dX4_bars_4 rfl ?_
    refine hG.nld hA 4 dX4_bars_5 rfl (by decide) (v := nI j) (hR.k4.trans hst) ?_
    refine hG.iload_n dX4_bars_6 rfl ?_
    refine hG.if_eq (tgt := 14) dX4_bars_7 rfl (fun c_7 => absurd c_7 (by decide)) (fun c_7 => ?_)
    refine hG.iconst (v := 1) dX4_bars_10 rfl ?_
    refine hG.goto (tgt := 15) dX4_bars_11 rfl ?_
    refine hG.iadd dX4_bars_15 ?_
    rw [nI_1]
    refine hG.istore_n dX4_bars_16 (by decide) ?_
    refine hG.aload_n dX4_bars_17 rfl ?_
    refine hG.aload_n dX4_bars_18 rfl ?_
    refine hG.get dX4_bars_19 fg_X4_21_X4 (Or.inl mdL_m) rfl ?_
    refine hG.iconst (v := 4) dX4_bars_22 rfl ?_
    refine hG.nld hA (4) (v := nI j) dX4_bars_23 rfl (by decide) (hR.k4.trans hst) ?_
    refine hG.put dX4_bars_24 fp_X4_64_X4 mdL_m rfl rfl (Nat.le_of_ble_eq_true rfl) ?_
    refine hG.mp_an ?_
    refine hG.aload_n dX4_bars_27 rfl ?_
    refine hG.iload_n dX4_bars_28 rfl ?_
    refine hG.callV dX4_bars_29 kv_X4_158 (Rcv.raw mdL_m cl_X4) (sp_X4_isStop hΓ hA (V := V.wAn _) (hRa _) hw) rfl rfl (Nat.le_of_ble_eq_true rfl) (by decide) (by omega) (by omega) (fun r29 I29 L29 hI29 h29 => ?_) (fun _ _ _ _ _ h => h.elim)
    obtain ⟨rfl, rfl, rfl⟩ := h29
    refine hG.if_ne (tgt := 37) dX4_bars_32 rfl (fun c_32 => ?_) (fun c_32 => ?_)
    · refine hG.aload_n dX4_bars_37 rfl ?_
      refine hG.get dX4_bars_38 fg_X4_21_X4 (Or.inl mdL_m) rfl ?_
      refine hG.iconst (v := 4) dX4_bars_41 rfl ?_
      refine hG.nld hA (4) (v := nI j) dX4_bars_42 rfl (by decide) (hR.k4.trans hst) ?_
      refine hG.iload_n dX4_bars_43 rfl ?_
      refine hG.mmin dX4_bars_44 q3393 (Nat.le_of_ble_eq_true rfl) (by decide) ?_
      rw [if_neg (nI_nlt (a := j + 1) (b := j) (by omega) (by omega))]
      refine hG.istore_n dX4_bars_47 (by decide) ?_
      have hin : inR (nI j) 0 (nI R.ch.length - 1) = true := by rw [← inR_suc (by omega) (by omega)]; exact b2i_1 c_32
      obtain ⟨i, hi, hij⟩ := idx_of (by omega) hin
      have hji : j = i := (nI_eq (by omega) (by omega)).mp hij
      obtain ⟨c0, hc0, -⟩ := get_lt hi
      rw [hij]
      refine hG.lsb [(0, .ref m), (3, .int (nI i))] ⟨rfl, rfl, trivial⟩ (k48 true i c0 _ ?_ hc0)
      have hcs : cst R true = nI i := hst.trans hij
      rw [chk_in (w := true) (by rw [hcs, ← hij]; exact hin) hcs (by omega) hc0, hcs]
    · refine hG.iconst (v := 3) dX4_bars_35 rfl ?_
      refine hG.iret dX4_bars_36 rfl ?_ (by omega) (by omega) trivial
      have hc0 : chk R true = some (3, nI j) := by
        rw [chk_0 (w := true) (show inR R.st 0 (nI R.ch.length - 1) = false by rw [hst, ← inR_suc (by omega) (by omega)]; exact b2i_0 c_32), hst]
      exact brP.s hc0
