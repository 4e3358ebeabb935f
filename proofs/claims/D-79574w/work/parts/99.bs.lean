/-! the model's next group of a line -/
def NxI (t : Tal) (rk : Nat → Nat) (s b B : Nat) (r : Int32) : Prop := (r = -1 ∧ ∀ x ∈ t, x.1 / 7 % 7 = s → x.1 < B → rk x.1 ≤ b) ∨ ∃ x ∈ t, r = nI x.1 ∧ x.1 / 7 % 7 = s ∧ b < rk x.1 ∧ x.1 < B ∧ ∀ y ∈ t, y.1 / 7 % 7 = s → y.1 < B → b < rk y.1 → rk x.1 ≤ rk y.1
theorem NxI.skip {t : Tal} {rk : Nat → Nat} {s b B B2 : Nat} {r : Int32} (h : NxI t rk s b B r) (hB : B ≤ B2) (hno : ∀ x ∈ t, x.1 / 7 % 7 = s → B ≤ x.1 → x.1 < B2 → rk x.1 ≤ b) : NxI t rk s b B2 r := by
  rcases h with ⟨e, h⟩ | ⟨x, hx, e, h1, h2, h3, h4⟩
  · exact Or.inl ⟨e, fun x hx hs hb => if q : x.1 < B then h x hx hs q else hno x hx hs (by omega) hb⟩
  · refine Or.inr ⟨x, hx, e, h1, h2, by omega, fun y hy hs hb hr => ?_⟩
    by_cases q : y.1 < B
    · exact h4 y hy hs q hr
    · exact absurd (hno y hy hs (by omega) hb) (by omega)
theorem m1_ne {g : Nat} (h : g < 2 ^ 31) : (-1 : Int32) ≠ nI g := fun e => by
  have h1 : (-1 : Int32) < 0 := by decide
  rw [e] at h1
  have h2 := i_lt.mp h1
  rw [tlt0, nI_toInt h] at h2
  omega
theorem NxI.set {t : Tal} {rk : Nat → Nat} {s b g : Nat} {r : Int32} (h : NxI t rk s b g r) (ht : ∀ x ∈ t, x.1 < 147) (hg : ∃ x ∈ t, x.1 = g) (hs : g / 7 % 7 = s) (hb : b < rk g) (hc : r < 0 ∨ ∃ z, z < 147 ∧ r = nI z ∧ rk g < rk z) : NxI t rk s b (g + 1) (nI g) := by
  obtain ⟨x, hx, rfl⟩ := hg
  refine Or.inr ⟨x, hx, rfl, hs, hb, Nat.lt_succ_self _, fun y hy hys hyB hyb => ?_⟩
  rcases Nat.lt_or_ge y.1 x.1 with q | q
  · rcases h with ⟨e, h⟩ | ⟨w, hw, e, h1, h2, h3, h4⟩
    · exact absurd (h y hy hys q) (by omega)
    · have hw9 := ht w hw
      rcases hc with q2 | ⟨z, hz, e2, q3⟩
      · rw [e] at q2
        have := i_lt.mp q2
        rw [tlt0, nI_toInt (by omega)] at this
        omega
      · rw [e] at e2
        rw [← (nI_eq (by omega) (by omega)).mp e2] at q3
        exact Nat.le_trans (Nat.le_of_lt q3) (h4 y hy hys q hyb)
  · rw [show y.1 = x.1 by omega]
    exact Nat.le_refl _
theorem NxI.keep {t : Tal} {rk : Nat → Nat} {s b g z : Nat} {r : Int32} (h : NxI t rk s b g r) (ht : ∀ x ∈ t, x.1 < 147) (hr : r = nI z) (hz : z < 147) (hzg : rk z ≤ rk g) : NxI t rk s b (g + 1) r := by
  rcases h with ⟨e, h⟩ | ⟨w, hw, e, h1, h2, h3, h4⟩
  · exact absurd (e.symm.trans hr) (m1_ne (by omega))
  · refine Or.inr ⟨w, hw, e, h1, h2, by omega, fun y hy hys hyB hyb => ?_⟩
    rcases Nat.lt_or_ge y.1 g with q | q
    · exact h4 y hy hys q hyb
    · have hw9 := ht w hw
      rw [e] at hr
      rw [show y.1 = g by omega, (nI_eq (by omega) (by omega)).mp hr]
      exact hzg
theorem tof_m {m : Nat} : ∀ {t : Tal} {x : Nat × Int32}, TOk m t → x ∈ t → tof t x.1 = x.2
  | [], _, _, h => nomatch h
  | y :: t, x, hk, h => by
    rcases List.mem_cons.mp h with e | e
    · subst e
      exact if_pos rfl
    · have hn : ¬ y.1 = x.1 := fun q => nd_no hk.1 x e q.symm
      rw [show tof (y :: t) x.1 = tof t x.1 from if_neg hn]
      exact tof_m ⟨nd_tl hk.1, fun z hz => hk.2 z (by simp [hz])⟩ e
theorem NxI.skip2 {t : Tal} {rk : Nat → Nat} {s b B : Nat} {r : Int32} (h : NxI t rk s b B r) (ht : ∀ x ∈ t, x.1 < 147) (hB : 147 ≤ B) : NxI t rk s b 147 r := by
  rcases h with ⟨e, h⟩ | ⟨x, hx, e, h1, h2, h3, h4⟩
  · exact Or.inl ⟨e, fun x hx hs hb => h x hx hs (by omega)⟩
  · exact Or.inr ⟨x, hx, e, h1, h2, ht x hx, fun y hy hs hb hr => h4 y hy hs (by omega) hr⟩
set_option maxHeartbeats 4000000 in
set_option maxRecDepth 100000 in
theorem sp_X4_nextGroup {l : Launch} {s0 : State} {D : va_G} {I : AI} {L : AL} {m : Nat} {A : MA} {V : MV} {N : Nat} {R : Rv} (hΓ : Gam l s0 D) (hA : MOk m A) (hR : Rep N R V.nw) (hw : Wf N R) {s b cm : Nat} {rk : Nat → Nat} (hs : s < 7) (hb : b ≤ 1000) (hcm : cm ≤ 1000) (ho : ∀ x ∈ R.wa, 0 < rk x.1 ∧ rk x.1 ≤ cm ∧ V.nw (211 + x.1) = nI (rk x.1)) : Spc l s0 D yX4_nextGroup 3 [.ref m, .int (nI s), .int (nI b)] I (mdL L m A V) 0 0 ((fun q I' L' => ∃ r, q = some (.int r) ∧ NxI R.wa rk s b 147 r ∧ I = I' ∧ L' = mdL L m A V)) noX := by
  refine Spc.of hΓ cX4_nextGroup 7 (some FieldType.int) q3521 (by decide +kernel) (by decide) (Nat.le_of_ble_eq_true rfl) (fun G GX hG => ?_)
  have hk := hw.wa
  have ht : ∀ x ∈ R.wa, x.1 < 147 := fun x hx => (hk.2 x hx).1
  refine hG.iconst (v := -1) dX4_nextGroup_0 rfl ?_
  refine hG.istore_n dX4_nextGroup_1 (by decide) ?_
  refine hG.iconst (v := 0) dX4_nextGroup_2 rfl ?_
  refine hG.istore dX4_nextGroup_3 (by decide) ?_
  have lpt : ∀ (k : Nat), k < 3 → (∀ r, NxI R.wa rk s b (49 * k + 7 * s + 7) r → G 96 [(0, .ref m), (1, .int (nI s)), (2, .int (nI b)), (3, .int r), (4, .int (nI k))] [] I (mdL L m A V) 0 0) → ∀ (u t : Nat) (r : Int32), t + u = 7 → NxI R.wa rk s b (49 * k + 7 * s + t) r → G 14 [(0, .ref m), (1, .int (nI s)), (2, .int (nI b)), (3, .int r), (4, .int (nI k)), (5, .int (nI t))] [] I (mdL L m A V) 0 0 := by
    intro k hk3 kk u
    induction u with
    | zero =>
      intro t r htu hNx
      have hte : t = 7 := by omega
      subst hte
      refine hG.iload dX4_nextGroup_14 rfl ?_
      refine hG.bipush (v := 7) dX4_nextGroup_16 rfl ?_
      refine hG.icmp_ge (tgt := 96) dX4_nextGroup_18 rfl (fun c_18 => ?_) (fun c_18 => absurd (by decide) c_18)
      exact hG.lsb [(0, .ref m), (1, .int (nI s)), (2, .int (nI b)), (3, .int r), (4, .int (nI k))] ⟨rfl, rfl, rfl, rfl, rfl, trivial⟩ (kk r hNx)
    | succ u ih =>
      intro t r htu hNx
      have hg : gco k s t < 147 := gco_lt hk3 (by omega) (by omega)
      obtain ⟨e1, e2, e3⟩ := gco_p (k := k) (f := s) (t := t) (by omega) (by omega)
      rw [show 49 * k + 7 * s + t = gco k s t from rfl] at hNx
      refine hG.iload dX4_nextGroup_14 rfl ?_
      refine hG.bipush (v := 7) dX4_nextGroup_16 rfl ?_
      refine hG.icmp_ge (tgt := 96) dX4_nextGroup_18 rfl (fun c_18 => absurd c_18 (nI_ge (a := t) (b := 7) (by omega) (by decide))) (fun c_18 => ?_)
      refine hG.iload dX4_nextGroup_21 rfl ?_
      refine hG.iload_n dX4_nextGroup_23 rfl ?_
      refine hG.iload dX4_nextGroup_24 rfl ?_
      refine hG.callS dX4_nextGroup_26 ks_X4_94 (sp_X4_groupAt hΓ) rfl rfl (Nat.le_of_ble_eq_true rfl) (by decide) (by omega) (by omega) (fun r26 I26 L26 hI26 h26 => ?_) (fun _ _ _ _ _ h => h.elim)
      obtain ⟨rfl, rfl, rfl⟩ := h26
      refine hG.istore dX4_nextGroup_29 (by decide) ?_
      refine hG.aload_n dX4_nextGroup_31 rfl ?_
      refine hG.get dX4_nextGroup_32 fg_X4_21_X4 (Or.inl mdL_m) rfl ?_
      refine hG.bipush (v := 64) dX4_nextGroup_35 rfl ?_
      refine hG.iload dX4_nextGroup_37 rfl ?_
      refine hG.iadd dX4_nextGroup_39 ?_
      rw [show (64 : Int32) + nI (gco k s t) = nI (64 + (gco k s t)) from ix1 64 _]
      refine hG.nld hA (64 + gco k s t) dX4_nextGroup_40 rfl (by omega) (v := tof R.wa (gco k s t)) (hR.w hg) ?_
      refine hG.if_le (tgt := 90) dX4_nextGroup_41 rfl (fun c_41 => ?_) (fun c_41 => ?_)
      · refine hG.iinc dX4_nextGroup_90 rfl (by decide) ?_
        refine hG.goto (tgt := 14) dX4_nextGroup_93 rfl ?_
        refine hG.lsb [(0, .ref m), (1, .int (nI s)), (2, .int (nI b)), (3, .int r), (4, .int (nI k)), (5, .int (nI t + Int32.ofInt 1))] ⟨rfl, rfl, rfl, rfl, rfl, rfl, trivial⟩ ?_
        rw [show nI t + Int32.ofInt 1 = nI (t + 1) from nI_add t 1]
        refine ih (t + 1) _ (by omega) ?_
        rw [show 49 * k + 7 * s + (t + 1) = gco k s t + 1 by unfold gco; omega]
        exact hNx.skip (Nat.le_succ _) (fun x hx hs9 h1 h2 => by
          have e9 : x.1 = gco k s t := by omega
          have h3 := hk.ps x hx
          have h4 := tof_m hk hx
          rw [e9] at h4
          rw [h4] at c_41
          exact absurd h3.1 (Int32.not_lt.mpr c_41))
      · obtain ⟨v9, hv9, -⟩ := tof_mem (fun e => c_41 (by rw [e]; decide))
        have ho9 : 0 < rk (gco k s t) ∧ rk (gco k s t) ≤ cm ∧ V.nw (211 + gco k s t) = nI (rk (gco k s t)) := ho _ hv9
        have hmm : ∃ x ∈ R.wa, x.1 = gco k s t := ⟨_, hv9, rfl⟩
        refine hG.aload_n dX4_nextGroup_44 rfl ?_
        refine hG.get dX4_nextGroup_45 fg_X4_21_X4 (Or.inl mdL_m) rfl ?_
        refine hG.sipush (v := 211) dX4_nextGroup_48 rfl ?_
        refine hG.iload dX4_nextGroup_51 rfl ?_
        refine hG.iadd dX4_nextGroup_53 ?_
        rw [show (211 : Int32) + nI (gco k s t) = nI (211 + (gco k s t)) from ix1 211 _]
        refine hG.nld hA (211 + gco k s t) dX4_nextGroup_54 rfl (by omega) (v := nI (rk (gco k s t))) (ho9.2.2) ?_
        refine hG.iload_n dX4_nextGroup_55 rfl ?_
        refine hG.icmp_le (tgt := 90) dX4_nextGroup_56 rfl (fun c_56 => ?_) (fun c_56 => ?_)
        · refine hG.iinc dX4_nextGroup_90 rfl (by decide) ?_
          refine hG.goto (tgt := 14) dX4_nextGroup_93 rfl ?_
          refine hG.lsb [(0, .ref m), (1, .int (nI s)), (2, .int (nI b)), (3, .int r), (4, .int (nI k)), (5, .int (nI t + Int32.ofInt 1))] ⟨rfl, rfl, rfl, rfl, rfl, rfl, trivial⟩ ?_
          rw [show nI t + Int32.ofInt 1 = nI (t + 1) from nI_add t 1]
          refine ih (t + 1) _ (by omega) ?_
          rw [show 49 * k + 7 * s + (t + 1) = gco k s t + 1 by unfold gco; omega]
          exact hNx.skip (Nat.le_succ _) (fun x hx hs9 h1 h2 => by
            rw [show x.1 = gco k s t by omega]
            exact (nI_leI (by omega) (by omega)).mp c_56)
        · refine hG.iload_n dX4_nextGroup_59 rfl ?_
          refine hG.if_lt (tgt := 87) dX4_nextGroup_60 rfl (fun c_60 => ?_) (fun c_60 => ?_)
          · refine hG.iload dX4_nextGroup_87 rfl ?_
            refine hG.istore_n dX4_nextGroup_89 (by decide) ?_
            refine hG.iinc dX4_nextGroup_90 rfl (by decide) ?_
            refine hG.goto (tgt := 14) dX4_nextGroup_93 rfl ?_
            refine hG.lsb [(0, .ref m), (1, .int (nI s)), (2, .int (nI b)), (3, .int (nI (gco k s t))), (4, .int (nI k)), (5, .int (nI t + Int32.ofInt 1))] ⟨rfl, rfl, rfl, rfl, rfl, rfl, trivial⟩ ?_
            rw [show nI t + Int32.ofInt 1 = nI (t + 1) from nI_add t 1]
            refine ih (t + 1) _ (by omega) ?_
            rw [show 49 * k + 7 * s + (t + 1) = gco k s t + 1 by unfold gco; omega]
            exact hNx.set ht hmm e2 (Nat.lt_of_not_le (fun q => c_56 (nI_le q (by omega)))) (Or.inl c_60)
          · have hNx0 := hNx
            rcases hNx with ⟨e, -⟩ | ⟨z, hz, rfl, -⟩
            · rw [e] at c_60; exact absurd (show (-1 : Int32) < 0 by decide) c_60
            have hz147 := ht z hz
            have hz9 := ho z hz
            refine hG.aload_n dX4_nextGroup_63 rfl ?_
            refine hG.get dX4_nextGroup_64 fg_X4_21_X4 (Or.inl mdL_m) rfl ?_
            refine hG.sipush (v := 211) dX4_nextGroup_67 rfl ?_
            refine hG.iload dX4_nextGroup_70 rfl ?_
            refine hG.iadd dX4_nextGroup_72 ?_
            rw [show (211 : Int32) + nI (gco k s t) = nI (211 + (gco k s t)) from ix1 211 _]
            refine hG.nld hA (211 + gco k s t) dX4_nextGroup_73 rfl (by omega) (v := nI (rk (gco k s t))) (ho9.2.2) ?_
            refine hG.aload_n dX4_nextGroup_74 rfl ?_
            refine hG.get dX4_nextGroup_75 fg_X4_21_X4 (Or.inl mdL_m) rfl ?_
            refine hG.sipush (v := 211) dX4_nextGroup_78 rfl ?_
            refine hG.iload_n dX4_nextGroup_81 rfl ?_
            refine hG.iadd dX4_nextGroup_82 ?_
            rw [show (211 : Int32) + nI (z.1) = nI (211 + (z.1)) from ix1 211 _]
            refine hG.nld hA (211 + z.1) dX4_nextGroup_83 rfl (by omega) (v := nI (rk z.1)) (hz9.2.2) ?_
            refine hG.icmp_ge (tgt := 90) dX4_nextGroup_84 rfl (fun c_84 => ?_) (fun c_84 => ?_)
            · refine hG.iinc dX4_nextGroup_90 rfl (by decide) ?_
              refine hG.goto (tgt := 14) dX4_nextGroup_93 rfl ?_
              refine hG.lsb [(0, .ref m), (1, .int (nI s)), (2, .int (nI b)), (3, .int (nI z.1)), (4, .int (nI k)), (5, .int (nI t + Int32.ofInt 1))] ⟨rfl, rfl, rfl, rfl, rfl, rfl, trivial⟩ ?_
              rw [show nI t + Int32.ofInt 1 = nI (t + 1) from nI_add t 1]
              refine ih (t + 1) _ (by omega) ?_
              rw [show 49 * k + 7 * s + (t + 1) = gco k s t + 1 by unfold gco; omega]
              exact hNx0.keep ht rfl hz147 ((nI_leI (by omega) (by omega)).mp c_84)
            · refine hG.iload dX4_nextGroup_87 rfl ?_
              refine hG.istore_n dX4_nextGroup_89 (by decide) ?_
              refine hG.iinc dX4_nextGroup_90 rfl (by decide) ?_
              refine hG.goto (tgt := 14) dX4_nextGroup_93 rfl ?_
              refine hG.lsb [(0, .ref m), (1, .int (nI s)), (2, .int (nI b)), (3, .int (nI (gco k s t))), (4, .int (nI k)), (5, .int (nI t + Int32.ofInt 1))] ⟨rfl, rfl, rfl, rfl, rfl, rfl, trivial⟩ ?_
              rw [show nI t + Int32.ofInt 1 = nI (t + 1) from nI_add t 1]
              refine ih (t + 1) _ (by omega) ?_
              rw [show 49 * k + 7 * s + (t + 1) = gco k s t + 1 by unfold gco; omega]
              exact hNx0.set ht hmm e2 (Nat.lt_of_not_le (fun q => c_56 (nI_le q (by omega)))) (Or.inr ⟨z.1, hz147, rfl, Nat.lt_of_not_le (fun q => c_84 (nI_le q (by omega)))⟩)
  have lpk : ∀ (u k : Nat) (r : Int32), k + u = 3 → NxI R.wa rk s b (49 * k) r → G 5 [(0, .ref m), (1, .int (nI s)), (2, .int (nI b)), (3, .int r), (4, .int (nI k))] [] I (mdL L m A V) 0 0 := by
    intro u
    induction u with
    | zero =>
      intro k r hku hNx
      have hke : k = 3 := by omega
      subst hke
      refine hG.iload dX4_nextGroup_5 rfl ?_
      refine hG.iconst (v := 3) dX4_nextGroup_7 rfl ?_
      refine hG.icmp_ge (tgt := 102) dX4_nextGroup_8 rfl (fun c_8 => ?_) (fun c_8 => absurd (by decide) c_8)
      refine hG.iload_n dX4_nextGroup_102 rfl ?_
      refine hG.iret dX4_nextGroup_103 rfl ?_ (by omega) (by omega) trivial
      exact ⟨r, rfl, hNx.skip (Nat.le_refl _) (fun x hx h1 h2 h3 => absurd h2 (by omega)) |> fun h9 => (show NxI R.wa rk s b 147 r from h9.skip2 ht (by omega)), rfl, rfl⟩
    | succ u ih =>
      intro k r hku hNx
      refine hG.iload dX4_nextGroup_5 rfl ?_
      refine hG.iconst (v := 3) dX4_nextGroup_7 rfl ?_
      refine hG.icmp_ge (tgt := 102) dX4_nextGroup_8 rfl (fun c_8 => absurd c_8 (nI_ge (a := k) (b := 3) (by omega) (by decide))) (fun c_8 => ?_)
      refine hG.iconst (v := 0) dX4_nextGroup_11 rfl ?_
      refine hG.istore dX4_nextGroup_12 (by decide) ?_
      refine hG.lsb [(0, .ref m), (1, .int (nI s)), (2, .int (nI b)), (3, .int r), (4, .int (nI k)), (5, .int (nI 0))] ⟨rfl, rfl, rfl, rfl, rfl, rfl, trivial⟩ (lpt k (by omega) (fun r2 hr2 => ?_) 7 0 r (by omega) (hNx.skip (by omega) (fun x hx h1 h2 h3 => absurd h1 (by omega))))
      refine hG.iinc dX4_nextGroup_96 rfl (by decide) ?_
      refine hG.goto (tgt := 5) dX4_nextGroup_99 rfl ?_
      refine hG.lsb [(0, .ref m), (1, .int (nI s)), (2, .int (nI b)), (3, .int r2), (4, .int (nI k + Int32.ofInt 1))] ⟨rfl, rfl, rfl, rfl, rfl, trivial⟩ ?_
      rw [show nI k + Int32.ofInt 1 = nI (k + 1) from nI_add k 1]
      exact ih (k + 1) r2 (by omega) (hr2.skip (by omega) (fun x hx h1 h2 h3 => absurd h1 (by omega)))
  exact hG.lsb [(0, .ref m), (1, .int (nI s)), (2, .int (nI b)), (3, .int (-1)), (4, .int (nI 0))] ⟨rfl, rfl, rfl, rfl, rfl, trivial⟩ (lpk 3 0 (-1) (by omega) (Or.inl ⟨rfl, fun x hx h1 h2 => absurd h2 (by omega)⟩))
