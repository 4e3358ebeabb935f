/-! deeds of the model -/
theorem pIs.e {N : Nat} {I : AI} {L : AL} {m : Nat} {A : MA} {V : MV} {cd : Bool → Int32} {o : Out} {b : Bool} {w a : Int32} (ho : o = .inr (.inl b)) (hw : w = cd b) : pIs N I L m A V cd o (some (.int w)) I (mdL L m A (V.wAn a)) := by
  subst ho
  exact ⟨rfl, V.nw, a, V.re, V.de, rfl, congrArg (fun z => some (Value.int z)) hw, rfl, rfl, rfl⟩
theorem pIs.r {N : Nat} {I : AI} {L : AL} {m : Nat} {A : MA} {V : MV} {cd : Bool → Int32} {o : Out} {p : Int32 × Int32} {a : Int32} (ho : o = .inr (.inr p)) (hp : 0 < p.1) : pIs N I L m A V cd o (some (.int p.1)) I (mdL L m A (((V.wAn a).wRe p.1).wDe p.2)) := by
  subst ho
  exact ⟨rfl, V.nw, a, p.1, p.2, rfl, rfl, hp, rfl, rfl, rfl⟩
theorem pIs.d {N : Nat} {I : AI} {L : AL} {m : Nat} {A : MA} {V : MV} {cd : Bool → Int32} {o : Out} {v : Int32} {R2 : Rv} {n : Nat → Int32} (ho : o = .inl (v, R2)) (hR : Rep (N + 1) R2 n) : pIs N I L m A V cd o (some (.int 0)) I (mdL L m A ((V.wNw n).wAn v)) := by
  subst ho
  exact ⟨rfl, n, v, V.re, V.de, rfl, rfl, hR, rfl, rfl, rfl⟩
theorem tof_add {t : Tal} {c : Nat} {x : Int32} (hx : tof t c + x ≠ 0) : ∀ e, tof (tadd t c x) e = if e = c then tof t c + x else tof t e := by
  intro e
  unfold tadd
  rw [if_neg hx]
  by_cases ha : (t.any (fun y => y.1 == c)) = true
  · rw [if_pos ha]
    have key : ∀ (u : Tal) (v : Int32), (u.any (fun y => y.1 == c)) = true ∨ e ≠ c → tof (u.map (fun y => if y.1 = c then (y.1, v) else y)) e = if e = c then v else tof u e := by
      intro u v
      induction u with
      | nil =>
        intro h
        rcases h with h | h
        · cases h
        · rw [if_neg h]; rfl
      | cons y u ih =>
        intro h
        by_cases hy : y.1 = c
        · by_cases he : e = c
          · rw [if_pos he]
            show (if (if y.1 = c then (y.1, v) else y).1 = e then (if y.1 = c then (y.1, v) else y).2 else _) = v
            rw [if_pos hy, if_pos (hy.trans he.symm)]
          · rw [if_neg he]
            show (if (if y.1 = c then (y.1, v) else y).1 = e then (if y.1 = c then (y.1, v) else y).2 else tof (u.map _) e) = (if y.1 = e then y.2 else tof u e)
            rw [if_pos hy, if_neg (fun q => he (q.symm.trans hy)), if_neg (fun q => he (q.symm.trans hy)), ih (Or.inr he), if_neg he]
        · have h2 : (u.any (fun y => y.1 == c)) = true ∨ e ≠ c := by
            rcases h with h | h
            · rw [List.any_cons, Bool.or_eq_true] at h
              rcases h with h | h
              · exact absurd (by simpa using h) hy
              · exact Or.inl h
            · exact Or.inr h
          show (if (if y.1 = c then (y.1, v) else y).1 = e then (if y.1 = c then (y.1, v) else y).2 else tof (u.map _) e) = if e = c then v else (if y.1 = e then y.2 else tof u e)
          rw [if_neg hy, ih h2]
          by_cases he : e = c
          · rw [if_pos he, if_neg (fun q => hy (q.trans he)), if_pos he]
          · rw [if_neg he, if_neg he]
    exact key t _ (Or.inl ha)
  · rw [if_neg ha]
    have hno : ∀ y ∈ t, y.1 ≠ c := fun y hy q => ha (List.any_eq_true.mpr ⟨y, hy, by simp [q]⟩)
    have key : ∀ (u : Tal) (v : Int32), (∀ y ∈ u, y.1 ≠ c) → tof (u ++ [(c, v)]) e = if e = c then v else tof u e := by
      intro u v
      induction u with
      | nil =>
        intro _
        show (if c = e then v else 0) = _
        by_cases he : e = c
        · rw [if_pos he, if_pos he.symm]
        · rw [if_neg he, if_neg (Ne.symm he)]; rfl
      | cons y u ih =>
        intro h
        show (if y.1 = e then y.2 else tof (u ++ [(c, v)]) e) = if e = c then v else (if y.1 = e then y.2 else tof u e)
        rw [ih (fun z hz => h z (by simp [hz]))]
        by_cases he : e = c
        · rw [if_pos he, if_neg (fun q => h y (by simp) (q.trans he)), if_pos he]
        · rw [if_neg he, if_neg he]
    exact key t _ hno
theorem tof_rm {t : Tal} {c : Nat} {x : Int32} (hx : tof t c + x = 0) : ∀ e, tof (tadd t c x) e = if e = c then tof t c + x else tof t e := by
  intro e
  unfold tadd
  rw [if_pos hx, hx]
  have key : ∀ (u : Tal), tof (u.filter (fun y => y.1 != c)) e = if e = c then 0 else tof u e := by
    intro u
    induction u with
    | nil => by_cases he : e = c
             · rw [if_pos he]; rfl
             · rw [if_neg he]; rfl
    | cons y u ih =>
      by_cases hy : y.1 = c
      · rw [List.filter_cons_of_neg (by simp [hy]), ih]
        by_cases he : e = c
        · rw [if_pos he, if_pos he]
        · rw [if_neg he, if_neg he]
          show _ = (if y.1 = e then y.2 else tof u e)
          rw [if_neg (fun q => he (q.symm.trans hy))]
      · rw [List.filter_cons_of_pos (by simp [hy])]
        show (if y.1 = e then y.2 else tof (u.filter _) e) = if e = c then 0 else (if y.1 = e then y.2 else tof u e)
        rw [ih]
        by_cases he : e = c
        · rw [if_pos he, if_pos he, if_neg (fun q => hy (q.trans he))]
        · rw [if_neg he, if_neg he]
  exact key t
theorem tof_tadd {t : Tal} {c : Nat} {x : Int32} (e : Nat) : tof (tadd t c x) e = if e = c then tof t c + x else tof t e := by
  by_cases h : tof t c + x = 0
  · exact tof_rm h e
  · exact tof_add h e
theorem RpT.add {b c : Nat} {t : Tal} {n n' : Nat → Int32} {x : Int32} (h : RpT b t n) (e : ∀ k, b ≤ k → k < b + 147 → k ≠ b + c → n' k = n k) (e1 : n' (b + c) = tof t c + x) : RpT b (tadd t c x) n' := fun k hk => by
  rw [tof_tadd]
  by_cases hkc : k = c
  · rw [if_pos hkc, hkc]; exact e1
  · rw [if_neg hkc]; exact (e _ (by omega) (by omega) (by omega)).trans (h k hk)
theorem kv_X4_98 : LkV RX4 98 yX4_isChannel 1 := ⟨q3370, q3372, qs39, q87, by decide +kernel, by decide +kernel, by decide +kernel⟩
theorem kv_X4_124 : LkV RX4 124 yX4_does 1 := ⟨q3422, q3424, qs46, q87, by decide +kernel, by decide +kernel, by decide +kernel⟩
set_option maxHeartbeats 4000000 in
set_option maxRecDepth 100000 in
theorem sp_X4_sets {l : Launch} {s0 : State} {D : va_G} {I : AI} {L : AL} {m : Nat} {A : MA} {V : MV} {N : Nat} {R : Rv} (hΓ : Gam l s0 D) (hA : MOk m A) (hR : Rep N R V.nw) (hw : Wf N R) {c s : Int32} : Spc l s0 D yX4_sets 3 [.ref m, .int c, .int s] I (mdL L m A V) 0 0 (pIs N I L m A V (fun b => match b with | true => -2 | false => -1) (ancO c s R)) noX := by
  refine Spc.of hΓ cX4_sets 4 (some FieldType.int) q3421 (by decide +kernel) (by decide) (Nat.le_of_ble_eq_true rfl) (fun G GX hG => ?_)
  have hl6 := hw.ch6
  have hl5 := hw.fl5
  have ha6 := hw.an6
  refine hG.aload_n dX4_sets_0 rfl ?_
  refine hG.iload_n dX4_sets_1 rfl ?_
  refine hG.callV dX4_sets_2 kv_X4_98 (Rcv.raw mdL_m cl_X4) (sp_X4_isChannel hΓ hA hR hw) rfl rfl (Nat.le_of_ble_eq_true rfl) (by decide) (by omega) (by omega) (fun r2 I2 L2 hI2 h2 => ?_) (fun _ _ _ _ _ h => h.elim)
  obtain ⟨rfl, rfl, rfl⟩ := h2
  refine hG.if_ne (tgt := 10) dX4_sets_5 rfl (fun c_5 => ?_) (fun c_5 => ?_)
  · refine hG.iload_n dX4_sets_10 rfl ?_
    refine hG.iconst (v := 1) dX4_sets_11 rfl ?_
    refine hG.bipush (v := 9) dX4_sets_12 rfl ?_
    refine hG.callS dX4_sets_14 ks_X4_80 (sp_X4_in hΓ) rfl rfl (Nat.le_of_ble_eq_true rfl) (by decide) (by omega) (by omega) (fun r14 I14 L14 hI14 h14 => ?_) (fun _ _ _ _ _ h => h.elim)
    obtain ⟨rfl, rfl, rfl⟩ := h14
    refine hG.if_ne (tgt := 23) dX4_sets_17 rfl (fun c_17 => ?_) (fun c_17 => ?_)
    · refine hG.aload_n dX4_sets_23 rfl ?_
      refine hG.get dX4_sets_24 fg_X4_21_X4 (Or.inl mdL_m) rfl ?_
      refine hG.iconst (v := 2) dX4_sets_27 rfl ?_
      refine hG.nld hA (2) dX4_sets_28 rfl (by decide) hR.k2 ?_
      refine hG.bipush (v := 6) dX4_sets_29 rfl ?_
      refine hG.icmp_ne (tgt := 42) dX4_sets_31 rfl (fun c_31 => ?_) (fun c_31 => ?_)
      · have hlt : R.an.length < 6 := Nat.lt_of_le_of_ne ha6 (fun e => c_31 (by rw [e]; rfl))
        refine hG.bipush (v := 46) dX4_sets_42 rfl ?_
        refine hG.iconst (v := 3) dX4_sets_44 rfl ?_
        refine hG.aload_n dX4_sets_45 rfl ?_
        refine hG.get dX4_sets_46 fg_X4_21_X4 (Or.inl mdL_m) rfl ?_
        refine hG.iconst (v := 2) dX4_sets_49 rfl ?_
        refine hG.dup2 dX4_sets_50 rfl rfl ?_
        refine hG.nld hA (2) dX4_sets_51 rfl (by decide) hR.k2 ?_
        refine hG.dup_x2 dX4_sets_52 rfl rfl rfl ?_
        refine hG.iconst (v := 1) dX4_sets_53 rfl ?_
        refine hG.iadd dX4_sets_54 ?_
        rw [nI_1]
        refine hG.nst hA (2) dX4_sets_55 rfl (by decide) ?_
        refine hG.imul dX4_sets_56 ?_
        refine hG.iadd dX4_sets_57 ?_
        rw [show (46 : Int32) + 3 * nI R.an.length = nI (46 + 3 * R.an.length) from ix3 46 _]
        refine hG.istore_n dX4_sets_58 (by decide) ?_
        refine hG.aload_n dX4_sets_59 rfl ?_
        refine hG.get dX4_sets_60 fg_X4_21_X4 (Or.inl mdL_m) rfl ?_
        refine hG.iload_n dX4_sets_63 rfl ?_
        refine hG.iload_n dX4_sets_64 rfl ?_
        refine hG.nst hA (46 + 3 * R.an.length) dX4_sets_65 rfl (by omega) ?_
        refine hG.aload_n dX4_sets_66 rfl ?_
        refine hG.get dX4_sets_67 fg_X4_21_X4 (Or.inl mdL_m) rfl ?_
        refine hG.iload_n dX4_sets_70 rfl ?_
        refine hG.iconst (v := 1) dX4_sets_71 rfl ?_
        refine hG.iadd dX4_sets_72 ?_
        rw [nI_1]
        refine hG.iload_n dX4_sets_73 rfl ?_
        refine hG.nst hA (46 + 3 * R.an.length + 1) dX4_sets_74 rfl (by omega) ?_
        refine hG.aload_n dX4_sets_75 rfl ?_
        refine hG.get dX4_sets_76 fg_X4_21_X4 (Or.inl mdL_m) rfl ?_
        refine hG.iload_n dX4_sets_79 rfl ?_
        refine hG.iconst (v := 2) dX4_sets_80 rfl ?_
        refine hG.iadd dX4_sets_81 ?_
        rw [show nI (46 + 3 * R.an.length) + 2 = nI (46 + 3 * R.an.length + 2) from ix1 _ 2]
        refine hG.iconst (v := 0) dX4_sets_82 rfl ?_
        refine hG.nst hA (46 + 3 * R.an.length + 2) dX4_sets_83 rfl (by omega) ?_
        refine hG.aload_n dX4_sets_84 rfl ?_
        refine hG.aload_n dX4_sets_85 rfl ?_
        refine hG.get dX4_sets_86 fg_X4_21_X4 (Or.inl mdL_m) rfl ?_
        refine hG.iconst (v := 2) dX4_sets_89 rfl ?_
        refine hG.nld hA (2) (v := nI (R.an.length + 1)) dX4_sets_90 rfl (by decide) (by
          rw [nw_w, va_ne, nw_w, va_ne, nw_w, va_ne, nw_w, va_eq rfl]
          all_goals omega) ?_
        refine hG.iconst (v := 1) dX4_sets_91 rfl ?_
        refine hG.isub dX4_sets_92 ?_
        rw [nI_pred]
        refine hG.callV dX4_sets_93 kv_X4_124 (Rcv.raw mdL_m cl_X4) (sp_X4_does hΓ) rfl rfl (Nat.le_of_ble_eq_true rfl) (by decide) (by omega) (by omega) (fun r93 I93 L93 hI93 h93 => ?_) (fun _ _ _ _ _ h => h.elim)
        obtain ⟨rfl, rfl, rfl⟩ := h93
        refine hG.iret dX4_sets_96 rfl ?_ (by omega) (by omega) trivial
        have ho : ancO c s R = .inl (nI R.an.length, R.wAn (R.an ++ [(c, s, 0)])) := by
          unfold ancO
          rw [if_pos (b2i_1 c_5), if_pos (b2i_1 c_17), if_pos hlt]
        exact pIs.d ho ((hR.addA (c := (c, s, 0)) hw hlt).mono (Nat.le_succ N))
      · refine hG.aload_n dX4_sets_34 rfl ?_
        refine hG.iconst (v := 1) dX4_sets_35 rfl ?_
        refine hG.bipush (v := 6) dX4_sets_36 rfl ?_
        refine hG.callV dX4_sets_38 kv_X4_87 (Rcv.raw mdL_m cl_X4) (sp_X4_why hΓ) rfl rfl (Nat.le_of_ble_eq_true rfl) (by decide) (by omega) (by omega) (fun r38 I38 L38 hI38 h38 => ?_) (fun _ _ _ _ _ h => h.elim)
        obtain ⟨rfl, rfl, rfl⟩ := h38
        refine hG.iret dX4_sets_41 rfl ?_ (by omega) (by omega) trivial
        have ho : ancO c s R = .inr (.inr (1, 6)) := by
          unfold ancO
          rw [if_pos (b2i_1 c_5), if_pos (b2i_1 c_17), if_neg (fun q => absurd ((nI_eq (by omega) (by decide)).mp (show nI R.an.length = nI 6 from c_31)) (by omega))]
        exact pIs.r (a := V.an) ho (by decide)
    · refine hG.bipush (v := -2) dX4_sets_20 rfl ?_
      refine hG.iret dX4_sets_22 rfl ?_ (by omega) (by omega) trivial
      have ho : ancO c s R = .inr (.inl true) := by
        unfold ancO
        rw [if_pos (b2i_1 c_5), if_neg (bFT (b2i_0 c_17))]
      exact pIs.e (b := true) (a := V.an) ho rfl
  · refine hG.iconst (v := -1) dX4_sets_8 rfl ?_
    refine hG.iret dX4_sets_9 rfl ?_ (by omega) (by omega) trivial
    first
    | exact pIs.e (b := false) (a := V.an) (if_neg (bFT (b2i_0 c_5))) rfl
theorem tadd_old {t : Tal} {c : Nat} {x : Int32} (h0 : tof t c ≠ 0) (hx : tof t c + x ≠ 0) : tadd t c x = t.map (fun y => if y.1 = c then (y.1, tof t c + x) else y) := by
  unfold tadd
  rw [if_neg hx, if_pos (by
    obtain ⟨v, h1, -⟩ := tof_mem h0
    exact List.any_eq_true.mpr ⟨_, h1, by simp⟩)]
theorem tof_key {t : Tal} {c : Nat} {m : Nat} (hk : TOk m t) (h0 : tof t c = 0) : ∀ y ∈ t, y.1 ≠ c := by
  intro y hy e
  have key : ∀ (u : Tal), (u.map (·.1)).Nodup → y ∈ u → tof u c = y.2 := by
    intro u
    induction u with
    | nil => intro _ h; exact (nomatch h)
    | cons z u ih =>
      intro hn h
      rw [List.map_cons, List.nodup_cons] at hn
      show (if z.1 = c then z.2 else tof u c) = y.2
      rcases List.mem_cons.mp h with q | q
      · rw [← q, if_pos e]
      · rw [if_neg (fun z9 => hn.1 (List.mem_map.mpr ⟨y, q, e.trans z9.symm⟩)), ih hn.2 q]
  have h1 := key t hk.1 hy
  rw [h0] at h1
  exact hk.nz y hy h1.symm
theorem tadd_nw {t : Tal} {c m : Nat} {x : Int32} (hk : TOk m t) (h0 : tof t c = 0) (hx : x ≠ 0) : tadd t c x = t ++ [(c, x)] := by
  unfold tadd
  have ha : ¬ (t.any (fun y => y.1 == c)) = true := fun q => by
    obtain ⟨y, hy, e⟩ := List.any_eq_true.mp q
    exact tof_key hk h0 y hy (by simpa using e)
  rw [h0, Int32.zero_add, if_neg hx, if_neg ha]
/-- the order of coming, after more of those who wait -/
theorem OrdA.old {N : Nat} {t : Tal} {n n' : Nat → Int32} {c : Nat} {x : Int32} (h : OrdA N t n) (h0 : tof t c ≠ 0) (hx : tof t c + x ≠ 0) (h9 : n' 9 = n 9) (hn : ∀ k, 211 ≤ k → k < 358 → n' k = n k) {m : Nat} (hk : TOk m t) : OrdA N (tadd t c x) n' := by
  rw [tadd_old h0 hx]
  obtain ⟨cm, rk, a1, a2, a3, a4⟩ := h
  have hf : ∀ y : Nat × Int32, (if y.1 = c then (y.1, tof t c + x) else y).1 = y.1 := fun y => by
    by_cases e : y.1 = c
    · rw [if_pos e]
    · rw [if_neg e]
  refine ⟨cm, rk, h9.trans a1, a2, ?_, fun y hy => ?_⟩
  · rw [List.pairwise_map]
    exact a3.imp (fun {y z} q => by rw [hf, hf]; exact q)
  · obtain ⟨z, hz, rfl⟩ := List.mem_map.mp hy
    rw [hf]
    obtain ⟨b1, b2, b3⟩ := a4 z hz
    have := (hk.2 z hz).1
    exact ⟨b1, b2, (hn _ (by omega) (by omega)).trans b3⟩
/-- .. and of new ones -/
theorem OrdA.new {N : Nat} {t : Tal} {n n' : Nat → Int32} {c cm : Nat} {x : Int32} {m : Nat} (hk : TOk m t) (h : OrdA N t n) (h0 : tof t c = 0) (hx : x ≠ 0) (hcm : n 9 = nI cm) (hcN : cm ≤ N) (hlt : N < 2 ^ 30) (h9 : n' 9 = nI (cm + 1)) (hc : n' (211 + c) = nI (cm + 1)) (hn : ∀ k, 211 ≤ k → k < 358 → k ≠ 211 + c → n' k = n k) : OrdA (N + 1) (tadd t c x) n' := by
  rw [tadd_nw hk h0 hx]
  obtain ⟨cm2, rk, a1, a2, a3, a4⟩ := h
  have e : cm2 = cm := (nI_eq (by omega) (by omega)).mp (a1.symm.trans hcm)
  subst e
  have hne := tof_key hk h0
  refine ⟨cm2 + 1, fun k => if k = c then cm2 + 1 else rk k, h9, by omega, ?_, fun y hy => ?_⟩
  · rw [List.pairwise_append]
    refine ⟨?_, List.pairwise_singleton _ _, fun y hy z hz => ?_⟩
    · refine List.Pairwise.imp_of_mem (fun {y z} hy hz q => ?_) a3
      show (if y.1 = c then cm2 + 1 else rk y.1) < (if z.1 = c then cm2 + 1 else rk z.1)
      rw [if_neg (hne y hy), if_neg (hne z hz)]
      exact q
    · rw [List.mem_singleton.mp hz]
      show (if y.1 = c then cm2 + 1 else rk y.1) < (if c = c then cm2 + 1 else rk c)
      rw [if_neg (hne y hy), if_pos rfl]
      have := (a4 y hy).2.1
      omega
  · rcases List.mem_append.mp hy with h | h
    · obtain ⟨b1, b2, b3⟩ := a4 y h
      have := (hk.2 y h).1
      show 0 < (if y.1 = c then cm2 + 1 else rk y.1) ∧ (if y.1 = c then cm2 + 1 else rk y.1) ≤ cm2 + 1 ∧ n' (211 + y.1) = nI (if y.1 = c then cm2 + 1 else rk y.1)
      rw [if_neg (hne y h)]
      exact ⟨b1, by omega, (hn _ (by omega) (by omega) (by have := hne y h; omega)).trans b3⟩
    · rw [List.mem_singleton.mp h]
      show 0 < (if c = c then cm2 + 1 else rk c) ∧ (if c = c then cm2 + 1 else rk c) ≤ cm2 + 1 ∧ n' (211 + c) = nI (if c = c then cm2 + 1 else rk c)
      rw [if_pos rfl]
      exact ⟨by omega, Nat.le_refl _, hc⟩
/-- .. when some go on board -/
theorem OrdA.gone {N : Nat} {t : Tal} {n n' : Nat → Int32} {c : Nat} {x : Int32} (h : OrdA N t n) (h0 : tof t c ≠ 0) (h9 : n' 9 = n 9) (hn : ∀ k, 211 ≤ k → k < 358 → n' k = n k) {m : Nat} (hk : TOk m t) : OrdA N (tadd t c x) n' := by
  by_cases hx : tof t c + x = 0
  · unfold tadd
    rw [if_pos hx]
    obtain ⟨cm, rk, a1, a2, a3, a4⟩ := h
    refine ⟨cm, rk, h9.trans a1, a2, a3.filter _, fun y hy => ?_⟩
    have hy2 := (List.mem_filter.mp hy).1
    obtain ⟨b1, b2, b3⟩ := a4 y hy2
    have := (hk.2 y hy2).1
    exact ⟨b1, b2, (hn _ (by omega) (by omega)).trans b3⟩
  · exact h.old h0 hx h9 hn hk
