/-! an hour of the model -/
theorem holdN_snoc (xs : List T3) (y : T3) : holdN (xs ++ [y]) = holdN xs + (if holdsA y = true then 1 else 0) := by
  unfold holdN
  rw [List.foldl_append]
  rfl
theorem sub4 (s u x y : Int32) : s + x - (u + y) = s - u + (x - y) := by grind
abbrev lostK (R : Rv) (i : Nat) : Int32 := holdN (R.an.take i) - holdN ((R.an.take i).map (dragA R))
theorem lostK_next {R : Rv} {i : Nat} {a : T3} (ha : R.an[i]? = some a) : lostK R (i + 1) = lostK R i + ((if holdsA a = true then 1 else 0) - (if holdsA (dragA R a) = true then 1 else 0)) := by
  unfold lostK
  rw [take_next ha, List.map_append, List.map_singleton, holdN_snoc, holdN_snoc, sub4]
theorem anK_get {R : Rv} {i : Nat} {a : T3} (ha : R.an[i]? = some a) : (anK R (i + 1))[i]? = some (dragA R a) := by
  rw [← anK_set ha, List.getElem?_set_self (by rw [anK_len]; exact (List.getElem?_eq_some_iff.mp ha).1)]
abbrev fltR (R : Rv) (fs : List T3) : List T3 := fs.filter (fun f => !decide (f.2.2 ≤ R.hr + 1))
/-- what is left of the floods -/
def FlI (R : Rv) (T : Nat → Int32) (f l : Nat) (t : Nat → Int32) : Prop := l = (fltR R (R.fl.take f)).length ∧ (∀ k, (k < 31 ∨ 31 + 3 * f ≤ k) → t k = T k) ∧ RpE 31 ((fltR R (R.fl.take f)).map flE) t
theorem FlI.le {R : Rv} {T t : Nat → Int32} {f l : Nat} (h : FlI R T f l t) : l ≤ f := by
  rw [h.1]
  exact Nat.le_trans (List.length_filter_le _ _) (by rw [List.length_take]; omega)
theorem FlI.skip {R : Rv} {T t : Nat → Int32} {f l : Nat} {c : T3} (h : FlI R T f l t) (hc : R.fl[f]? = some c) (he : c.2.2 ≤ R.hr + 1) : FlI R T (f + 1) l t := by
  have e : fltR R (R.fl.take (f + 1)) = fltR R (R.fl.take f) := by
    unfold fltR
    rw [take_next hc, List.filter_append]
    simp [he]
  refine ⟨by rw [e]; exact h.1, fun k hk => h.2.1 k (by omega), by rw [e]; exact h.2.2⟩
theorem FlI.keep {R : Rv} {T t t' : Nat → Int32} {f l : Nat} {c : T3} (h : FlI R T f l t) (hc : R.fl[f]? = some c) (he : ¬ c.2.2 ≤ R.hr + 1) (hT : T (31 + 3 * f) = c.1 ∧ T (31 + 3 * f + 1) = c.2.2 ∧ T (31 + 3 * f + 2) = c.2.1) (ht : ∀ k, t' k = if 31 + 3 * l ≤ k ∧ k < 31 + 3 * l + 3 then t (31 + 3 * f + (k - (31 + 3 * l))) else t k) : FlI R T (f + 1) (l + 1) t' := by
  have e : fltR R (R.fl.take (f + 1)) = fltR R (R.fl.take f) ++ [c] := by
    unfold fltR
    rw [take_next hc, List.filter_append]
    simp [he]
  have hl := h.le
  refine ⟨by rw [e, List.length_append, List.length_singleton, ← h.1], fun k hk => ?_, ?_⟩
  · rw [ht k, if_neg (by omega)]
    exact h.2.1 k (by omega)
  · rw [e, List.map_append]
    have e9 : ((fltR R (R.fl.take f)).map flE).length = l := by rw [List.length_map]; exact h.1.symm
    refine h.2.2.snoc (c := flE c) (fun k a b => ?_) ?_ ?_ ?_
    · rw [e9] at b
      rw [ht k, if_neg (by omega)]
    · rw [e9, ht, if_pos (by omega), show 31 + 3 * f + (31 + 3 * l - (31 + 3 * l)) = 31 + 3 * f by omega, h.2.1 _ (by omega)]
      exact hT.1
    · rw [e9, ht, if_pos (by omega), show 31 + 3 * f + (31 + 3 * l + 1 - (31 + 3 * l)) = 31 + 3 * f + 1 by omega, h.2.1 _ (by omega)]
      exact hT.2.1
    · rw [e9, ht, if_pos (by omega), show 31 + 3 * f + (31 + 3 * l + 2 - (31 + 3 * l)) = 31 + 3 * f + 2 by omega, h.2.1 _ (by omega)]
      exact hT.2.2
theorem FlI.done {N M l : Nat} {R : Rv} {T t : Nat → Int32} (h : FlI R T R.fl.length l t) (hT : Rep N (liveR1 R) T) (hw : Wf M R) : Rep N (liveR R) (va_up t 1 (nI l)) := by
  rw [show FlI R T R.fl.length l t ↔ _ from Iff.rfl] at h
  obtain ⟨h1, h2, h3⟩ := h
  rw [List.take_length] at h1 h3
  have w1 := hw.ch6
  have w2 := hw.fl5
  have w3 := hw.an6
  have hl : (fltR R R.fl).length ≤ 5 := Nat.le_trans (List.length_filter_le _ _) w2
  have s : ∀ k, k ≠ 1 → (k < 31 ∨ 46 ≤ k) → va_up t 1 (nI l) k = T k := fun k a b => (va_ne a).trans (h2 k (by omega))
  have z : ∀ a b, 46 ≤ a → agr T (va_up t 1 (nI l)) a b := fun a b ha k g1 g2 => s k (by omega) (Or.inr (by omega))
  refine Rep.mk ⟨(s 0 (by decide) (by decide)).trans hT.k0, by rw [va_eq rfl, h1], (s 2 (by decide) (by decide)).trans hT.k2⟩ ⟨(s 3 (by decide) (by decide)).trans hT.k3, (s 4 (by decide) (by decide)).trans hT.k4, (s 5 (by decide) (by decide)).trans hT.k5, (s 6 (by decide) (by decide)).trans hT.k6, (s 7 (by decide) (by decide)).trans hT.k7, (s 8 (by decide) (by decide)).trans hT.k8⟩ ⟨(s 10 (by decide) (by decide)).trans hT.2.2.1.1, (s 11 (by decide) (by decide)).trans hT.2.2.1.2.1, (s 12 (by decide) (by decide)).trans hT.2.2.1.2.2⟩ (hT.cE.cg w1 (fun k a b => s k (by omega) (by omega))) (h3.cg (m := 5) (by rw [List.length_map]; exact hl) (fun k a b => va_ne (by omega))) (hT.aE.cg (m := 6) (by rw [show (liveR1 R).an.length = R.an.length from List.length_map (dragA R)]; exact w3) (z _ _ (by decide))) (hT.wT.cg (z _ _ (by decide))) (hT.foT.cg (z _ _ (by decide))) (hT.afT.cg (z _ _ (by decide))) (hT.or.ag hw.wa (fun k a b => s k (by omega) (by omega)) (z _ _ (by decide)))
theorem bTFv {b : Bool} (h : b = false) : (if b = true then (1 : Int32) else 0) = 0 := by rw [h]; rfl
theorem bTFv2 {b : Bool} (h : b = true) : (if b = true then (1 : Int32) else 0) = 1 := by rw [h]; rfl
theorem hold_f {b c : Bool} (h : c = true → b = true) (hb : b = false) : (if c = true then (1 : Int32) else 0) = 0 := by
  cases c
  · rfl
  · rw [h rfl] at hb; cases hb
theorem kv_X4_152 : LkV RX4 152 yX4_draggedAt 3 := ⟨q3465, q3467, qs53, q87, by decide +kernel, by decide +kernel, by decide +kernel⟩
set_option maxHeartbeats 4000000 in
set_option maxRecDepth 100000 in
theorem sp_X4_hour {l : Launch} {s0 : State} {D : va_G} {I : AI} {L : AL} {m : Nat} {A : MA} {V : MV} {N : Nat} {R : Rv} (hΓ : Gam l s0 D) (hA : MOk m A) (hR : Rep N R V.nw) (hw : Wf N R)  : Spc l s0 D yX4_hour 6 [.ref m] I (mdL L m A V) 0 0 (fun q I' L' => I = I' ∧ ∃ n : Nat → Int32, q = some (.int (holdN R.an - holdN (liveR R).an)) ∧ Rep N (liveR R) n ∧ L' = mdL L m A (V.wNw n)) noX := by
  refine Spc.of hΓ cX4_hour 5 (some FieldType.int) q3563 (by decide +kernel) (by decide) (Nat.le_of_ble_eq_true rfl) (fun G GX hG => ?_)
  have inner : ∀ (lost : Int32) (l f : Nat) (s : Nat → Int32), l ≤ f → f < 5 → (∀ t' : Nat → Int32, (∀ k, t' k = if 31 + 3 * l ≤ k ∧ k < 31 + 3 * l + 3 then s (31 + 3 * f + (k - (31 + 3 * l))) else s k) → G 170 [(0, .ref m), (1, .int lost), (2, .int (nI l)), (3, .int (nI f))] [] I (mdL L m A (V.wNw t')) 0 0) → ∀ (w k : Nat) (t : Nat → Int32), k + w = 3 → (∀ j, t j = if 31 + 3 * l ≤ j ∧ j < 31 + 3 * l + k then s (31 + 3 * f + (j - (31 + 3 * l))) else s j) → G 130 [(0, .ref m), (1, .int lost), (2, .int (nI l)), (3, .int (nI f)), (4, .int (nI k))] [] I (mdL L m A (V.wNw t)) 0 0 := by
    intro lost l f s hlf hf5 kk w
    induction w with
    | zero =>
      intro k t hkw ht
      have hk3 : k = 3 := by omega
      subst hk3
      refine hG.iload dX4_hour_130 rfl ?_
      refine hG.iconst (v := 3) dX4_hour_132 rfl ?_
      refine hG.icmp_ge (tgt := 170) dX4_hour_133 rfl (fun c_133 => ?_) (fun c_133 => absurd (by decide) c_133)
      exact hG.lsb [(0, .ref m), (1, .int lost), (2, .int (nI l)), (3, .int (nI f))] ⟨rfl, rfl, rfl, rfl, trivial⟩ (kk t ht)
    | succ w ih =>
      intro k t hkw ht
      refine hG.iload dX4_hour_130 rfl ?_
      refine hG.iconst (v := 3) dX4_hour_132 rfl ?_
      refine hG.icmp_ge (tgt := 170) dX4_hour_133 rfl (fun c_133 => absurd c_133 (nI_ge (a := k) (b := 3) (by omega) (by decide))) (fun c_133 => ?_)
      refine hG.aload_n dX4_hour_136 rfl ?_
      refine hG.get dX4_hour_137 fg_X4_21_X4 (Or.inl mdL_m) rfl ?_
      refine hG.bipush (v := 31) dX4_hour_140 rfl ?_
      refine hG.iconst (v := 3) dX4_hour_142 rfl ?_
      refine hG.iload_n dX4_hour_143 rfl ?_
      refine hG.imul dX4_hour_144 ?_
      refine hG.iadd dX4_hour_145 ?_
      refine hG.iload dX4_hour_146 rfl ?_
      refine hG.iadd dX4_hour_148 ?_
      refine hG.aload_n dX4_hour_149 rfl ?_
      refine hG.get dX4_hour_150 fg_X4_21_X4 (Or.inl mdL_m) rfl ?_
      refine hG.bipush (v := 31) dX4_hour_153 rfl ?_
      refine hG.iconst (v := 3) dX4_hour_155 rfl ?_
      refine hG.iload_n dX4_hour_156 rfl ?_
      refine hG.imul dX4_hour_157 ?_
      refine hG.iadd dX4_hour_158 ?_
      refine hG.iload dX4_hour_159 rfl ?_
      refine hG.iadd dX4_hour_161 ?_
      refine hG.nld hA (31 + 3 * f + k) dX4_hour_162 (ix_b 31 f k) (by omega) (v := s (31 + 3 * f + k)) (show t (31 + 3 * f + k) = _ by
        rw [ht]
        by_cases e : 31 + 3 * l ≤ 31 + 3 * f + k ∧ 31 + 3 * f + k < 31 + 3 * l + k
        · omega
        · rw [if_neg e]) ?_
      refine hG.nst hA (31 + 3 * l + k) dX4_hour_163 (ix_b 31 l k) (by omega) ?_
      refine hG.iinc dX4_hour_164 rfl (by decide) ?_
      refine hG.goto (tgt := 130) dX4_hour_167 rfl ?_
      refine hG.lsb [(0, .ref m), (1, .int lost), (2, .int (nI l)), (3, .int (nI f)), (4, .int (nI k + Int32.ofInt 1))] ⟨rfl, rfl, rfl, rfl, rfl, trivial⟩ ?_
      rw [show nI k + Int32.ofInt 1 = nI (k + 1) from nI_add k 1]
      refine ih (k + 1) (va_up t (31 + 3 * l + k) (s (31 + 3 * f + k))) (by omega) (fun j => ?_)
      by_cases e : j = 31 + 3 * l + k
      · rw [va_eq e, if_pos (by omega), show 31 + 3 * f + (j - (31 + 3 * l)) = 31 + 3 * f + k by omega]
      · rw [va_ne e, ht j]
        by_cases e2 : 31 + 3 * l ≤ j ∧ j < 31 + 3 * l + k
        · rw [if_pos e2, if_pos (by omega)]
        · rw [if_neg e2, if_neg (by omega)]
  have loop2 : ∀ (T : Nat → Int32), Rep N (liveR1 R) T → ∀ (w f l : Nat) (t : Nat → Int32), f + w = R.fl.length → FlI R T f l t → G 92 [(0, .ref m), (1, .int (holdN R.an - holdN (liveR R).an)), (2, .int (nI l)), (3, .int (nI f))] [] I (mdL L m A (V.wNw t)) 0 0 := by
    intro T hT w
    induction w with
    | zero =>
      intro f l t hfw hI
      have hfe : f = R.fl.length := by omega
      subst hfe
      have hfl := hw.fl5
      refine hG.iload_n dX4_hour_92 rfl ?_
      refine hG.aload_n dX4_hour_93 rfl ?_
      refine hG.get dX4_hour_94 fg_X4_21_X4 (Or.inl mdL_m) rfl ?_
      refine hG.iconst (v := 1) dX4_hour_97 rfl ?_
      refine hG.nld hA 1 dX4_hour_98 rfl (by decide) (v := nI R.fl.length) ((hI.2.1 1 (by omega)).trans hT.k1) ?_
      refine hG.icmp_ge (tgt := 179) dX4_hour_99 rfl (fun c_99 => ?_) (fun c_99 => absurd (nI_le (by omega) (by omega)) c_99)
      refine hG.aload_n dX4_hour_179 rfl ?_
      refine hG.get dX4_hour_180 fg_X4_21_X4 (Or.inl mdL_m) rfl ?_
      refine hG.iconst (v := 1) dX4_hour_183 rfl ?_
      refine hG.iload_n dX4_hour_184 rfl ?_
      refine hG.nst hA 1 dX4_hour_185 rfl (by decide) ?_
      refine hG.iload_n dX4_hour_186 rfl ?_
      refine hG.iret dX4_hour_187 rfl ?_ (by omega) (by omega) trivial
      exact ⟨rfl, _, rfl, hI.done hT hw, rfl⟩
    | succ w ih =>
      intro f l t hfw hI
      have hfl := hw.fl5
      have hlf := hI.le
      obtain ⟨c, hc, -⟩ := get_lt (show f < R.fl.length by omega)
      have hTc := hT.l (show (liveR1 R).fl[f]? = some c from hc)
      refine hG.iload_n dX4_hour_92 rfl ?_
      refine hG.aload_n dX4_hour_93 rfl ?_
      refine hG.get dX4_hour_94 fg_X4_21_X4 (Or.inl mdL_m) rfl ?_
      refine hG.iconst (v := 1) dX4_hour_97 rfl ?_
      refine hG.nld hA 1 dX4_hour_98 rfl (by decide) (v := nI R.fl.length) ((hI.2.1 1 (by omega)).trans hT.k1) ?_
      refine hG.icmp_ge (tgt := 179) dX4_hour_99 rfl (fun c_99 => absurd c_99 (nI_ge (by omega) (by omega))) (fun c_99 => ?_)
      refine hG.aload_n dX4_hour_102 rfl ?_
      refine hG.get dX4_hour_103 fg_X4_21_X4 (Or.inl mdL_m) rfl ?_
      refine hG.bipush (v := 31) dX4_hour_106 rfl ?_
      refine hG.iconst (v := 3) dX4_hour_108 rfl ?_
      refine hG.iload_n dX4_hour_109 rfl ?_
      refine hG.imul dX4_hour_110 ?_
      refine hG.iadd dX4_hour_111 ?_
      refine hG.iconst (v := 1) dX4_hour_112 rfl ?_
      refine hG.iadd dX4_hour_113 ?_
      refine hG.nld hA (31 + 3 * f + 1) dX4_hour_114 (ix_b 31 f 1) (by omega) (v := c.2.2) ((hI.2.1 _ (by omega)).trans hTc.2.1) ?_
      refine hG.aload_n dX4_hour_115 rfl ?_
      refine hG.get dX4_hour_116 fg_X4_21_X4 (Or.inl mdL_m) rfl ?_
      refine hG.iconst (v := 3) dX4_hour_119 rfl ?_
      refine hG.nld hA 3 dX4_hour_120 rfl (by decide) (v := R.hr + 1) ((hI.2.1 3 (by omega)).trans hT.k3) ?_
      refine hG.icmp_gt (tgt := 127) dX4_hour_121 rfl (fun c_121 => ?_) (fun c_121 => ?_)
      · refine hG.iconst (v := 0) dX4_hour_127 rfl ?_
        refine hG.istore dX4_hour_128 (by decide) ?_
        refine hG.lsb [(0, .ref m), (1, .int (holdN R.an - holdN (liveR R).an)), (2, .int (nI l)), (3, .int (nI f)), (4, .int (nI 0))] ⟨rfl, rfl, rfl, rfl, rfl, trivial⟩ (inner _ l f t hlf (by omega) (fun t' ht' => ?_) 3 0 t (by omega) (fun j => (if_neg (by omega)).symm))
        refine hG.iinc dX4_hour_170 rfl (by decide) ?_
        refine hG.iinc dX4_hour_173 rfl (by decide) ?_
        refine hG.goto (tgt := 92) dX4_hour_176 rfl ?_
        refine hG.lsb [(0, .ref m), (1, .int (holdN R.an - holdN (liveR R).an)), (2, .int (nI l + Int32.ofInt 1)), (3, .int (nI f + Int32.ofInt 1))] ⟨rfl, rfl, rfl, rfl, trivial⟩ ?_
        rw [show nI f + Int32.ofInt 1 = nI (f + 1) from nI_add f 1, show nI l + Int32.ofInt 1 = nI (l + 1) from nI_add l 1]
        exact ih (f + 1) (l + 1) t' (by omega) (hI.keep hc (lt_not.mp c_121) hTc ht')
      · refine hG.goto (tgt := 173) dX4_hour_124 rfl ?_
        refine hG.iinc dX4_hour_173 rfl (by decide) ?_
        refine hG.goto (tgt := 92) dX4_hour_176 rfl ?_
        refine hG.lsb [(0, .ref m), (1, .int (holdN R.an - holdN (liveR R).an)), (2, .int (nI l)), (3, .int (nI f + Int32.ofInt 1))] ⟨rfl, rfl, rfl, rfl, trivial⟩ ?_
        rw [show nI f + Int32.ofInt 1 = nI (f + 1) from nI_add f 1]
        exact ih (f + 1) l t (by omega) (hI.skip hc (Int32.not_lt.mp c_121))
  have k78 : ∀ (t : Nat → Int32), Rep N (R.wAn (R.an.map (dragA R))) t → G 78 [(0, .ref m), (1, .int (holdN R.an - holdN (liveR R).an))] [] I (mdL L m A (V.wNw t)) 0 0 := by
    intro t hR1
    have hwm := hw.anK R.an.length
    rw [anK_end (Nat.le_refl _)] at hwm
    refine hG.aload_n dX4_hour_78 rfl ?_
    refine hG.get dX4_hour_79 fg_X4_21_X4 (Or.inl mdL_m) rfl ?_
    refine hG.iconst (v := 3) dX4_hour_82 rfl ?_
    refine hG.dup2 dX4_hour_83 rfl rfl ?_
    refine hG.nld hA (3) dX4_hour_84 rfl (by decide) hR1.k3 ?_
    refine hG.iconst (v := 1) dX4_hour_85 rfl ?_
    refine hG.iadd dX4_hour_86 ?_
    refine hG.nst hA (3) dX4_hour_87 rfl (by decide) ?_
    refine hG.iconst (v := 0) dX4_hour_88 rfl ?_
    refine hG.istore_n dX4_hour_89 (by decide) ?_
    refine hG.iconst (v := 0) dX4_hour_90 rfl ?_
    refine hG.istore_n dX4_hour_91 (by decide) ?_
    exact hG.lsb [(0, .ref m), (1, .int (holdN R.an - holdN (liveR R).an)), (2, .int (nI 0)), (3, .int (nI 0))] ⟨rfl, rfl, rfl, rfl, trivial⟩ (loop2 _ (hR1.wHr hwm (x := R.hr + 1)) R.fl.length 0 0 _ (by omega) ⟨rfl, fun _ _ => rfl, fun i c h => by simp at h⟩)
  have loop1 : ∀ (w i : Nat) (t : Nat → Int32), i + w = R.an.length → Rep N (R.wAn (anK R i)) t → G 4 [(0, .ref m), (1, .int (lostK R i)), (2, .int (nI i))] [] I (mdL L m A (V.wNw t)) 0 0 := by
    intro w
    induction w with
    | zero =>
      intro i t hiw hR1
      have hie : i = R.an.length := by omega
      subst hie
      have hi6 := hw.an6
      have hk2 : t 2 = nI R.an.length := by rw [hR1.k2, show (R.wAn (anK R R.an.length)).an.length = R.an.length from anK_len]
      refine hG.iload_n dX4_hour_4 rfl ?_
      refine hG.aload_n dX4_hour_5 rfl ?_
      refine hG.get dX4_hour_6 fg_X4_21_X4 (Or.inl mdL_m) rfl ?_
      refine hG.iconst (v := 2) dX4_hour_9 rfl ?_
      refine hG.nld hA 2 dX4_hour_10 rfl (by decide) (v := nI R.an.length) hk2 ?_
      refine hG.icmp_ge (tgt := 78) dX4_hour_11 rfl (fun c_11 => ?_) (fun c_11 => absurd (nI_le (by omega) (by omega)) c_11)
      rw [anK_end (Nat.le_refl _)] at hR1
      refine hG.lsb [(0, .ref m), (1, .int (holdN R.an - holdN (liveR R).an))] ⟨rfl, ?_, trivial⟩ (k78 t hR1)
      show some (Value.int (lostK R R.an.length)) = _
      unfold lostK
      rw [List.take_length]
    | succ w ih =>
      intro i t hiw hR1
      have hi6 := hw.an6
      have hk2 : t 2 = nI R.an.length := by rw [hR1.k2, show (R.wAn (anK R i)).an.length = R.an.length from anK_len]
      obtain ⟨a, ha, ham⟩ := get_lt (show i < R.an.length by omega)
      obtain ⟨j, c0, haj, hj, hda, hok, hhd⟩ := dragA_ok hw ham
      have hg1 : (R.wAn (anK R i)).an[i]? = some a := anK_at ha
      have hg2 : (R.wAn (anK R (i + 1))).an[i]? = some (dragA R a) := anK_get ha
      have hd99 := (hw.as a ham).2.2.2
      have hR2 : Rep N (R.wAn (anK R (i + 1))) (va_up t (46 + 3 * i + 2) (minI 99 (a.2.2 + drgV R a c0 R.hr))) := by
        have h9 := hR1.setD (hw.anK i) hg1 (x := minI 99 (a.2.2 + drgV R a c0 R.hr))
        rw [← hda] at h9
        rw [← anK_set ha]
        exact h9
      refine hG.iload_n dX4_hour_4 rfl ?_
      refine hG.aload_n dX4_hour_5 rfl ?_
      refine hG.get dX4_hour_6 fg_X4_21_X4 (Or.inl mdL_m) rfl ?_
      refine hG.iconst (v := 2) dX4_hour_9 rfl ?_
      refine hG.nld hA 2 dX4_hour_10 rfl (by decide) (v := nI R.an.length) hk2 ?_
      refine hG.icmp_ge (tgt := 78) dX4_hour_11 rfl (fun c_11 => absurd c_11 (nI_ge (by omega) (by omega))) (fun c_11 => ?_)
      refine hG.aload_n dX4_hour_14 rfl ?_
      refine hG.iload_n dX4_hour_15 rfl ?_
      refine hG.callV dX4_hour_16 kv_X4_111 (Rcv.raw mdL_m cl_X4) (sp_X4_holds hΓ hA (V := V.wNw t) hR1 (hw.anK i) hg1) rfl rfl (Nat.le_of_ble_eq_true rfl) (by decide) (by omega) (by omega) (fun r16 I16 L16 hI16 h16 => ?_) (fun _ _ _ _ _ h => h.elim)
      obtain ⟨rfl, rfl, rfl⟩ := h16
      refine hG.istore_n dX4_hour_19 (by decide) ?_
      refine hG.aload_n dX4_hour_20 rfl ?_
      refine hG.get dX4_hour_21 fg_X4_21_X4 (Or.inl mdL_m) rfl ?_
      refine hG.bipush (v := 46) dX4_hour_24 rfl ?_
      refine hG.iconst (v := 3) dX4_hour_26 rfl ?_
      refine hG.iload_n dX4_hour_27 rfl ?_
      refine hG.imul dX4_hour_28 ?_
      refine hG.iadd dX4_hour_29 ?_
      refine hG.iconst (v := 2) dX4_hour_30 rfl ?_
      refine hG.iadd dX4_hour_31 ?_
      refine hG.aload_n dX4_hour_32 rfl ?_
      refine hG.iload_n dX4_hour_33 rfl ?_
      refine hG.aload_n dX4_hour_34 rfl ?_
      refine hG.get dX4_hour_35 fg_X4_21_X4 (Or.inl mdL_m) rfl ?_
      refine hG.bipush (v := 46) dX4_hour_38 rfl ?_
      refine hG.iconst (v := 3) dX4_hour_40 rfl ?_
      refine hG.iload_n dX4_hour_41 rfl ?_
      refine hG.imul dX4_hour_42 ?_
      refine hG.iadd dX4_hour_43 ?_
      refine hG.iconst (v := 2) dX4_hour_44 rfl ?_
      refine hG.iadd dX4_hour_45 ?_
      refine hG.nld hA (46 + 3 * i + 2) dX4_hour_46 (ix_b 46 i 2) (by omega) (v := a.2.2) (hR1.a hg1).2.2 ?_
      refine hG.aload_n dX4_hour_47 rfl ?_
      refine hG.get dX4_hour_48 fg_X4_21_X4 (Or.inl mdL_m) rfl ?_
      refine hG.iconst (v := 3) dX4_hour_51 rfl ?_
      refine hG.nld hA 3 dX4_hour_52 rfl (by decide) (v := R.hr) hR1.k3 ?_
      refine hG.callV dX4_hour_53 kv_X4_152 (Rcv.raw mdL_m cl_X4) (sp_X4_draggedAt (at_ := R.hr) hΓ hA (V := V.wNw t) hR1 (hw.anK i) hg1 haj hj hd99) rfl rfl (Nat.le_of_ble_eq_true rfl) (by decide) (by omega) (by omega) (fun r53 I53 L53 hI53 h53 => ?_) (fun _ _ _ _ _ h => h.elim)
      obtain ⟨rfl, rfl, rfl⟩ := h53
      refine hG.nst hA (46 + 3 * i + 2) dX4_hour_56 (ix_b 46 i 2) (by omega) ?_
      refine hG.iload_n dX4_hour_57 rfl ?_
      refine hG.if_eq (tgt := 72) dX4_hour_58 rfl (fun c_58 => ?_) (fun c_58 => ?_)
      · refine hG.iinc dX4_hour_72 rfl (by decide) ?_
        refine hG.goto (tgt := 4) dX4_hour_75 rfl ?_
        refine hG.lsb [(0, .ref m), (1, .int (lostK R i)), (2, .int (nI i + Int32.ofInt 1))] ⟨rfl, rfl, rfl, trivial⟩ ?_
        rw [show nI i + Int32.ofInt 1 = nI (i + 1) from nI_add i 1]
        have e9 : (lostK R i) = lostK R (i + 1) := by
          rw [lostK_next ha]
          rw [bTFv (b2i_0 c_58), hold_f hhd (b2i_0 c_58)]
          rw [Int32.sub_self, Int32.add_zero]
        rw [e9]
        exact ih (i + 1) _ (by omega) hR2
      · refine hG.aload_n dX4_hour_61 rfl ?_
        refine hG.iload_n dX4_hour_62 rfl ?_
        refine hG.callV dX4_hour_63 kv_X4_111 (Rcv.raw mdL_m cl_X4) (sp_X4_holds hΓ hA (V := V.wNw (va_up t (46 + 3 * i + 2) (minI 99 (a.2.2 + drgV R a c0 R.hr)))) hR2 (hw.anK (i + 1)) hg2) rfl rfl (Nat.le_of_ble_eq_true rfl) (by decide) (by omega) (by omega) (fun r63 I63 L63 hI63 h63 => ?_) (fun _ _ _ _ _ h => h.elim)
        obtain ⟨rfl, rfl, rfl⟩ := h63
        refine hG.if_ne (tgt := 72) dX4_hour_66 rfl (fun c_66 => ?_) (fun c_66 => ?_)
        · refine hG.iinc dX4_hour_72 rfl (by decide) ?_
          refine hG.goto (tgt := 4) dX4_hour_75 rfl ?_
          refine hG.lsb [(0, .ref m), (1, .int (lostK R i)), (2, .int (nI i + Int32.ofInt 1))] ⟨rfl, rfl, rfl, trivial⟩ ?_
          rw [show nI i + Int32.ofInt 1 = nI (i + 1) from nI_add i 1]
          have e9 : (lostK R i) = lostK R (i + 1) := by
            rw [lostK_next ha]
            rw [bTFv2 (b2i_1 c_58), bTFv2 (b2i_1 c_66)]
            rw [Int32.sub_self, Int32.add_zero]
          rw [e9]
          exact ih (i + 1) _ (by omega) hR2
        · refine hG.iinc dX4_hour_69 rfl (by decide) ?_
          refine hG.iinc dX4_hour_72 rfl (by decide) ?_
          refine hG.goto (tgt := 4) dX4_hour_75 rfl ?_
          refine hG.lsb [(0, .ref m), (1, .int (lostK R i + Int32.ofInt 1)), (2, .int (nI i + Int32.ofInt 1))] ⟨rfl, rfl, rfl, trivial⟩ ?_
          rw [show nI i + Int32.ofInt 1 = nI (i + 1) from nI_add i 1]
          have e9 : (lostK R i + Int32.ofInt 1) = lostK R (i + 1) := by
            rw [lostK_next ha]
            rw [bTFv2 (b2i_1 c_58), bTFv (b2i_0 c_66)]
            rfl
          rw [e9]
          exact ih (i + 1) _ (by omega) hR2
  refine hG.iconst (v := 0) dX4_hour_0 rfl ?_
  refine hG.istore_n dX4_hour_1 (by decide) ?_
  refine hG.iconst (v := 0) dX4_hour_2 rfl ?_
  refine hG.istore_n dX4_hour_3 (by decide) ?_
  have hR0 : Rep N (R.wAn (anK R 0)) V.nw := hR
  have e0 : lostK R 0 = 0 := by
    show (0 : Int32) - 0 = 0
    decide
  have h9 := loop1 R.an.length 0 V.nw (by omega) hR0
  rw [e0] at h9
  exact hG.lsb [(0, .ref m), (1, .int 0), (2, .int (nI 0))] ⟨rfl, rfl, rfl, trivial⟩ h9
