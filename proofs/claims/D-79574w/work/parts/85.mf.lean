/-! the model lands -/
theorem sumT_7 {t : Tal} {F : Nat → Int32} {s : Nat} (hs : s < 7) (hF : ∀ c, c % 7 ≠ s → F c = 0) (q : Nat) : sumT t F (7 * (q + 1)) = sumT t F (7 * q) + tof t (7 * q + s) * F (7 * q + s) := by
  have z : ∀ i, i < 7 → i ≠ s → tof t (7 * q + i) * F (7 * q + i) = 0 := fun i hi hne => by
    rw [hF _ (by omega), Int32.mul_zero]
  have e : sumT t F (7 * (q + 1)) = sumT t F (7 * q) + tof t (7 * q + 0) * F (7 * q + 0) + tof t (7 * q + 1) * F (7 * q + 1) + tof t (7 * q + 2) * F (7 * q + 2) + tof t (7 * q + 3) * F (7 * q + 3) + tof t (7 * q + 4) * F (7 * q + 4) + tof t (7 * q + 5) * F (7 * q + 5) + tof t (7 * q + 6) * F (7 * q + 6) := rfl
  rw [e]
  match s, hs with
  | 0, _ => rw [z 1 (by omega) (by omega), z 2 (by omega) (by omega), z 3 (by omega) (by omega), z 4 (by omega) (by omega), z 5 (by omega) (by omega), z 6 (by omega) (by omega)]; simp only [Int32.add_zero]
  | 1, _ => rw [z 0 (by omega) (by omega), z 2 (by omega) (by omega), z 3 (by omega) (by omega), z 4 (by omega) (by omega), z 5 (by omega) (by omega), z 6 (by omega) (by omega)]; simp only [Int32.add_zero]
  | 2, _ => rw [z 0 (by omega) (by omega), z 1 (by omega) (by omega), z 3 (by omega) (by omega), z 4 (by omega) (by omega), z 5 (by omega) (by omega), z 6 (by omega) (by omega)]; simp only [Int32.add_zero]
  | 3, _ => rw [z 0 (by omega) (by omega), z 1 (by omega) (by omega), z 2 (by omega) (by omega), z 4 (by omega) (by omega), z 5 (by omega) (by omega), z 6 (by omega) (by omega)]; simp only [Int32.add_zero]
  | 4, _ => rw [z 0 (by omega) (by omega), z 1 (by omega) (by omega), z 2 (by omega) (by omega), z 3 (by omega) (by omega), z 5 (by omega) (by omega), z 6 (by omega) (by omega)]; simp only [Int32.add_zero]
  | 5, _ => rw [z 0 (by omega) (by omega), z 1 (by omega) (by omega), z 2 (by omega) (by omega), z 3 (by omega) (by omega), z 4 (by omega) (by omega), z 6 (by omega) (by omega)]; simp only [Int32.add_zero]
  | 6, _ => rw [z 0 (by omega) (by omega), z 1 (by omega) (by omega), z 2 (by omega) (by omega), z 3 (by omega) (by omega), z 4 (by omega) (by omega), z 5 (by omega) (by omega)]; simp only [Int32.add_zero]
  | _ + 7, h => exact absurd h (by omega)
abbrev lw1 (s : Nat) : Nat → Int32 := fun c => if c % 7 = s then 1 else 0
abbrev lwc (f : Nat → Int32) (s : Nat) : Nat → Int32 := fun c => if c % 7 = s then chn c * f (c / 49) else 0
theorem foldl_cg {α : Type} {g h : Int32 → α → Int32} : ∀ (t : List α) (a : Int32), (∀ s x, x ∈ t → g s x = h s x) → t.foldl g a = t.foldl h a
  | [], _, _ => rfl
  | x :: t, a, e => by
    show t.foldl g (g a x) = t.foldl h (h a x)
    rw [e a x (by simp)]
    exact foldl_cg t _ (fun s y hy => e s y (by simp [hy]))
theorem lcoin_sum {m s : Nat} {t : Tal} {f : Nat → Int32} (hk : TOk m t) (hs : s < 7) : lcoin f (nI s) 0 t = sumT t (lwc f s) 147 := by
  rw [sumT_all hk.1 (fun x hx => (hk.2 x hx).1)]
  unfold lcoin
  refine foldl_cg t 0 (fun a x hx => ?_)
  by_cases e : x.1 % 7 = s
  · rw [if_pos (by rw [e]), show lwc f s x.1 = chn x.1 * f (x.1 / 49) from if_pos e, Int32.mul_assoc]
  · rw [if_neg (fun q => e ((nI_eq (by omega) (by omega)).mp q)), show lwc f s x.1 = 0 from if_neg e, Int32.mul_zero, Int32.add_zero]
theorem lnum_sum {m s : Nat} {t : Tal} {a : Int32} (hk : TOk m t) (hs : s < 7) : lnum (nI s) a t = a + sumT t (lw1 s) 147 := by
  rw [sumT_all hk.1 (fun x hx => (hk.2 x hx).1), ← foldl_acc t a]
  unfold lnum
  refine foldl_cg t a (fun b x hx => ?_)
  by_cases e : x.1 % 7 = s
  · rw [if_pos (by rw [e]), show lw1 s x.1 = 1 from if_pos e, Int32.mul_one]
  · rw [if_neg (fun q => e ((nI_eq (by omega) (by omega)).mp q)), show lw1 s x.1 = 0 from if_neg e, Int32.mul_zero, Int32.add_zero]
theorem tof_keep {s : Nat} (hs : s < 7) (c : Nat) : ∀ (t : Tal), tof (lkeep (nI s) t) c = if c % 7 = s then 0 else tof t c
  | [] => by
    show (0 : Int32) = if c % 7 = s then 0 else 0
    split <;> rfl
  | x :: t => by
    have ih := tof_keep hs c t
    by_cases e : x.1 % 7 = s
    · have e1 : lkeep (nI s) (x :: t) = lkeep (nI s) t := List.filter_cons_of_neg (by simp [e])
      rw [e1, ih]
      by_cases hc : c % 7 = s
      · rw [if_pos hc, if_pos hc]
      · rw [if_neg hc, if_neg hc]
        show _ = if x.1 = c then x.2 else tof t c
        rw [if_neg (fun q : x.1 = c => hc (by rw [← q]; exact e))]
    · have e1 : lkeep (nI s) (x :: t) = x :: lkeep (nI s) t := List.filter_cons_of_pos (by simp; exact fun q => e ((nI_eq (by omega) (by omega)).mp q))
      rw [e1]
      show (if x.1 = c then x.2 else tof (lkeep (nI s) t) c) = if c % 7 = s then 0 else (if x.1 = c then x.2 else tof t c)
      rw [ih]
      by_cases hx : x.1 = c
      · rw [if_pos hx, if_neg (fun q : c % 7 = s => e (by rw [hx]; exact q)), if_pos hx]
      · rw [if_neg hx]
        by_cases hc : c % 7 = s
        · rw [if_pos hc, if_pos hc]
        · rw [if_neg hc, if_neg hc, if_neg hx]
/-- what has been landed of the first q sevens -/
def LndI (R : Rv) (s q : Nat) (n0 n : Nat → Int32) : Prop := (∀ j, j ≠ 6 → j < 358 → n j = n0 j) ∧ n 6 = R.ld + sumT R.fo (lw1 s) (7 * q) + sumT R.af (lw1 s) (7 * q) ∧ (∀ c, c < 147 → n (358 + c) = if c < 7 * q ∧ c % 7 = s then 0 else tof R.fo c) ∧ (∀ c, c < 147 → n (505 + c) = if c < 7 * q ∧ c % 7 = s then 0 else tof R.af c)
theorem LndI.next {R : Rv} {s q : Nat} {n0 n : Nat → Int32} (h : LndI R s q n0 n) (hs : s < 7) (hq : q < 21) : LndI R s (q + 1) n0 (va_up (va_up (va_up n 6 (n 6 + (tof R.fo (7 * q + s) + tof R.af (7 * q + s)))) (358 + (7 * q + s)) 0) (505 + (7 * q + s)) 0) := by
  obtain ⟨h1, h2, h3, h4⟩ := h
  have hF : ∀ c, c % 7 ≠ s → lw1 s c = 0 := fun c hc => if_neg hc
  have hv : lw1 s (7 * q + s) = 1 := if_pos (by omega)
  refine ⟨fun j a b => (va_ne (by omega)).trans ((va_ne (by omega)).trans ((va_ne a).trans (h1 j a b))), ?_, fun c hc => ?_, fun c hc => ?_⟩
  · rw [va_ne (by omega), va_ne (by omega), va_eq rfl, h2, sumT_7 hs hF, sumT_7 hs hF, hv, Int32.mul_one, Int32.mul_one]
    grind
  · rw [va_ne (by omega)]
    by_cases e : c = 7 * q + s
    · rw [va_eq (by omega), if_pos (by omega)]
    · rw [va_ne (by omega), va_ne (by omega), h3 c hc]
      by_cases e2 : c < 7 * q ∧ c % 7 = s
      · rw [if_pos e2, if_pos (by omega)]
      · rw [if_neg e2, if_neg (by omega)]
  · by_cases e : c = 7 * q + s
    · rw [va_eq (by omega), if_pos (by omega)]
    · rw [va_ne (by omega), va_ne (by omega), va_ne (by omega), h4 c hc]
      by_cases e2 : c < 7 * q ∧ c % 7 = s
      · rw [if_pos e2, if_pos (by omega)]
      · rw [if_neg e2, if_neg (by omega)]
theorem absI_sub {a b : Nat} (ha : a < 100) (hb : b < 100) : absI (nI a - nI b) = absI (nI b - nI a) := by
  have h : ∀ a, a < 100 → ∀ b, b < 100 → absI (nI a - nI b) = absI (nI b - nI a) := by decide +kernel
  exact h a ha b hb
theorem Rep.lnd {N M s : Nat} {R : Rv} {n0 n : Nat → Int32} {x : Int32} (h : Rep N R n0) (hw : Wf M R) (hs : s < 7) (hst : R.st = nI s) (hl : LndI R s 21 n0 n) (hx : x = R.pd + (lcoin (faR R) R.st 0 R.fo + lcoin (faR R) R.st 0 R.af)) : Rep N (landR R (faR R)) (va_up n 7 x) := by
  obtain ⟨h1, h2, h3, h4⟩ := hl
  have w1 := hw.ch6
  have w2 := hw.fl5
  have w3 := hw.an6
  have z : ∀ a b, b ≤ 358 → (7 < a ∨ b ≤ 6) → agr n0 (va_up n 7 x) a b := fun a b hb ha k g1 g2 => (va_ne (by omega)).trans (h1 k (by omega) (by omega))
  have z1 : ∀ j, j ≠ 6 → j ≠ 7 → j < 358 → va_up n 7 x j = n0 j := fun j a b c => (va_ne b).trans (h1 j a c)
  refine Rep.mk ⟨(z1 0 (by decide) (by decide) (by decide)).trans h.k0, (z1 1 (by decide) (by decide) (by decide)).trans h.k1, (z1 2 (by decide) (by decide) (by decide)).trans h.k2⟩ ⟨(z1 3 (by decide) (by decide) (by decide)).trans h.k3, (z1 4 (by decide) (by decide) (by decide)).trans h.k4, (z1 5 (by decide) (by decide) (by decide)).trans h.k5, ?_, ?_, (z1 8 (by decide) (by decide) (by decide)).trans h.k8⟩ ⟨(z1 10 (by decide) (by decide) (by decide)).trans h.2.2.1.1, (z1 11 (by decide) (by decide) (by decide)).trans h.2.2.1.2.1, (z1 12 (by decide) (by decide) (by decide)).trans h.2.2.1.2.2⟩ (h.cE.cg w1 (z _ _ (by decide) (by decide))) (h.fE.cg (m := 5) (by rw [List.length_map]; exact w2) (z _ _ (by decide) (by decide))) (h.aE.cg w3 (z _ _ (by decide) (by decide))) (h.wT.cg (z _ _ (by decide) (by decide))) (fun c hc => ?_) (fun c hc => ?_) (h.or.ag hw.wa (z _ _ (by decide) (by decide)) (z _ _ (by decide) (by decide)))
  · rw [va_ne (by decide), h2]
    show _ = lnum R.st (lnum R.st R.ld R.fo) R.af
    rw [hst, lnum_sum hw.af hs, lnum_sum hw.fo hs]
  · rw [va_eq rfl, hx]
  · rw [va_ne (by omega), h3 c hc]
    show _ = tof (lkeep R.st R.fo) c
    rw [hst, tof_keep hs]
    by_cases e : c % 7 = s
    · rw [if_pos ⟨by omega, e⟩, if_pos e]
    · rw [if_neg (fun q => e q.2), if_neg e]
  · rw [va_ne (by omega), h4 c hc]
    show _ = tof (lkeep R.st R.af) c
    rw [hst, tof_keep hs]
    by_cases e : c % 7 = s
    · rw [if_pos ⟨by omega, e⟩, if_pos e]
    · rw [if_neg (fun q => e q.2), if_neg e]
/-- the coins of the first q sevens -/
abbrev coinQ (R : Rv) (s q : Nat) : Int32 := sumT R.fo (lwc (faR R) s) (7 * q) + sumT R.af (lwc (faR R) s) (7 * q)
theorem coinQ_next {R : Rv} {s k f : Nat} (hs : s < 7) (hf : f < 7) : coinQ R s (7 * k + f + 1) = coinQ R s (7 * k + f) + (tof R.fo (gco k f s) + tof R.af (gco k f s)) * faR R k * absI (nI f - nI s) := by
  have hF : ∀ c, c % 7 ≠ s → lwc (faR R) s c = 0 := fun c hc => if_neg hc
  have e0 : 7 * (7 * k + f) + s = gco k f s := by unfold gco; omega
  have hv : lwc (faR R) s (gco k f s) = absI (nI f - nI s) * faR R k := by
    obtain ⟨e1, e2, e3⟩ := gco_p (k := k) (f := f) (t := s) (by omega) (by omega)
    show (if gco k f s % 7 = s then chn (gco k f s) * faR R (gco k f s / 49) else 0) = _
    rw [if_pos e3]
    unfold chn
    rw [e1, e2, e3, absI_sub (by omega) (by omega)]
  unfold coinQ
  rw [sumT_7 hs hF, sumT_7 hs hF, e0, hv]
  grind
set_option maxHeartbeats 4000000 in
set_option maxRecDepth 100000 in
theorem sp_X4_lands {l : Launch} {s0 : State} {D : va_G} {I : AI} {L : AL} {m : Nat} {A : MA} {V : MV} {N : Nat} {R : Rv} (hΓ : Gam l s0 D) (hA : MOk m A) (hR : Rep N R V.nw) (hw : Wf N R)  : Spc l s0 D yX4_lands 3 [.ref m] I (mdL L m A V) 0 0 (pIs N I L m A V (fun b => match b with | true => -2 | false => -1) (lndO R)) noX := by
  refine Spc.of hΓ cX4_lands 6 (some FieldType.int) q3508 (by decide +kernel) (by decide) (Nat.le_of_ble_eq_true rfl) (fun G GX hG => ?_)
  have hl6 := hw.ch6
  obtain ⟨s, hs6, hst⟩ := hw.st
  have hs : s < 7 := by omega
  have inner : ∀ (k : Nat), k < 3 → (∀ n : Nat → Int32, LndI R s (7 * k + 7) V.nw n → G 124 [(0, .ref m), (1, .int (coinQ R s (7 * k + 7))), (2, .int (nI k))] [] I (mdL L m A (V.wNw n)) 0 0) → ∀ (w f : Nat) (n : Nat → Int32), f + w = 7 → LndI R s (7 * k + f) V.nw n → G 11 [(0, .ref m), (1, .int (coinQ R s (7 * k + f))), (2, .int (nI k)), (3, .int (nI f))] [] I (mdL L m A (V.wNw n)) 0 0 := by
    intro k hk kk w
    induction w with
    | zero =>
      intro f n hfw hI
      have hfe : f = 7 := by omega
      subst hfe
      refine hG.iload_n dX4_lands_11 rfl ?_
      refine hG.bipush (v := 7) dX4_lands_12 rfl ?_
      refine hG.icmp_ge (tgt := 124) dX4_lands_14 rfl (fun c_14 => ?_) (fun c_14 => absurd (by decide) c_14)
      exact hG.lsb [(0, .ref m), (1, .int (coinQ R s (7 * k + 7))), (2, .int (nI k))] ⟨rfl, rfl, rfl, trivial⟩ (kk n hI)
    | succ w ih =>
      intro f n hfw hI
      have hg : gco k f s < 147 := gco_lt hk (by omega) (by omega)
      have hng : ¬ (gco k f s < 7 * (7 * k + f) ∧ gco k f s % 7 = s) := by unfold gco; omega
      have h4 : n 4 = nI s := (hI.1 4 (by decide) (by decide)).trans (hR.k4.trans hst)
      have hfo : n (358 + gco k f s) = tof R.fo (gco k f s) := (hI.2.2.1 _ hg).trans (if_neg hng)
      have haf : n (505 + gco k f s) = tof R.af (gco k f s) := (hI.2.2.2 _ hg).trans (if_neg hng)
      have hfa : n (10 + k) = faR R k := (hI.1 _ (by omega) (by omega)).trans (hR.f hk)
      refine hG.iload_n dX4_lands_11 rfl ?_
      refine hG.bipush (v := 7) dX4_lands_12 rfl ?_
      refine hG.icmp_ge (tgt := 124) dX4_lands_14 rfl (fun c_14 => absurd c_14 (nI_ge (a := f) (b := 7) (by omega) (by decide))) (fun c_14 => ?_)
      refine hG.iload_n dX4_lands_17 rfl ?_
      refine hG.iload_n dX4_lands_18 rfl ?_
      refine hG.aload_n dX4_lands_19 rfl ?_
      refine hG.get dX4_lands_20 fg_X4_21_X4 (Or.inl mdL_m) rfl ?_
      refine hG.iconst (v := 4) dX4_lands_23 rfl ?_
      refine hG.nld hA (4) dX4_lands_24 rfl (by omega) (v := nI s) (h4) ?_
      refine hG.callS dX4_lands_25 ks_X4_94 (sp_X4_groupAt hΓ) rfl rfl (Nat.le_of_ble_eq_true rfl) (by decide) (by omega) (by omega) (fun r25 I25 L25 hI25 h25 => ?_) (fun _ _ _ _ _ h => h.elim)
      obtain ⟨rfl, rfl, rfl⟩ := h25
      refine hG.istore dX4_lands_28 (by decide) ?_
      refine hG.aload_n dX4_lands_30 rfl ?_
      refine hG.get dX4_lands_31 fg_X4_21_X4 (Or.inl mdL_m) rfl ?_
      refine hG.sipush (v := 358) dX4_lands_34 rfl ?_
      refine hG.iload dX4_lands_37 rfl ?_
      refine hG.iadd dX4_lands_39 ?_
      rw [show (358 : Int32) + nI (gco k f s) = nI (358 + gco k f s) from ix1 358 _]
      refine hG.nld hA (358 + gco k f s) dX4_lands_40 rfl (by omega) (v := tof R.fo (gco k f s)) (hfo) ?_
      refine hG.aload_n dX4_lands_41 rfl ?_
      refine hG.get dX4_lands_42 fg_X4_21_X4 (Or.inl mdL_m) rfl ?_
      refine hG.sipush (v := 505) dX4_lands_45 rfl ?_
      refine hG.iload dX4_lands_48 rfl ?_
      refine hG.iadd dX4_lands_50 ?_
      rw [show (505 : Int32) + nI (gco k f s) = nI (505 + gco k f s) from ix1 505 _]
      refine hG.nld hA (505 + gco k f s) dX4_lands_51 rfl (by omega) (v := tof R.af (gco k f s)) (haf) ?_
      refine hG.iadd dX4_lands_52 ?_
      refine hG.istore dX4_lands_53 (by decide) ?_
      refine hG.iload_n dX4_lands_55 rfl ?_
      refine hG.iload dX4_lands_56 rfl ?_
      refine hG.aload_n dX4_lands_58 rfl ?_
      refine hG.get dX4_lands_59 fg_X4_21_X4 (Or.inl mdL_m) rfl ?_
      refine hG.bipush (v := 10) dX4_lands_62 rfl ?_
      refine hG.iload_n dX4_lands_64 rfl ?_
      refine hG.iadd dX4_lands_65 ?_
      rw [show (10 : Int32) + nI k = nI (10 + k) from ix1 10 _]
      refine hG.nld hA (10 + k) dX4_lands_66 rfl (by omega) (v := faR R k) (hfa) ?_
      refine hG.imul dX4_lands_67 ?_
      refine hG.iload_n dX4_lands_68 rfl ?_
      refine hG.aload_n dX4_lands_69 rfl ?_
      refine hG.get dX4_lands_70 fg_X4_21_X4 (Or.inl mdL_m) rfl ?_
      refine hG.iconst (v := 4) dX4_lands_73 rfl ?_
      refine hG.nld hA (4) dX4_lands_74 rfl (by omega) (v := nI s) (h4) ?_
      refine hG.isub dX4_lands_75 ?_
      refine hG.mabs dX4_lands_76 q3509 (Nat.le_of_ble_eq_true rfl) (by decide) ?_
      refine hG.imul dX4_lands_79 ?_
      refine hG.iadd dX4_lands_80 ?_
      rw [← coinQ_next hs (show f < 7 by omega)]
      refine hG.istore_n dX4_lands_81 (by decide) ?_
      refine hG.aload_n dX4_lands_82 rfl ?_
      refine hG.get dX4_lands_83 fg_X4_21_X4 (Or.inl mdL_m) rfl ?_
      refine hG.bipush (v := 6) dX4_lands_86 rfl ?_
      refine hG.dup2 dX4_lands_88 rfl rfl ?_
      refine hG.nld hA (6) dX4_lands_89 rfl (by omega) (v := n 6) (rfl) ?_
      refine hG.iload dX4_lands_90 rfl ?_
      refine hG.iadd dX4_lands_92 ?_
      refine hG.nst hA 6 dX4_lands_93 rfl (by decide) ?_
      refine hG.aload_n dX4_lands_94 rfl ?_
      refine hG.get dX4_lands_95 fg_X4_21_X4 (Or.inl mdL_m) rfl ?_
      refine hG.sipush (v := 358) dX4_lands_98 rfl ?_
      refine hG.iload dX4_lands_101 rfl ?_
      refine hG.iadd dX4_lands_103 ?_
      rw [show (358 : Int32) + nI (gco k f s) = nI (358 + gco k f s) from ix1 358 _]
      refine hG.iconst (v := 0) dX4_lands_104 rfl ?_
      refine hG.nst hA (358 + gco k f s) dX4_lands_105 rfl (by omega) ?_
      refine hG.aload_n dX4_lands_106 rfl ?_
      refine hG.get dX4_lands_107 fg_X4_21_X4 (Or.inl mdL_m) rfl ?_
      refine hG.sipush (v := 505) dX4_lands_110 rfl ?_
      refine hG.iload dX4_lands_113 rfl ?_
      refine hG.iadd dX4_lands_115 ?_
      rw [show (505 : Int32) + nI (gco k f s) = nI (505 + gco k f s) from ix1 505 _]
      refine hG.iconst (v := 0) dX4_lands_116 rfl ?_
      refine hG.nst hA (505 + gco k f s) dX4_lands_117 rfl (by omega) ?_
      refine hG.iinc dX4_lands_118 rfl (by decide) ?_
      refine hG.goto (tgt := 11) dX4_lands_121 rfl ?_
      refine hG.lsb [(0, .ref m), (1, .int (coinQ R s (7 * k + f + 1))), (2, .int (nI k)), (3, .int (nI f + Int32.ofInt 1))] ⟨rfl, rfl, rfl, rfl, trivial⟩ ?_
      rw [show nI f + Int32.ofInt 1 = nI (f + 1) from nI_add f 1]
      have hn := hI.next hs (show 7 * k + f < 21 by omega)
      rw [show 7 * (7 * k + f) + s = gco k f s by unfold gco; omega] at hn
      exact ih (f + 1) _ (by omega) hn
  have outer : ∀ (w k : Nat) (n : Nat → Int32), k + w = 3 → LndI R s (7 * k) V.nw n → G 4 [(0, .ref m), (1, .int (coinQ R s (7 * k))), (2, .int (nI k))] [] I (mdL L m A (V.wNw n)) 0 0 := by
    intro w
    induction w with
    | zero =>
      intro k n hkw hI
      have hke : k = 3 := by omega
      subst hke
      refine hG.iload_n dX4_lands_4 rfl ?_
      refine hG.iconst (v := 3) dX4_lands_5 rfl ?_
      refine hG.icmp_ge (tgt := 130) dX4_lands_6 rfl (fun c_6 => ?_) (fun c_6 => absurd (by decide) c_6)
      refine hG.aload_n dX4_lands_130 rfl ?_
      refine hG.get dX4_lands_131 fg_X4_21_X4 (Or.inl mdL_m) rfl ?_
      refine hG.bipush (v := 7) dX4_lands_134 rfl ?_
      refine hG.dup2 dX4_lands_136 rfl rfl ?_
      refine hG.nld hA 7 dX4_lands_137 rfl (by decide) (v := R.pd) ((hI.1 7 (by decide) (by decide)).trans hR.k7) ?_
      refine hG.iload_n dX4_lands_138 rfl ?_
      refine hG.iadd dX4_lands_139 ?_
      refine hG.nst hA 7 dX4_lands_140 rfl (by decide) ?_
      refine hG.aload_n dX4_lands_141 rfl ?_
      refine hG.iload_n dX4_lands_142 rfl ?_
      refine hG.callV dX4_lands_143 kv_X4_124 (Rcv.raw mdL_m cl_X4) (sp_X4_does hΓ) rfl rfl (Nat.le_of_ble_eq_true rfl) (by decide) (by omega) (by omega) (fun r143 I143 L143 hI143 h143 => ?_) (fun _ _ _ _ _ h => h.elim)
      obtain ⟨rfl, rfl, rfl⟩ := h143
      refine hG.iret dX4_lands_146 rfl ?_ (by omega) (by omega) trivial
      have ec : coinQ R s (7 * 3) = lcoin (faR R) R.st 0 R.fo + lcoin (faR R) R.st 0 R.af := by
        rw [hst, lcoin_sum hw.fo hs, lcoin_sum hw.af hs]
      rw [ec]
      exact pIs.d (show lndO R = _ from rfl) ((hR.lnd hw hs hst hI rfl).mono (Nat.le_succ N))
    | succ w ih =>
      intro k n hkw hI
      refine hG.iload_n dX4_lands_4 rfl ?_
      refine hG.iconst (v := 3) dX4_lands_5 rfl ?_
      refine hG.icmp_ge (tgt := 130) dX4_lands_6 rfl (fun c_6 => absurd c_6 (nI_ge (a := k) (b := 3) (by omega) (by decide))) (fun c_6 => ?_)
      refine hG.iconst (v := 0) dX4_lands_9 rfl ?_
      refine hG.istore_n dX4_lands_10 (by decide) ?_
      refine hG.lsb [(0, .ref m), (1, .int (coinQ R s (7 * k))), (2, .int (nI k)), (3, .int (nI 0))] ⟨rfl, rfl, rfl, rfl, trivial⟩ (inner k (by omega) (fun n9 hI9 => ?_) 7 0 n (by omega) hI)
      refine hG.iinc dX4_lands_124 rfl (by decide) ?_
      refine hG.goto (tgt := 4) dX4_lands_127 rfl ?_
      refine hG.lsb [(0, .ref m), (1, .int (coinQ R s (7 * (k + 1)))), (2, .int (nI k + Int32.ofInt 1))] ⟨rfl, rfl, rfl, trivial⟩ ?_
      rw [show nI k + Int32.ofInt 1 = nI (k + 1) from nI_add k 1]
      exact ih (k + 1) n9 (by omega) hI9
  refine hG.iconst (v := 0) dX4_lands_0 rfl ?_
  refine hG.istore_n dX4_lands_1 (by decide) ?_
  refine hG.iconst (v := 0) dX4_lands_2 rfl ?_
  refine hG.istore_n dX4_lands_3 (by decide) ?_
  have hI0 : LndI R s 0 V.nw V.nw := ⟨fun _ _ _ => rfl, by rw [hR.k6]; show R.ld = R.ld + 0 + 0; rw [Int32.add_zero, Int32.add_zero], fun c hc => by rw [if_neg (by omega)]; exact hR.fo hc, fun c hc => by rw [if_neg (by omega)]; exact hR.af hc⟩
  have h9 := outer 3 0 V.nw (by omega) hI0
  have e0 : coinQ R s (7 * 0) = 0 := Int32.add_zero 0
  rw [e0] at h9
  exact hG.lsb [(0, .ref m), (1, .int 0), (2, .int (nI 0))] ⟨rfl, rfl, rfl, trivial⟩ h9
