/-! sums over the tallies' places; the model's reading -/
def sumT (t : Tal) (f : Nat → Int32) : Nat → Int32
  | 0 => 0
  | k + 1 => sumT t f k + tof t k * f k
theorem tof_no {c : Nat} : ∀ {t : Tal}, (∀ x ∈ t, x.1 ≠ c) → tof t c = 0
  | [], _ => rfl
  | x :: t, h => by
    show (if x.1 = c then x.2 else tof t c) = 0
    rw [if_neg (h x (by simp))]
    exact tof_no (fun y hy => h y (by simp [hy]))
theorem sumT_cons {x : Nat × Int32} {t : Tal} {f : Nat → Int32} (h : ∀ y ∈ t, y.1 ≠ x.1) : ∀ k, sumT (x :: t) f k = sumT t f k + (if x.1 < k then x.2 * f x.1 else 0)
  | 0 => by
    rw [if_neg (by omega)]
    exact (Int32.add_zero _).symm
  | k + 1 => by
    show sumT (x :: t) f k + (if x.1 = k then x.2 else tof t k) * f k = sumT t f k + tof t k * f k + _
    rw [sumT_cons h k]
    by_cases e : x.1 = k
    · subst e
      rw [if_neg (by omega), if_pos rfl, if_pos (by omega), tof_no h, Int32.zero_mul, Int32.add_zero]
    · rw [if_neg e]
      by_cases e2 : x.1 < k
      · rw [if_pos e2, if_pos (by omega), Int32.add_assoc, Int32.add_assoc, Int32.add_comm (x.2 * f x.1)]
      · rw [if_neg e2, if_neg (by omega), Int32.add_zero, Int32.add_zero]
theorem foldl_acc {α : Type} {g : α → Int32} : ∀ (t : List α) (a : Int32), t.foldl (fun s x => s + g x) a = a + t.foldl (fun s x => s + g x) 0
  | [], a => (Int32.add_zero a).symm
  | x :: t, a => by
    show t.foldl (fun s x => s + g x) (a + g x) = a + t.foldl (fun s x => s + g x) (0 + g x)
    rw [foldl_acc t (a + g x), foldl_acc t (0 + g x), Int32.zero_add, Int32.add_assoc]
theorem sumT_all {f : Nat → Int32} : ∀ {t : Tal}, (t.map (·.1)).Nodup → (∀ x ∈ t, x.1 < 147) → sumT t f 147 = t.foldl (fun s x => s + x.2 * f x.1) 0
  | [], _, _ => by
    have h : ∀ k, sumT [] f k = 0 := by
      intro k
      induction k with
      | zero => rfl
      | succ k ih =>
        show sumT [] f k + 0 * f k = 0
        rw [ih, Int32.zero_mul]
        rfl
    exact h 147
  | x :: t, hn, hl => by
    rw [List.map_cons, List.nodup_cons] at hn
    have h1 : ∀ y ∈ t, y.1 ≠ x.1 := fun y hy e => hn.1 (List.mem_map.mpr ⟨y, hy, e⟩)
    rw [sumT_cons h1, if_pos (hl x (by simp)), sumT_all hn.2 (fun y hy => hl y (by simp [hy]))]
    show _ = t.foldl (fun s x => s + x.2 * f x.1) (0 + x.2 * f x.1)
    rw [foldl_acc t (0 + x.2 * f x.1), Int32.zero_add, Int32.add_comm]
theorem sumT_w {m : Nat} {t : Tal} (h : TOk m t) : sumT t wgt 147 = tsum true t := sumT_all h.1 (fun x hx => (h.2 x hx).1)
theorem sumT_1 {m : Nat} {t : Tal} (h : TOk m t) : sumT t (fun _ => 1) 147 = tsum false t := sumT_all h.1 (fun x hx => (h.2 x hx).1)
theorem kv_X4_111 : LkV RX4 111 yX4_holds 1 := ⟨q3398, q3400, qs43, q87, by decide +kernel, by decide +kernel, by decide +kernel⟩
set_option maxHeartbeats 4000000 in
set_option maxRecDepth 100000 in
theorem sp_X4_leastDrag {l : Launch} {s0 : State} {D : va_G} {I : AI} {L : AL} {m : Nat} {A : MA} {V : MV} {N : Nat} {R : Rv} (hΓ : Gam l s0 D) (hA : MOk m A) (hR : Rep N R V.nw) (hw : Wf N R) {c : Int32} : Spc l s0 D yX4_leastDrag 3 [.ref m, .int c] I (mdL L m A V) 0 0 (pV (.int (leastD R.an c)) I (mdL L m A V)) noX := by
  refine Spc.of hΓ cX4_leastDrag 5 (some FieldType.int) q3405 (by decide +kernel) (by decide) (Nat.le_of_ble_eq_true rfl) (fun G GX hG => ?_)
  have loop : ∀ (w i : Nat) (acc : Int32), i + w = R.an.length → acc = leastD (R.an.take i) c → (acc = -1 ∨ 0 ≤ acc) → G 4 [(0, .ref m), (1, .int c), (2, .int acc), (3, .int (nI i))] [] I (mdL L m A V) 0 0 := by
    intro w
    induction w with
    | zero =>
      intro i acc hiw hacc hs
      refine hG.iload_n dX4_leastDrag_4 rfl ?_
      refine hG.aload_n dX4_leastDrag_5 rfl ?_
      refine hG.get dX4_leastDrag_6 fg_X4_21_X4 (Or.inl mdL_m) rfl ?_
      refine hG.iconst (v := 2) dX4_leastDrag_9 rfl ?_
      refine hG.nld hA (2) dX4_leastDrag_10 rfl (by decide) hR.k2 ?_
      refine hG.icmp_ge (tgt := 74) dX4_leastDrag_11 rfl (fun c_11 => ?_) (fun c_11 => absurd (nI_le (by omega) (by have := hw.an6; omega)) c_11)
      refine hG.iload_n dX4_leastDrag_74 rfl ?_
      refine hG.iret dX4_leastDrag_75 rfl ?_ (by omega) (by omega) trivial
      rw [hacc, show R.an.take i = R.an by rw [show i = R.an.length by omega]; exact List.take_length]
      exact ⟨rfl, rfl, rfl⟩
    | succ w ih =>
      intro i acc hiw hacc hs
      obtain ⟨a, ha, ham⟩ := get_lt (show i < R.an.length by omega)
      obtain ⟨o1, o2, o3, o4⟩ := hw.as a ham
      have hi6 := hw.an6
      have hs9 : acc < 0 ↔ acc = -1 := ⟨fun q => hs.elim id (fun z => absurd z (lt_not.mp q)), fun q => by rw [q]; decide⟩
      refine hG.iload_n dX4_leastDrag_4 rfl ?_
      refine hG.aload_n dX4_leastDrag_5 rfl ?_
      refine hG.get dX4_leastDrag_6 fg_X4_21_X4 (Or.inl mdL_m) rfl ?_
      refine hG.iconst (v := 2) dX4_leastDrag_9 rfl ?_
      refine hG.nld hA (2) dX4_leastDrag_10 rfl (by decide) hR.k2 ?_
      refine hG.icmp_ge (tgt := 74) dX4_leastDrag_11 rfl (fun c_11 => absurd c_11 (nI_ge (by omega) (by have := hw.an6; omega))) (fun c_11 => ?_)
      refine hG.bipush (v := 46) dX4_leastDrag_14 rfl ?_
      refine hG.iconst (v := 3) dX4_leastDrag_16 rfl ?_
      refine hG.iload_n dX4_leastDrag_17 rfl ?_
      refine hG.imul dX4_leastDrag_18 ?_
      refine hG.iadd dX4_leastDrag_19 ?_
      refine hG.istore dX4_leastDrag_20 (by decide) ?_
      refine hG.aload_n dX4_leastDrag_22 rfl ?_
      refine hG.get dX4_leastDrag_23 fg_X4_21_X4 (Or.inl mdL_m) rfl ?_
      refine hG.iload dX4_leastDrag_26 rfl ?_
      refine hG.nld hA (46 + 3 * i) dX4_leastDrag_28 (ix3 46 i) (by omega) (hR.a ha).1 ?_
      refine hG.iload_n dX4_leastDrag_29 rfl ?_
      refine hG.icmp_ne (tgt := 68) dX4_leastDrag_30 rfl (fun c_30 => ?_) (fun c_30 => ?_)
      · refine hG.iinc dX4_leastDrag_68 rfl (by decide) ?_
        refine hG.goto (tgt := 4) dX4_leastDrag_71 rfl ?_
        refine hG.lsb [(0, .ref m), (1, .int c), (2, .int acc), (3, .int (nI i + Int32.ofInt 1))] ⟨rfl, rfl, rfl, rfl, trivial⟩ ?_
        rw [show nI i + Int32.ofInt 1 = nI (i + 1) from nI_add i 1]
        refine ih (i + 1) _ (by omega) ?_ hs
        show _ = (R.an.take (i + 1)).foldl (ldStep c) (-1)
        rw [foldl_take ha]
        show _ = ldStep c (leastD (R.an.take i) c) a
        rw [← hacc]
        unfold ldStep
        exact (if_neg (fun q => c_30 q.1)).symm
      · refine hG.aload_n dX4_leastDrag_33 rfl ?_
        refine hG.iload_n dX4_leastDrag_34 rfl ?_
        refine hG.callV dX4_leastDrag_35 kv_X4_111 (Rcv.raw mdL_m cl_X4) (sp_X4_holds hΓ hA hR hw ha) rfl rfl (Nat.le_of_ble_eq_true rfl) (by decide) (by omega) (by omega) (fun r35 I35 L35 hI35 h35 => ?_) (fun _ _ _ _ _ h => h.elim)
        obtain ⟨rfl, rfl, rfl⟩ := h35
        refine hG.if_eq (tgt := 68) dX4_leastDrag_38 rfl (fun c_38 => ?_) (fun c_38 => ?_)
        · refine hG.iinc dX4_leastDrag_68 rfl (by decide) ?_
          refine hG.goto (tgt := 4) dX4_leastDrag_71 rfl ?_
          refine hG.lsb [(0, .ref m), (1, .int c), (2, .int acc), (3, .int (nI i + Int32.ofInt 1))] ⟨rfl, rfl, rfl, rfl, trivial⟩ ?_
          rw [show nI i + Int32.ofInt 1 = nI (i + 1) from nI_add i 1]
          refine ih (i + 1) _ (by omega) ?_ hs
          show _ = (R.an.take (i + 1)).foldl (ldStep c) (-1)
          rw [foldl_take ha]
          show _ = ldStep c (leastD (R.an.take i) c) a
          rw [← hacc]
          unfold ldStep
          exact (if_neg (fun q => bFT (b2i_0 c_38) q.2.1)).symm
        · refine hG.iload_n dX4_leastDrag_41 rfl ?_
          refine hG.if_lt (tgt := 58) dX4_leastDrag_42 rfl (fun c_42 => ?_) (fun c_42 => ?_)
          · refine hG.aload_n dX4_leastDrag_58 rfl ?_
            refine hG.get dX4_leastDrag_59 fg_X4_21_X4 (Or.inl mdL_m) rfl ?_
            refine hG.iload dX4_leastDrag_62 rfl ?_
            refine hG.iconst (v := 2) dX4_leastDrag_64 rfl ?_
            refine hG.iadd dX4_leastDrag_65 ?_
            refine hG.nld hA (46 + 3 * i + 2) dX4_leastDrag_66 (by rw [show (46 : Int32) + 3 * nI i = nI (46 + 3 * i) from ix3 46 i]; exact ix1 _ 2) (by omega) (hR.a ha).2.2 ?_
            refine hG.istore_n dX4_leastDrag_67 (by decide) ?_
            refine hG.iinc dX4_leastDrag_68 rfl (by decide) ?_
            refine hG.goto (tgt := 4) dX4_leastDrag_71 rfl ?_
            refine hG.lsb [(0, .ref m), (1, .int c), (2, .int a.2.2), (3, .int (nI i + Int32.ofInt 1))] ⟨rfl, rfl, rfl, rfl, trivial⟩ ?_
            rw [show nI i + Int32.ofInt 1 = nI (i + 1) from nI_add i 1]
            refine ih (i + 1) _ (by omega) ?_ (Or.inr o3)
            show _ = (R.an.take (i + 1)).foldl (ldStep c) (-1)
            rw [foldl_take ha]
            show _ = ldStep c (leastD (R.an.take i) c) a
            rw [← hacc]
            unfold ldStep
            exact (if_pos ⟨c_30, b2i_1 c_38, Or.inl (hs9.mp c_42)⟩).symm
          · refine hG.aload_n dX4_leastDrag_45 rfl ?_
            refine hG.get dX4_leastDrag_46 fg_X4_21_X4 (Or.inl mdL_m) rfl ?_
            refine hG.iload dX4_leastDrag_49 rfl ?_
            refine hG.iconst (v := 2) dX4_leastDrag_51 rfl ?_
            refine hG.iadd dX4_leastDrag_52 ?_
            refine hG.nld hA (46 + 3 * i + 2) dX4_leastDrag_53 (by rw [show (46 : Int32) + 3 * nI i = nI (46 + 3 * i) from ix3 46 i]; exact ix1 _ 2) (by omega) (hR.a ha).2.2 ?_
            refine hG.iload_n dX4_leastDrag_54 rfl ?_
            refine hG.icmp_ge (tgt := 68) dX4_leastDrag_55 rfl (fun c_55 => ?_) (fun c_55 => ?_)
            · refine hG.iinc dX4_leastDrag_68 rfl (by decide) ?_
              refine hG.goto (tgt := 4) dX4_leastDrag_71 rfl ?_
              refine hG.lsb [(0, .ref m), (1, .int c), (2, .int acc), (3, .int (nI i + Int32.ofInt 1))] ⟨rfl, rfl, rfl, rfl, trivial⟩ ?_
              rw [show nI i + Int32.ofInt 1 = nI (i + 1) from nI_add i 1]
              refine ih (i + 1) _ (by omega) ?_ hs
              show _ = (R.an.take (i + 1)).foldl (ldStep c) (-1)
              rw [foldl_take ha]
              show _ = ldStep c (leastD (R.an.take i) c) a
              rw [← hacc]
              unfold ldStep
              exact (if_neg (fun q => q.2.2.elim (fun z => c_42 (hs9.mpr z)) (fun z => lt_not.mp z c_55))).symm
            · refine hG.aload_n dX4_leastDrag_58 rfl ?_
              refine hG.get dX4_leastDrag_59 fg_X4_21_X4 (Or.inl mdL_m) rfl ?_
              refine hG.iload dX4_leastDrag_62 rfl ?_
              refine hG.iconst (v := 2) dX4_leastDrag_64 rfl ?_
              refine hG.iadd dX4_leastDrag_65 ?_
              refine hG.nld hA (46 + 3 * i + 2) dX4_leastDrag_66 (by rw [show (46 : Int32) + 3 * nI i = nI (46 + 3 * i) from ix3 46 i]; exact ix1 _ 2) (by omega) (hR.a ha).2.2 ?_
              refine hG.istore_n dX4_leastDrag_67 (by decide) ?_
              refine hG.iinc dX4_leastDrag_68 rfl (by decide) ?_
              refine hG.goto (tgt := 4) dX4_leastDrag_71 rfl ?_
              refine hG.lsb [(0, .ref m), (1, .int c), (2, .int a.2.2), (3, .int (nI i + Int32.ofInt 1))] ⟨rfl, rfl, rfl, rfl, trivial⟩ ?_
              rw [show nI i + Int32.ofInt 1 = nI (i + 1) from nI_add i 1]
              refine ih (i + 1) _ (by omega) ?_ (Or.inr o3)
              show _ = (R.an.take (i + 1)).foldl (ldStep c) (-1)
              rw [foldl_take ha]
              show _ = ldStep c (leastD (R.an.take i) c) a
              rw [← hacc]
              unfold ldStep
              exact (if_pos ⟨c_30, b2i_1 c_38, Or.inr (lt_not.mpr c_55)⟩).symm
  refine hG.iconst (v := -1) dX4_leastDrag_0 rfl ?_
  refine hG.istore_n dX4_leastDrag_1 (by decide) ?_
  refine hG.iconst (v := 0) dX4_leastDrag_2 rfl ?_
  refine hG.istore_n dX4_leastDrag_3 (by decide) ?_
  exact hG.lsb [(0, .ref m), (1, .int c), (2, .int (-1)), (3, .int (nI 0))] ⟨rfl, rfl, rfl, rfl, trivial⟩ (loop R.an.length 0 _ (by omega) rfl (Or.inl rfl))
set_option maxHeartbeats 4000000 in
set_option maxRecDepth 100000 in
theorem sp_X4_anchorsIn {l : Launch} {s0 : State} {D : va_G} {I : AI} {L : AL} {m : Nat} {A : MA} {V : MV} {N : Nat} {R : Rv} (hΓ : Gam l s0 D) (hA : MOk m A) (hR : Rep N R V.nw) (hw : Wf N R) {c : Int32} {hd : Bool} : Spc l s0 D yX4_anchorsIn 3 [.ref m, .int c, .int (b2i hd)] I (mdL L m A V) 0 0 (pV (.int (inChan R.an c hd)) I (mdL L m A V)) noX := by
  refine Spc.of hΓ cX4_anchorsIn 5 (some FieldType.int) q3397 (by decide +kernel) (by decide) (Nat.le_of_ble_eq_true rfl) (fun G GX hG => ?_)
  have loop : ∀ (w i : Nat) (acc : Int32), i + w = R.an.length → acc = inChan (R.an.take i) c hd → G 5 [(0, .ref m), (1, .int c), (2, .int (b2i hd)), (3, .int acc), (4, .int (nI i))] [] I (mdL L m A V) 0 0 := by
    intro w
    induction w with
    | zero =>
      intro i acc hiw hacc
      refine hG.iload dX4_anchorsIn_5 rfl ?_
      refine hG.aload_n dX4_anchorsIn_7 rfl ?_
      refine hG.get dX4_anchorsIn_8 fg_X4_21_X4 (Or.inl mdL_m) rfl ?_
      refine hG.iconst (v := 2) dX4_anchorsIn_11 rfl ?_
      refine hG.nld hA (2) dX4_anchorsIn_12 rfl (by decide) hR.k2 ?_
      refine hG.icmp_ge (tgt := 54) dX4_anchorsIn_13 rfl (fun c_13 => ?_) (fun c_13 => absurd (nI_le (by omega) (by have := hw.an6; omega)) c_13)
      refine hG.iload_n dX4_anchorsIn_54 rfl ?_
      refine hG.iret dX4_anchorsIn_55 rfl ?_ (by omega) (by omega) trivial
      rw [hacc, show R.an.take i = R.an by rw [show i = R.an.length by omega]; exact List.take_length]
      exact ⟨rfl, rfl, rfl⟩
    | succ w ih =>
      intro i acc hiw hacc
      obtain ⟨a, ha, ham⟩ := get_lt (show i < R.an.length by omega)
      have hi6 := hw.an6
      refine hG.iload dX4_anchorsIn_5 rfl ?_
      refine hG.aload_n dX4_anchorsIn_7 rfl ?_
      refine hG.get dX4_anchorsIn_8 fg_X4_21_X4 (Or.inl mdL_m) rfl ?_
      refine hG.iconst (v := 2) dX4_anchorsIn_11 rfl ?_
      refine hG.nld hA (2) dX4_anchorsIn_12 rfl (by decide) hR.k2 ?_
      refine hG.icmp_ge (tgt := 54) dX4_anchorsIn_13 rfl (fun c_13 => absurd c_13 (nI_ge (by omega) (by have := hw.an6; omega))) (fun c_13 => ?_)
      refine hG.aload_n dX4_anchorsIn_16 rfl ?_
      refine hG.get dX4_anchorsIn_17 fg_X4_21_X4 (Or.inl mdL_m) rfl ?_
      refine hG.bipush (v := 46) dX4_anchorsIn_20 rfl ?_
      refine hG.iconst (v := 3) dX4_anchorsIn_22 rfl ?_
      refine hG.iload dX4_anchorsIn_23 rfl ?_
      refine hG.imul dX4_anchorsIn_25 ?_
      refine hG.iadd dX4_anchorsIn_26 ?_
      refine hG.nld hA (46 + 3 * i) dX4_anchorsIn_27 (ix3 46 i) (by omega) (hR.a ha).1 ?_
      refine hG.iload_n dX4_anchorsIn_28 rfl ?_
      refine hG.icmp_ne (tgt := 48) dX4_anchorsIn_29 rfl (fun c_29 => ?_) (fun c_29 => ?_)
      · refine hG.iinc dX4_anchorsIn_48 rfl (by decide) ?_
        refine hG.goto (tgt := 5) dX4_anchorsIn_51 rfl ?_
        refine hG.lsb [(0, .ref m), (1, .int c), (2, .int (b2i hd)), (3, .int acc), (4, .int (nI i + Int32.ofInt 1))] ⟨rfl, rfl, rfl, rfl, rfl, trivial⟩ ?_
        rw [show nI i + Int32.ofInt 1 = nI (i + 1) from nI_add i 1]
        refine ih (i + 1) _ (by omega) ?_
        unfold inChan
        rw [foldl_take ha]
        show _ = inChan (R.an.take i) c hd + (if a.1 = c ∧ (hd = false ∨ holdsA a = true) then 1 else 0)
        rw [← hacc]
        rw [if_neg (fun q => c_29 q.1), Int32.add_zero]
      · refine hG.iload_n dX4_anchorsIn_32 rfl ?_
        refine hG.if_eq (tgt := 45) dX4_anchorsIn_33 rfl (fun c_33 => ?_) (fun c_33 => ?_)
        · refine hG.iinc dX4_anchorsIn_45 rfl (by decide) ?_
          refine hG.iinc dX4_anchorsIn_48 rfl (by decide) ?_
          refine hG.goto (tgt := 5) dX4_anchorsIn_51 rfl ?_
          refine hG.lsb [(0, .ref m), (1, .int c), (2, .int (b2i hd)), (3, .int (acc + Int32.ofInt 1)), (4, .int (nI i + Int32.ofInt 1))] ⟨rfl, rfl, rfl, rfl, rfl, trivial⟩ ?_
          rw [show nI i + Int32.ofInt 1 = nI (i + 1) from nI_add i 1]
          refine ih (i + 1) _ (by omega) ?_
          unfold inChan
          rw [foldl_take ha]
          show _ = inChan (R.an.take i) c hd + (if a.1 = c ∧ (hd = false ∨ holdsA a = true) then 1 else 0)
          rw [← hacc]
          rw [if_pos ⟨c_29, Or.inl (b2i_0 c_33)⟩]; rfl
        · refine hG.aload_n dX4_anchorsIn_36 rfl ?_
          refine hG.iload dX4_anchorsIn_37 rfl ?_
          refine hG.callV dX4_anchorsIn_39 kv_X4_111 (Rcv.raw mdL_m cl_X4) (sp_X4_holds hΓ hA hR hw ha) rfl rfl (Nat.le_of_ble_eq_true rfl) (by decide) (by omega) (by omega) (fun r39 I39 L39 hI39 h39 => ?_) (fun _ _ _ _ _ h => h.elim)
          obtain ⟨rfl, rfl, rfl⟩ := h39
          refine hG.if_eq (tgt := 48) dX4_anchorsIn_42 rfl (fun c_42 => ?_) (fun c_42 => ?_)
          · refine hG.iinc dX4_anchorsIn_48 rfl (by decide) ?_
            refine hG.goto (tgt := 5) dX4_anchorsIn_51 rfl ?_
            refine hG.lsb [(0, .ref m), (1, .int c), (2, .int (b2i hd)), (3, .int acc), (4, .int (nI i + Int32.ofInt 1))] ⟨rfl, rfl, rfl, rfl, rfl, trivial⟩ ?_
            rw [show nI i + Int32.ofInt 1 = nI (i + 1) from nI_add i 1]
            refine ih (i + 1) _ (by omega) ?_
            unfold inChan
            rw [foldl_take ha]
            show _ = inChan (R.an.take i) c hd + (if a.1 = c ∧ (hd = false ∨ holdsA a = true) then 1 else 0)
            rw [← hacc]
            rw [if_neg (fun q => q.2.elim (fun z => bFT z (b2i_1 c_33)) (fun z => bFT (b2i_0 c_42) z)), Int32.add_zero]
          · refine hG.iinc dX4_anchorsIn_45 rfl (by decide) ?_
            refine hG.iinc dX4_anchorsIn_48 rfl (by decide) ?_
            refine hG.goto (tgt := 5) dX4_anchorsIn_51 rfl ?_
            refine hG.lsb [(0, .ref m), (1, .int c), (2, .int (b2i hd)), (3, .int (acc + Int32.ofInt 1)), (4, .int (nI i + Int32.ofInt 1))] ⟨rfl, rfl, rfl, rfl, rfl, trivial⟩ ?_
            rw [show nI i + Int32.ofInt 1 = nI (i + 1) from nI_add i 1]
            refine ih (i + 1) _ (by omega) ?_
            unfold inChan
            rw [foldl_take ha]
            show _ = inChan (R.an.take i) c hd + (if a.1 = c ∧ (hd = false ∨ holdsA a = true) then 1 else 0)
            rw [← hacc]
            rw [if_pos ⟨c_29, Or.inr (b2i_1 c_42)⟩]; rfl
  refine hG.iconst (v := 0) dX4_anchorsIn_0 rfl ?_
  refine hG.istore_n dX4_anchorsIn_1 (by decide) ?_
  refine hG.iconst (v := 0) dX4_anchorsIn_2 rfl ?_
  refine hG.istore dX4_anchorsIn_3 (by decide) ?_
  exact hG.lsb [(0, .ref m), (1, .int c), (2, .int (b2i hd)), (3, .int 0), (4, .int (nI 0))] ⟨rfl, rfl, rfl, rfl, rfl, trivial⟩ (loop R.an.length 0 _ (by omega) rfl)
theorem ks_X4_136 : LkS RX4 136 yX4_weighs 1 := ⟨q3458, q3459, q87, by decide +kernel, by decide +kernel, by decide +kernel⟩
set_option maxHeartbeats 4000000 in
set_option maxRecDepth 100000 in
theorem sp_X4_weightOf {l : Launch} {s0 : State} {D : va_G} {I : AI} {L : AL} {m : Nat} {A : MA} {V : MV} (hΓ : Gam l s0 D) (hA : MOk m A) {row : Nat} {t : Tal} {k0 : Nat} (hr : row + 147 ≤ 652) (ht : ∀ c, c < 147 → V.nw (row + c) = tof t c) (hk : TOk k0 t) : Spc l s0 D yX4_weightOf 2 [.ref m, .int (nI row)] I (mdL L m A V) 0 0 (pV (.int (tsum true t)) I (mdL L m A V)) noX := by
  refine Spc.of hΓ cX4_weightOf 4 (some FieldType.int) q3457 (by decide +kernel) (by decide) (Nat.le_of_ble_eq_true rfl) (fun G GX hG => ?_)
  have loop : ∀ (w i : Nat) (acc : Int32), i + w = 147 → acc = sumT t wgt i → G 4 [(0, .ref m), (1, .int (nI row)), (2, .int acc), (3, .int (nI i))] [] I (mdL L m A V) 0 0 := by
    intro w
    induction w with
    | zero =>
      intro i acc hiw hacc
      have hie : i = 147 := by omega
      subst hie
      refine hG.iload_n dX4_weightOf_4 rfl ?_
      refine hG.sipush (v := 147) dX4_weightOf_5 rfl ?_
      refine hG.icmp_ge (tgt := 36) dX4_weightOf_8 rfl (fun c_8 => ?_) (fun c_8 => absurd (by decide) c_8)
      refine hG.iload_n dX4_weightOf_36 rfl ?_
      refine hG.iret dX4_weightOf_37 rfl ?_ (by omega) (by omega) trivial
      rw [hacc, sumT_w hk]
      exact ⟨rfl, rfl, rfl⟩
    | succ w ih =>
      intro i acc hiw hacc
      refine hG.iload_n dX4_weightOf_4 rfl ?_
      refine hG.sipush (v := 147) dX4_weightOf_5 rfl ?_
      refine hG.icmp_ge (tgt := 36) dX4_weightOf_8 rfl (fun c_8 => absurd c_8 (nI_ge (a := i) (b := 147) (by omega) (by decide))) (fun c_8 => ?_)
      refine hG.iload_n dX4_weightOf_11 rfl ?_
      refine hG.aload_n dX4_weightOf_12 rfl ?_
      refine hG.get dX4_weightOf_13 fg_X4_21_X4 (Or.inl mdL_m) rfl ?_
      refine hG.iload_n dX4_weightOf_16 rfl ?_
      refine hG.iload_n dX4_weightOf_17 rfl ?_
      refine hG.iadd dX4_weightOf_18 ?_
      refine hG.nld hA (row + i) dX4_weightOf_19 (ix1 row i) (by omega) (ht i (by omega)) ?_
      refine hG.iload_n dX4_weightOf_20 rfl ?_
      refine hG.bipush (v := 49) dX4_weightOf_21 rfl ?_
      refine hG.idiv dX4_weightOf_23 (by decide) ?_
      rw [show nI i / 49 = nI (i / 49) from pk_div (by omega) (by decide) (by decide)]
      refine hG.callS dX4_weightOf_24 ks_X4_136 (sp_X4_weighs hΓ) rfl rfl (Nat.le_of_ble_eq_true rfl) (by decide) (by omega) (by omega) (fun r24 I24 L24 hI24 h24 => ?_) (fun _ _ _ _ _ h => h.elim)
      obtain ⟨rfl, rfl, rfl⟩ := h24
      refine hG.imul dX4_weightOf_27 ?_
      refine hG.iadd dX4_weightOf_28 ?_
      refine hG.istore_n dX4_weightOf_29 (by decide) ?_
      refine hG.iinc dX4_weightOf_30 rfl (by decide) ?_
      refine hG.goto (tgt := 4) dX4_weightOf_33 rfl ?_
      refine hG.lsb [(0, .ref m), (1, .int (nI row)), (2, .int (acc + tof t i * wgt i)), (3, .int (nI i + Int32.ofInt 1))] ⟨rfl, rfl, rfl, rfl, trivial⟩ ?_
      rw [show nI i + Int32.ofInt 1 = nI (i + 1) from nI_add i 1]
      refine ih (i + 1) _ (by omega) ?_
      rw [hacc]
      rfl
  refine hG.iconst (v := 0) dX4_weightOf_0 rfl ?_
  refine hG.istore_n dX4_weightOf_1 (by decide) ?_
  refine hG.iconst (v := 0) dX4_weightOf_2 rfl ?_
  refine hG.istore_n dX4_weightOf_3 (by decide) ?_
  exact hG.lsb [(0, .ref m), (1, .int (nI row)), (2, .int 0), (3, .int (nI 0))] ⟨rfl, rfl, rfl, rfl, trivial⟩ (loop 147 0 _ (by omega) rfl)
set_option maxHeartbeats 4000000 in
set_option maxRecDepth 100000 in
theorem sp_X4_all {l : Launch} {s0 : State} {D : va_G} {I : AI} {L : AL} {m : Nat} {A : MA} {V : MV} (hΓ : Gam l s0 D) (hA : MOk m A) {row : Nat} {t : Tal} {k0 : Nat} (hr : row + 147 ≤ 652) (ht : ∀ c, c < 147 → V.nw (row + c) = tof t c) (hk : TOk k0 t) : Spc l s0 D yX4_all 2 [.ref m, .int (nI row)] I (mdL L m A V) 0 0 (pV (.int (tsum false t)) I (mdL L m A V)) noX := by
  refine Spc.of hΓ cX4_all 4 (some FieldType.int) q3583 (by decide +kernel) (by decide) (Nat.le_of_ble_eq_true rfl) (fun G GX hG => ?_)
  have loop : ∀ (w i : Nat) (acc : Int32), i + w = 147 → acc = sumT t (fun _ => 1) i → G 4 [(0, .ref m), (1, .int (nI row)), (2, .int acc), (3, .int (nI i))] [] I (mdL L m A V) 0 0 := by
    intro w
    induction w with
    | zero =>
      intro i acc hiw hacc
      have hie : i = 147 := by omega
      subst hie
      refine hG.iload_n dX4_all_4 rfl ?_
      refine hG.sipush (v := 147) dX4_all_5 rfl ?_
      refine hG.icmp_ge (tgt := 28) dX4_all_8 rfl (fun c_8 => ?_) (fun c_8 => absurd (by decide) c_8)
      refine hG.iload_n dX4_all_28 rfl ?_
      refine hG.iret dX4_all_29 rfl ?_ (by omega) (by omega) trivial
      rw [hacc, sumT_1 hk]
      exact ⟨rfl, rfl, rfl⟩
    | succ w ih =>
      intro i acc hiw hacc
      refine hG.iload_n dX4_all_4 rfl ?_
      refine hG.sipush (v := 147) dX4_all_5 rfl ?_
      refine hG.icmp_ge (tgt := 28) dX4_all_8 rfl (fun c_8 => absurd c_8 (nI_ge (a := i) (b := 147) (by omega) (by decide))) (fun c_8 => ?_)
      refine hG.iload_n dX4_all_11 rfl ?_
      refine hG.aload_n dX4_all_12 rfl ?_
      refine hG.get dX4_all_13 fg_X4_21_X4 (Or.inl mdL_m) rfl ?_
      refine hG.iload_n dX4_all_16 rfl ?_
      refine hG.iload_n dX4_all_17 rfl ?_
      refine hG.iadd dX4_all_18 ?_
      refine hG.nld hA (row + i) dX4_all_19 (ix1 row i) (by omega) (ht i (by omega)) ?_
      refine hG.iadd dX4_all_20 ?_
      refine hG.istore_n dX4_all_21 (by decide) ?_
      refine hG.iinc dX4_all_22 rfl (by decide) ?_
      refine hG.goto (tgt := 4) dX4_all_25 rfl ?_
      refine hG.lsb [(0, .ref m), (1, .int (nI row)), (2, .int (acc + tof t i)), (3, .int (nI i + Int32.ofInt 1))] ⟨rfl, rfl, rfl, rfl, trivial⟩ ?_
      rw [show nI i + Int32.ofInt 1 = nI (i + 1) from nI_add i 1]
      refine ih (i + 1) _ (by omega) ?_
      rw [hacc]
      show _ = sumT t (fun _ => 1) i + tof t i * 1
      rw [Int32.mul_one]
  refine hG.iconst (v := 0) dX4_all_0 rfl ?_
  refine hG.istore_n dX4_all_1 (by decide) ?_
  refine hG.iconst (v := 0) dX4_all_2 rfl ?_
  refine hG.istore_n dX4_all_3 (by decide) ?_
  exact hG.lsb [(0, .ref m), (1, .int (nI row)), (2, .int 0), (3, .int (nI 0))] ⟨rfl, rfl, rfl, rfl, trivial⟩ (loop 147 0 _ (by omega) rfl)
theorem kv_X4_139 : LkV RX4 139 yX4_weightOf 1 := ⟨q3454, q3456, qs52, q87, by decide +kernel, by decide +kernel, by decide +kernel⟩
set_option maxHeartbeats 4000000 in
set_option maxRecDepth 100000 in
theorem sp_X4_aboard {l : Launch} {s0 : State} {D : va_G} {I : AI} {L : AL} {m : Nat} {A : MA} {V : MV} {N : Nat} {R : Rv} (hΓ : Gam l s0 D) (hA : MOk m A) (hR : Rep N R V.nw) (hw : Wf N R)  : Spc l s0 D yX4_aboard 3 [.ref m] I (mdL L m A V) 0 0 (pV (.int (ldR R)) I (mdL L m A V)) noX := by
  refine Spc.of hΓ cX4_aboard 1 (some FieldType.int) q3453 (by decide +kernel) (by decide) (Nat.le_of_ble_eq_true rfl) (fun G GX hG => ?_)
  refine hG.aload_n dX4_aboard_0 rfl ?_
  refine hG.sipush (v := 358) dX4_aboard_1 rfl ?_
  refine hG.callV dX4_aboard_4 kv_X4_139 (Rcv.raw mdL_m cl_X4) (sp_X4_weightOf (row := 358) hΓ hA (by decide) (fun c hc => hR.fo hc) hw.fo) rfl rfl (Nat.le_of_ble_eq_true rfl) (by decide) (by omega) (by omega) (fun r4 I4 L4 hI4 h4 => ?_) (fun _ _ _ _ _ h => h.elim)
  obtain ⟨rfl, rfl, rfl⟩ := h4
  refine hG.aload_n dX4_aboard_7 rfl ?_
  refine hG.sipush (v := 505) dX4_aboard_8 rfl ?_
  refine hG.callV dX4_aboard_11 kv_X4_139 (Rcv.raw mdL_m cl_X4) (sp_X4_weightOf (row := 505) hΓ hA (by decide) (fun c hc => hR.af hc) hw.af) rfl rfl (Nat.le_of_ble_eq_true rfl) (by decide) (by omega) (by omega) (fun r11 I11 L11 hI11 h11 => ?_) (fun _ _ _ _ _ h => h.elim)
  obtain ⟨rfl, rfl, rfl⟩ := h11
  refine hG.iadd dX4_aboard_14 ?_
  refine hG.iret dX4_aboard_15 rfl ?_ (by omega) (by omega) trivial
  exact ⟨rfl, rfl, rfl⟩
set_option maxHeartbeats 4000000 in
set_option maxRecDepth 100000 in
theorem sp_X4_holdOf {l : Launch} {s0 : State} {D : va_G} {I : AI} {L : AL} {m : Nat} {A : MA} {V : MV} {N : Nat} {R : Rv} (hΓ : Gam l s0 D) (hA : MOk m A) (hR : Rep N R V.nw) (hw : Wf N R) {i j : Nat} {a c0 : T3} (ha : R.an[i]? = some a) (haj : a.1 = nI j) (hj : R.ch[j]? = some c0) : Spc l s0 D yX4_holdOf 1 [.ref m, .int (nI i)] I (mdL L m A V) 0 0 (pV (.int (holdV a c0)) I (mdL L m A V)) noX := by
  refine Spc.of hΓ cX4_holdOf 2 (some FieldType.int) q3445 (by decide +kernel) (by decide) (Nat.le_of_ble_eq_true rfl) (fun G GX hG => ?_)
  have hil : i < R.an.length := (List.getElem?_eq_some_iff.mp ha).1
  have hi6 := hw.an6
  have hjl : j < R.ch.length := (List.getElem?_eq_some_iff.mp hj).1
  have hj6 := hw.ch6
  refine hG.iconst (v := 2) dX4_holdOf_0 rfl ?_
  refine hG.aload_n dX4_holdOf_1 rfl ?_
  refine hG.get dX4_holdOf_2 fg_X4_21_X4 (Or.inl mdL_m) rfl ?_
  refine hG.bipush (v := 13) dX4_holdOf_5 rfl ?_
  refine hG.iconst (v := 3) dX4_holdOf_7 rfl ?_
  refine hG.aload_n dX4_holdOf_8 rfl ?_
  refine hG.get dX4_holdOf_9 fg_X4_21_X4 (Or.inl mdL_m) rfl ?_
  refine hG.bipush (v := 46) dX4_holdOf_12 rfl ?_
  refine hG.iconst (v := 3) dX4_holdOf_14 rfl ?_
  refine hG.iload_n dX4_holdOf_15 rfl ?_
  refine hG.imul dX4_holdOf_16 ?_
  refine hG.iadd dX4_holdOf_17 ?_
  refine hG.nld hA (46 + 3 * i) dX4_holdOf_18 (ix3 46 i) (by omega) ((hR.a ha).1.trans haj) ?_
  refine hG.imul dX4_holdOf_19 ?_
  refine hG.iadd dX4_holdOf_20 ?_
  refine hG.iconst (v := 2) dX4_holdOf_21 rfl ?_
  refine hG.iadd dX4_holdOf_22 ?_
  refine hG.nld hA (13 + 3 * j + 2) dX4_holdOf_23 (ix_b 13 j 2) (by omega) (hR.c hj).2.2 ?_
  refine hG.imul dX4_holdOf_24 ?_
  refine hG.aload_n dX4_holdOf_25 rfl ?_
  refine hG.get dX4_holdOf_26 fg_X4_21_X4 (Or.inl mdL_m) rfl ?_
  refine hG.bipush (v := 46) dX4_holdOf_29 rfl ?_
  refine hG.iconst (v := 3) dX4_holdOf_31 rfl ?_
  refine hG.iload_n dX4_holdOf_32 rfl ?_
  refine hG.imul dX4_holdOf_33 ?_
  refine hG.iadd dX4_holdOf_34 ?_
  refine hG.iconst (v := 1) dX4_holdOf_35 rfl ?_
  refine hG.iadd dX4_holdOf_36 ?_
  refine hG.nld hA (46 + 3 * i + 1) dX4_holdOf_37 (ix_b 46 i 1) (by omega) (hR.a ha).2.1 ?_
  refine hG.imul dX4_holdOf_38 ?_
  refine hG.iret dX4_holdOf_39 rfl ?_ (by omega) (by omega) trivial
  exact ⟨rfl, rfl, rfl⟩
theorem kv_X4_114 : LkV RX4 114 yX4_flowAt 2 := ⟨q3389, q3391, qs41, q87, by decide +kernel, by decide +kernel, by decide +kernel⟩
theorem kv_X4_142 : LkV RX4 142 yX4_aboard 0 := ⟨q3450, q3452, qs51, q87, by decide +kernel, by decide +kernel, by decide +kernel⟩
set_option maxHeartbeats 4000000 in
set_option maxRecDepth 100000 in
theorem sp_X4_pullAt {l : Launch} {s0 : State} {D : va_G} {I : AI} {L : AL} {m : Nat} {A : MA} {V : MV} {N : Nat} {R : Rv} (hΓ : Gam l s0 D) (hA : MOk m A) (hR : Rep N R V.nw) (hw : Wf N R) {i j : Nat} {a c0 : T3} (ha : R.an[i]? = some a) (haj : a.1 = nI j) (hj : R.ch[j]? = some c0) {at_ : Int32} : Spc l s0 D yX4_pullAt 4 [.ref m, .int (nI i), .int at_] I (mdL L m A V) 0 0 (pV (.int (pullV R a c0 at_)) I (mdL L m A V)) noX := by
  refine Spc.of hΓ cX4_pullAt 4 (some FieldType.int) q3449 (by decide +kernel) (by decide) (Nat.le_of_ble_eq_true rfl) (fun G GX hG => ?_)
  have hil : i < R.an.length := (List.getElem?_eq_some_iff.mp ha).1
  have hi6 := hw.an6
  have hjl : j < R.ch.length := (List.getElem?_eq_some_iff.mp hj).1
  have hj6 := hw.ch6
  refine hG.aload_n dX4_pullAt_0 rfl ?_
  refine hG.get dX4_pullAt_1 fg_X4_21_X4 (Or.inl mdL_m) rfl ?_
  refine hG.bipush (v := 46) dX4_pullAt_4 rfl ?_
  refine hG.iconst (v := 3) dX4_pullAt_6 rfl ?_
  refine hG.iload_n dX4_pullAt_7 rfl ?_
  refine hG.imul dX4_pullAt_8 ?_
  refine hG.iadd dX4_pullAt_9 ?_
  refine hG.nld hA (46 + 3 * i) dX4_pullAt_10 (ix3 46 i) (by omega) ((hR.a ha).1.trans haj) ?_
  refine hG.istore_n dX4_pullAt_11 (by decide) ?_
  refine hG.bipush (v := 10) dX4_pullAt_12 rfl ?_
  refine hG.aload_n dX4_pullAt_14 rfl ?_
  refine hG.iload_n dX4_pullAt_15 rfl ?_
  refine hG.iload_n dX4_pullAt_16 rfl ?_
  refine hG.callV dX4_pullAt_17 kv_X4_114 (Rcv.raw mdL_m cl_X4) (sp_X4_flowAt hΓ hA hR hw hj) rfl rfl (Nat.le_of_ble_eq_true rfl) (by decide) (by omega) (by omega) (fun r17 I17 L17 hI17 h17 => ?_) (fun _ _ _ _ _ h => h.elim)
  obtain ⟨rfl, rfl, rfl⟩ := h17
  refine hG.imul dX4_pullAt_20 ?_
  refine hG.aload_n dX4_pullAt_21 rfl ?_
  refine hG.get dX4_pullAt_22 fg_X4_21_X4 (Or.inl mdL_m) rfl ?_
  refine hG.iconst (v := 4) dX4_pullAt_25 rfl ?_
  refine hG.nld hA (4) dX4_pullAt_26 rfl (by decide) hR.k4 ?_
  refine hG.iload_n dX4_pullAt_27 rfl ?_
  refine hG.icmp_eq (tgt := 43) dX4_pullAt_28 rfl (fun c_28 => ?_) (fun c_28 => ?_)
  · refine hG.aload_n dX4_pullAt_43 rfl ?_
    refine hG.callV dX4_pullAt_44 kv_X4_142 (Rcv.raw mdL_m cl_X4) (sp_X4_aboard hΓ hA hR hw) rfl rfl (Nat.le_of_ble_eq_true rfl) (by decide) (by omega) (by omega) (fun r44 I44 L44 hI44 h44 => ?_) (fun _ _ _ _ _ h => h.elim)
    obtain ⟨rfl, rfl, rfl⟩ := h44
    refine hG.goto (tgt := 51) dX4_pullAt_47 rfl ?_
    refine hG.iadd dX4_pullAt_51 ?_
    refine hG.iret dX4_pullAt_52 rfl ?_ (by omega) (by omega) trivial
    refine ⟨?_, rfl, rfl⟩
    unfold pullV
    rw [haj]
    first
    | rw [if_pos (Or.inl c_28)]
    | rw [if_pos (Or.inr c_40)]
    | rw [if_neg (fun q => q.elim c_28 c_40)]
  · refine hG.aload_n dX4_pullAt_31 rfl ?_
    refine hG.get dX4_pullAt_32 fg_X4_21_X4 (Or.inl mdL_m) rfl ?_
    refine hG.iconst (v := 4) dX4_pullAt_35 rfl ?_
    refine hG.nld hA (4) dX4_pullAt_36 rfl (by decide) hR.k4 ?_
    refine hG.iload_n dX4_pullAt_37 rfl ?_
    refine hG.iconst (v := 1) dX4_pullAt_38 rfl ?_
    refine hG.iadd dX4_pullAt_39 ?_
    refine hG.icmp_ne (tgt := 50) dX4_pullAt_40 rfl (fun c_40 => ?_) (fun c_40 => ?_)
    · refine hG.iconst (v := 0) dX4_pullAt_50 rfl ?_
      refine hG.iadd dX4_pullAt_51 ?_
      refine hG.iret dX4_pullAt_52 rfl ?_ (by omega) (by omega) trivial
      refine ⟨?_, rfl, rfl⟩
      unfold pullV
      rw [haj]
      first
      | rw [if_pos (Or.inl c_28)]
      | rw [if_pos (Or.inr c_40)]
      | rw [if_neg (fun q => q.elim c_28 c_40)]
    · refine hG.aload_n dX4_pullAt_43 rfl ?_
      refine hG.callV dX4_pullAt_44 kv_X4_142 (Rcv.raw mdL_m cl_X4) (sp_X4_aboard hΓ hA hR hw) rfl rfl (Nat.le_of_ble_eq_true rfl) (by decide) (by omega) (by omega) (fun r44 I44 L44 hI44 h44 => ?_) (fun _ _ _ _ _ h => h.elim)
      obtain ⟨rfl, rfl, rfl⟩ := h44
      refine hG.goto (tgt := 51) dX4_pullAt_47 rfl ?_
      refine hG.iadd dX4_pullAt_51 ?_
      refine hG.iret dX4_pullAt_52 rfl ?_ (by omega) (by omega) trivial
      refine ⟨?_, rfl, rfl⟩
      unfold pullV
      rw [haj]
      first
      | rw [if_pos (Or.inl c_28)]
      | rw [if_pos (Or.inr c_40)]
      | rw [if_neg (fun q => q.elim c_28 c_40)]
theorem drg_m {R : Rv} {a c0 : T3} {at_ : Int32} (h : pullV R a c0 at_ - holdV a c0 ≤ 0) : drgV R a c0 at_ = 0 := by
  unfold drgV maxI
  by_cases e : (0 : Int32) < pullV R a c0 at_ - holdV a c0
  · exact absurd h (lt_not.mp e)
  · rw [if_neg e]; rfl
theorem drg_p {R : Rv} {a c0 : T3} {at_ : Int32} (h : 0 < pullV R a c0 at_ - holdV a c0) : drgV R a c0 at_ = (pullV R a c0 at_ - holdV a c0 + 9) / 10 := by
  unfold drgV maxI
  rw [if_pos h]
theorem kv_X4_146 : LkV RX4 146 yX4_pullAt 2 := ⟨q3446, q3448, qs50, q87, by decide +kernel, by decide +kernel, by decide +kernel⟩
theorem kv_X4_149 : LkV RX4 149 yX4_holdOf 1 := ⟨q3442, q3444, qs49, q87, by decide +kernel, by decide +kernel, by decide +kernel⟩
set_option maxHeartbeats 4000000 in
set_option maxRecDepth 100000 in
theorem sp_X4_draggedAt {l : Launch} {s0 : State} {D : va_G} {I : AI} {L : AL} {m : Nat} {A : MA} {V : MV} {N : Nat} {R : Rv} (hΓ : Gam l s0 D) (hA : MOk m A) (hR : Rep N R V.nw) (hw : Wf N R) {i j : Nat} {a c0 : T3} (ha : R.an[i]? = some a) (haj : a.1 = nI j) (hj : R.ch[j]? = some c0) {at_ dr : Int32} (hd : dr ≤ 99) : Spc l s0 D yX4_draggedAt 5 [.ref m, .int (nI i), .int dr, .int at_] I (mdL L m A V) 0 0 (pV (.int (minI 99 (dr + drgV R a c0 at_))) I (mdL L m A V)) noX := by
  refine Spc.of hΓ cX4_draggedAt 5 (some FieldType.int) q3468 (by decide +kernel) (by decide) (Nat.le_of_ble_eq_true rfl) (fun G GX hG => ?_)
  refine hG.aload_n dX4_draggedAt_0 rfl ?_
  refine hG.iload_n dX4_draggedAt_1 rfl ?_
  refine hG.iload_n dX4_draggedAt_2 rfl ?_
  refine hG.callV dX4_draggedAt_3 kv_X4_146 (Rcv.raw mdL_m cl_X4) (sp_X4_pullAt hΓ hA hR hw ha haj hj) rfl rfl (Nat.le_of_ble_eq_true rfl) (by decide) (by omega) (by omega) (fun r3 I3 L3 hI3 h3 => ?_) (fun _ _ _ _ _ h => h.elim)
  obtain ⟨rfl, rfl, rfl⟩ := h3
  refine hG.aload_n dX4_draggedAt_6 rfl ?_
  refine hG.iload_n dX4_draggedAt_7 rfl ?_
  refine hG.callV dX4_draggedAt_8 kv_X4_149 (Rcv.raw mdL_m cl_X4) (sp_X4_holdOf hΓ hA hR hw ha haj hj) rfl rfl (Nat.le_of_ble_eq_true rfl) (by decide) (by omega) (by omega) (fun r8 I8 L8 hI8 h8 => ?_) (fun _ _ _ _ _ h => h.elim)
  obtain ⟨rfl, rfl, rfl⟩ := h8
  refine hG.isub dX4_draggedAt_11 ?_
  refine hG.istore dX4_draggedAt_12 (by decide) ?_
  refine hG.iload dX4_draggedAt_14 rfl ?_
  refine hG.if_gt (tgt := 23) dX4_draggedAt_16 rfl (fun c_16 => ?_) (fun c_16 => ?_)
  · refine hG.bipush (v := 99) dX4_draggedAt_23 rfl ?_
    refine hG.iload_n dX4_draggedAt_25 rfl ?_
    refine hG.iload dX4_draggedAt_26 rfl ?_
    refine hG.bipush (v := 9) dX4_draggedAt_28 rfl ?_
    refine hG.iadd dX4_draggedAt_30 ?_
    refine hG.bipush (v := 10) dX4_draggedAt_31 rfl ?_
    refine hG.idiv dX4_draggedAt_33 (by decide) ?_
    refine hG.iadd dX4_draggedAt_34 ?_
    refine hG.mmin dX4_draggedAt_35 q3393 (Nat.le_of_ble_eq_true rfl) (by decide) ?_
    refine hG.iret dX4_draggedAt_38 rfl ?_ (by omega) (by omega) trivial
    refine ⟨?_, rfl, rfl⟩
    first
    | (rw [drg_p c_16])
    | (rw [drg_m (Int32.not_lt.mp c_16), Int32.add_zero]
       unfold minI
       by_cases e : dr < 99
       · rw [if_pos e]
       · rw [if_neg e]
         exact congrArg (fun z => some (Value.int z)) (Int32.le_antisymm hd (Int32.not_lt.mp e)))
  · refine hG.iload_n dX4_draggedAt_19 rfl ?_
    refine hG.goto (tgt := 38) dX4_draggedAt_20 rfl ?_
    refine hG.iret dX4_draggedAt_38 rfl ?_ (by omega) (by omega) trivial
    refine ⟨?_, rfl, rfl⟩
    first
    | (rw [drg_p c_16])
    | (rw [drg_m (Int32.not_lt.mp c_16), Int32.add_zero]
       unfold minI
       by_cases e : dr < 99
       · rw [if_pos e]
       · rw [if_neg e]
         exact congrArg (fun z => some (Value.int z)) (Int32.le_antisymm hd (Int32.not_lt.mp e)))
