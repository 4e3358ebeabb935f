/-! an entry removed -/
def ups (o v : Option Nat) (f : Nat → Option Nat) : Nat → Option Nat := fun z => if o = some z then v else f z
theorem ups_none {v : Option Nat} {f : Nat → Option Nat} : ups none v f = f := by
  funext z
  unfold ups
  rw [if_neg (by simp)]
/-- entries whose neighbours are told by functions -/
def EntH (I : AI) (S : AL) (es : List Ent) (nx : Ent → Option Nat) (bf af : Nat → Option Nat) (kr vr : Nat → Nat) : Prop := ∀ x ∈ es, S x.1 = some (obC ciJ31 [.int (nI (hN x.2.1)), .ref (kr x.1), .ref (vr x.1), va_rf (nx x), va_rf (bf x.1), va_rf (af x.1)]) ∧ x.2.1 < 147 ∧ I (kr x.1) (ob ciX9 (grp x.2.1)) ∧ I (vr x.1) (bxE x.2.2)
theorem EntG.h {I : AI} {S : AL} {es : List Ent} {nx : Ent → Option Nat} {od : List Nat} {kr vr : Nat → Nat} (h : EntG I S es nx od kr vr) : EntH I S es nx (prd od) (suc od) kr vr := h
theorem EntH.bf {I : AI} {S : AL} {es : List Ent} {nx : Ent → Option Nat} {bf af : Nat → Option Nat} {kr vr : Nat → Nat} (h : EntH I S es nx bf af kr vr) (hna : (ads es).Nodup) {x : Ent} (hx : x ∈ es) (v : Option Nat) : EntH I (up1 S x.1 (some (obC ciJ31 [.int (nI (hN x.2.1)), .ref (kr x.1), .ref (vr x.1), va_rf (nx x), va_rf v, va_rf (af x.1)]))) es nx (ups (some x.1) v bf) af kr vr := fun y hy => by
  obtain ⟨h1, h2⟩ := h y hy
  refine ⟨?_, h2⟩
  by_cases e : y.1 = x.1
  · cases ads_inj hna hy hx e
    rw [up1_s]
    simp [ups]
  · rw [up1_n e, h1]
    unfold ups
    rw [if_neg (fun h => e (Option.some.inj h).symm)]
theorem EntH.af {I : AI} {S : AL} {es : List Ent} {nx : Ent → Option Nat} {bf af : Nat → Option Nat} {kr vr : Nat → Nat} (h : EntH I S es nx bf af kr vr) (hna : (ads es).Nodup) {x : Ent} (hx : x ∈ es) (v : Option Nat) : EntH I (up1 S x.1 (some (obC ciJ31 [.int (nI (hN x.2.1)), .ref (kr x.1), .ref (vr x.1), va_rf (nx x), va_rf (bf x.1), va_rf v]))) es nx bf (ups (some x.1) v af) kr vr := fun y hy => by
  obtain ⟨h1, h2⟩ := h y hy
  refine ⟨?_, h2⟩
  by_cases e : y.1 = x.1
  · cases ads_inj hna hy hx e
    rw [up1_s]
    simp [ups]
  · rw [up1_n e, h1]
    unfold ups
    rw [if_neg (fun h => e (Option.some.inj h).symm)]
theorem EntH.m {I : AI} {S S' : AL} {es : List Ent} {nx : Ent → Option Nat} {bf af : Nat → Option Nat} {kr vr : Nat → Nat} (h : EntH I S es nx bf af kr vr) (hS : ∀ x ∈ es, S' x.1 = S x.1) : EntH I S' es nx bf af kr vr := fun x hx => ⟨(hS x hx).trans (h x hx).1, (h x hx).2⟩
theorem EntH.um {I : AI} {S : AL} {es : List Ent} {nx : Ent → Option Nat} {bf af : Nat → Option Nat} {kr vr : Nat → Nat} {m : Nat} (h : EntH I S es nx bf af kr vr) (hm : ∀ y ∈ es, m ≠ y.1) (c : Option Cel) : EntH I (up1 S m c) es nx bf af kr vr := h.m (fun y hy => up1_n (hm y hy).symm)
theorem suc_prev {pre post : List Nat} {x y : Nat} (hn : (pre ++ x :: post).Nodup) : suc (pre ++ x :: post) y = some x ↔ pre.getLast? = some y := by
  have hx : x ∉ pre ∧ x ∉ post := by
    rw [List.nodup_append, List.nodup_cons] at hn
    exact ⟨fun q => hn.2.2 x q x (by simp) rfl, hn.2.1.1⟩
  constructor
  · intro h
    obtain ⟨h1, -⟩ := suc_mem hn h
    obtain ⟨a, b, e, h2, h3⟩ := split_at hn h1
    rw [e, suc_mid h2] at h
    cases b with
    | nil => cases h
    | cons z b =>
      cases h
      have e2 : a ++ y :: x :: b = (a ++ [y]) ++ x :: b := by simp
      rw [e2] at e
      have h4 : pre = a ++ [y] := by
        have hxa : x ∉ a ++ [y] := by
          intro hm
          rw [e, List.nodup_append] at hn
          exact hn.2.2 x hm x (by simp) rfl
        have := congrArg (List.takeWhile (fun z => z != x)) e
        rw [List.takeWhile_append_of_pos (by intro z hz; simp; intro q; exact hx.1 (q ▸ hz)), List.takeWhile_append_of_pos (by intro z hz; simp; intro q; exact hxa (q ▸ hz))] at this
        simpa using this
      rw [h4]
      simp
  · intro h
    obtain ⟨a, rfl⟩ : ∃ a, pre = a ++ [y] := by
      rw [List.getLast?_eq_some_iff] at h
      exact h
    rw [List.append_assoc, List.singleton_append, suc_mid]
    · rfl
    · intro q
      rw [List.append_assoc, List.nodup_append] at hn
      exact hn.2.2 y q y (by simp) rfl
theorem prd_next {pre post : List Nat} {x y : Nat} (hn : (pre ++ x :: post).Nodup) : prd (pre ++ x :: post) y = some x ↔ post.head? = some y := by
  have e1 : (pre ++ x :: post).reverse = post.reverse ++ x :: pre.reverse := by simp
  have h := suc_prev (pre := post.reverse) (post := pre.reverse) (x := x) (y := y) (by rw [← e1]; exact nodup_rev hn)
  unfold prd
  rw [e1, h, List.getLast?_reverse]
theorem suc_rm {pre post : List Nat} {x y : Nat} (hn : (pre ++ x :: post).Nodup) (hy : y ∈ pre ++ post) : ups pre.getLast? post.head? (suc (pre ++ x :: post)) y = suc (pre ++ post) y := by
  rw [suc_del hn hy]
  unfold ups
  by_cases e : pre.getLast? = some y
  · rw [if_pos e, if_pos ((suc_prev hn).mpr e)]
  · rw [if_neg e, if_neg (fun h => e ((suc_prev hn).mp h))]
theorem prd_rm {pre post : List Nat} {x y : Nat} (hn : (pre ++ x :: post).Nodup) (hy : y ∈ pre ++ post) : ups post.head? pre.getLast? (prd (pre ++ x :: post)) y = prd (pre ++ post) y := by
  rw [prd_del hn hy]
  unfold ups
  by_cases e : post.head? = some y
  · rw [if_pos e, if_pos ((prd_next hn).mpr e)]
  · rw [if_neg e, if_neg (fun h => e ((prd_next hn).mp h))]
theorem hd_rm {pre post : List Nat} {x : Nat} : (pre ++ post).head? = if pre.getLast? = none then post.head? else (pre ++ x :: post).head? := by
  cases pre with
  | nil => rfl
  | cons a l => rw [if_neg (by simp)]; rfl
theorem tl_rm {pre post : List Nat} {x : Nat} : (pre ++ post).getLast? = if post.head? = none then pre.getLast? else (pre ++ x :: post).getLast? := by
  cases post with
  | nil => simp
  | cons a l => rw [if_neg (by simp)]; simp [List.getLast?_append]
theorem fg_J5_19_J31 : LkG RJ5 19 ciJ31 4 := ⟨RJ31, TJ31, 6, tyJ31, _, cls_J31, by decide, Or.inl rfl, Or.inl q1418⟩
theorem fg_J5_14_J31 : LkG RJ5 14 ciJ31 5 := ⟨RJ31, TJ31, 6, tyJ31, _, cls_J31, by decide, Or.inl rfl, Or.inl q1420⟩
set_option maxHeartbeats 4000000 in
set_option maxRecDepth 100000 in
theorem sp_J5_afterNodeRemoval {l : Launch} {s0 : State} {D : va_G} {I : AI} {L : AL} {m : Nat} {x : Ent} {pre post : List Ent} {nx : Ent → Option Nat} {kr vr : Nat → Nat} {a1 a2 a3 a4 a5 a6 a7 a8 a11 a12 : Value} (hΓ : Gam l s0 D) (h0 : L m = some (obC ciJ5 [a1, a2, a3, a4, a5, a6, a7, a8, va_rf (ads (pre ++ x :: post)).head?, va_rf (ads (pre ++ x :: post)).getLast?, a11, a12])) (hna : (ads (pre ++ x :: post)).Nodup) (hme : m ∉ ads (pre ++ x :: post)) (hE : EntG I L (pre ++ x :: post) nx (ads (pre ++ x :: post)) kr vr) : Spc l s0 D yJ5_afterNodeRemoval 1 [.ref m, .ref x.1] I L 0 0 (fun r I' L' => r = none ∧ I = I' ∧ L' m = some (obC ciJ5 [a1, a2, a3, a4, a5, a6, a7, a8, va_rf (ads (pre ++ post)).head?, va_rf (ads (pre ++ post)).getLast?, a11, a12]) ∧ EntG I L' (pre ++ post) nx (ads (pre ++ post)) kr vr ∧ L' x.1 = some (obC ciJ31 [.int (nI (hN x.2.1)), .ref (kr x.1), .ref (vr x.1), va_rf (nx x), .null, .null]) ∧ ∀ z, z ≠ m → z ∉ ads (pre ++ x :: post) → L' z = L z) noX := by
  refine Spc.of hΓ cJ5_afterNodeRemoval 5 none q1484 (by decide +kernel) (by decide) (Nat.le_of_ble_eq_true rfl) (fun G GX hG => ?_)
  have ea : ads (pre ++ x :: post) = ads pre ++ x.1 :: ads post := List.map_append
  have ea2 : ads (pre ++ post) = ads pre ++ ads post := List.map_append
  have hn := hna
  rw [ea] at hn
  have hxe : x ∈ pre ++ x :: post := by simp
  have hmx : m ≠ x.1 := fun e => hme (e ▸ ads_of hxe)
  obtain ⟨hx1, hx2⟩ := hE x hxe
  unfold entG at hx1
  have hxp : x.1 ∉ ads pre ∧ x.1 ∉ ads post := by
    rw [List.nodup_append, List.nodup_cons] at hn
    exact ⟨fun q => hn.2.2 x.1 q x.1 (by simp) rfl, hn.2.1.1⟩
  have hpp : ∀ y ∈ ads pre, ∀ z ∈ ads post, y ≠ z := fun y hy z hz => by
    rw [List.nodup_append] at hn
    exact hn.2.2 y hy z (by simp [hz])
  obtain ⟨b, eb⟩ : ∃ b, (ads pre).getLast? = b := ⟨_, rfl⟩
  obtain ⟨a, ea3⟩ : ∃ a, (ads post).head? = a := ⟨_, rfl⟩
  have hpb : prd (ads (pre ++ x :: post)) x.1 = b := by rw [ea, prd_mid hxp.2, eb]
  have hsa : suc (ads (pre ++ x :: post)) x.1 = a := by rw [ea, suc_mid hxp.1, ea3]
  have hBb : ∀ z, b = some z → ∃ y ∈ pre, y.1 = z := fun z hz => by
    obtain ⟨y, hy, e⟩ := List.mem_map.mp (List.mem_of_getLast? (eb.trans hz))
    exact ⟨y, hy, e⟩
  have hAa : ∀ z, a = some z → ∃ y ∈ post, y.1 = z := fun z hz => by
    obtain ⟨y, hy, e⟩ := List.mem_map.mp (List.mem_of_mem_head? (ea3.trans hz))
    exact ⟨y, hy, e⟩
  have hH1 : EntH I (up1 (up1 L x.1 (some (obC ciJ31 [.int (nI (hN x.2.1)), .ref (kr x.1), .ref (vr x.1), va_rf (nx x), va_rf (prd (ads (pre ++ x :: post)) x.1), .null]))) x.1 (some (obC ciJ31 [.int (nI (hN x.2.1)), .ref (kr x.1), .ref (vr x.1), va_rf (nx x), .null, .null]))) (pre ++ x :: post) nx (ups (some x.1) none (prd (ads (pre ++ x :: post)))) (ups (some x.1) none (suc (ads (pre ++ x :: post)))) kr vr := by
    have h1 := (hE.h.af hna hxe none).bf hna hxe none
    simp only [ups, if_pos rfl] at h1
    exact h1
  have hfin : ∀ (S : AL), EntH I S (pre ++ x :: post) nx (ups a b (ups (some x.1) none (prd (ads (pre ++ x :: post))))) (ups b a (ups (some x.1) none (suc (ads (pre ++ x :: post))))) kr vr → EntG I S (pre ++ post) nx (ads (pre ++ post)) kr vr := fun S hS y hy => by
    have hyi : y ∈ pre ++ x :: post := by rcases List.mem_append.mp hy with h | h <;> simp [h]
    obtain ⟨h1, h2⟩ := hS y hyi
    refine ⟨?_, h2⟩
    have hym : y.1 ∈ ads pre ++ ads post := by rw [← ea2]; exact ads_of hy
    have hyx : ¬ x.1 = y.1 := fun e => by rcases List.mem_append.mp hym with h | h; exact hxp.1 (e ▸ h); exact hxp.2 (e ▸ h)
    have e1 : ups a b (ups (some x.1) none (prd (ads (pre ++ x :: post)))) y.1 = prd (ads (pre ++ post)) y.1 := by
      rw [ea2, ← prd_rm hn hym, ← ea, eb, ea3]
      simp [ups, hyx]
    have e2 : ups b a (ups (some x.1) none (suc (ads (pre ++ x :: post)))) y.1 = suc (ads (pre ++ post)) y.1 := by
      rw [ea2, ← suc_rm hn hym, ← ea, eb, ea3]
      simp [ups, hyx]
    rw [h1]
    unfold entG
    rw [e1, e2]
  have hhd : (ads (pre ++ post)).head? = if b = none then a else (ads (pre ++ x :: post)).head? := by rw [ea2, ea, hd_rm (x := x.1), eb, ea3]
  have htl : (ads (pre ++ post)).getLast? = if a = none then b else (ads (pre ++ x :: post)).getLast? := by rw [ea2, ea, tl_rm (x := x.1), eb, ea3]
  have hma : ∀ y ∈ pre ++ x :: post, m ≠ y.1 := fun y hy e => hme (e ▸ ads_of hy)
  rw [hpb, hsa] at hx1
  rw [hpb] at hH1
  rcases b with _ | b <;> rcases a with _ | a
  · refine hG.aload_n dJ5_afterNodeRemoval_0 rfl ?_
    refine hG.castS dJ5_afterNodeRemoval_1 q1383 (Rcv.raw hx1 cl_J31) cl_J31 ?_
    refine hG.astore_n dJ5_afterNodeRemoval_4 (by decide) ?_
    refine hG.aload_n dJ5_afterNodeRemoval_5 rfl ?_
    refine hG.get dJ5_afterNodeRemoval_6 fg_J5_19_J31 (Or.inl hx1) rfl ?_
    refine hG.astore_nN dJ5_afterNodeRemoval_9 (by decide) ?_
    refine hG.aload_n dJ5_afterNodeRemoval_10 rfl ?_
    refine hG.get dJ5_afterNodeRemoval_11 fg_J5_14_J31 (Or.inl (hx1)) rfl ?_
    refine hG.astoreN dJ5_afterNodeRemoval_14 (by decide) ?_
    refine hG.aload_n dJ5_afterNodeRemoval_16 rfl ?_
    refine hG.aload_n dJ5_afterNodeRemoval_17 rfl ?_
    refine hG.null dJ5_afterNodeRemoval_18 ?_
    refine hG.dup_x1 dJ5_afterNodeRemoval_19 rfl rfl ?_
    refine hG.put dJ5_afterNodeRemoval_20 fp_J5_14_J31 hx1 rfl rfl (Nat.le_of_ble_eq_true rfl) ?_
    refine hG.put dJ5_afterNodeRemoval_23 fp_J5_19_J31 up1_s rfl rfl (Nat.le_of_ble_eq_true rfl) ?_
    refine hG.aload_nN dJ5_afterNodeRemoval_26 rfl ?_
    refine hG.ifnonnullN dJ5_afterNodeRemoval_27 ?_
    refine hG.aload_n dJ5_afterNodeRemoval_30 rfl ?_
    refine hG.aloadN dJ5_afterNodeRemoval_31 rfl ?_
    refine hG.put dJ5_afterNodeRemoval_33 fp_J5_7_J5 ((up1_n hmx).trans ((up1_n hmx).trans h0)) rfl rfl (Nat.le_of_ble_eq_true rfl) ?_
    refine hG.goto (tgt := 45) dJ5_afterNodeRemoval_36 rfl ?_
    refine hG.aloadN dJ5_afterNodeRemoval_45 rfl ?_
    refine hG.ifnonnullN dJ5_afterNodeRemoval_47 ?_
    refine hG.aload_n dJ5_afterNodeRemoval_50 rfl ?_
    refine hG.aload_nN dJ5_afterNodeRemoval_51 rfl ?_
    refine hG.put dJ5_afterNodeRemoval_52 fp_J5_11_J5 up1_s rfl rfl (Nat.le_of_ble_eq_true rfl) ?_
    refine hG.goto (tgt := 64) dJ5_afterNodeRemoval_55 rfl ?_
    refine hG.vret dJ5_afterNodeRemoval_64 rfl ?_ (by omega) (by omega) trivial
    refine ⟨rfl, rfl, ?_, hfin _ ?_, ?_, fun z h1 h2 => ?_⟩
    · rw [hhd, htl]; simp [up1, h0, va_rf, hmx, hmx.symm]
    · rw [ups_none, ups_none]; exact hH1.m (fun y hy => by rw [up1_n (hma y hy).symm, up1_n (hma y hy).symm]; rfl)
    · simp [up1, hmx, hmx.symm]
    · have hz : ∀ y ∈ pre ++ x :: post, z ≠ y.1 := fun y hy e => h2 (e ▸ ads_of hy)
      simp [up1, h1, hz x hxe]
  · obtain ⟨y1, hy1, rfl⟩ := hAa _ rfl
    have hy1e : y1 ∈ pre ++ x :: post := by simp [hy1]
    have hy1x : y1.1 ≠ x.1 := fun e => hxp.2 (e ▸ ads_of hy1)
    have hy11 := (hH1 y1 hy1e).1
    have hm1 : m ≠ y1.1 := hma y1 hy1e
    refine hG.aload_n dJ5_afterNodeRemoval_0 rfl ?_
    refine hG.castS dJ5_afterNodeRemoval_1 q1383 (Rcv.raw hx1 cl_J31) cl_J31 ?_
    refine hG.astore_n dJ5_afterNodeRemoval_4 (by decide) ?_
    refine hG.aload_n dJ5_afterNodeRemoval_5 rfl ?_
    refine hG.get dJ5_afterNodeRemoval_6 fg_J5_19_J31 (Or.inl hx1) rfl ?_
    refine hG.astore_nN dJ5_afterNodeRemoval_9 (by decide) ?_
    refine hG.aload_n dJ5_afterNodeRemoval_10 rfl ?_
    refine hG.get dJ5_afterNodeRemoval_11 fg_J5_14_J31 (Or.inl (hx1)) rfl ?_
    refine hG.astore dJ5_afterNodeRemoval_14 (by decide) ?_
    refine hG.aload_n dJ5_afterNodeRemoval_16 rfl ?_
    refine hG.aload_n dJ5_afterNodeRemoval_17 rfl ?_
    refine hG.null dJ5_afterNodeRemoval_18 ?_
    refine hG.dup_x1 dJ5_afterNodeRemoval_19 rfl rfl ?_
    refine hG.put dJ5_afterNodeRemoval_20 fp_J5_14_J31 hx1 rfl rfl (Nat.le_of_ble_eq_true rfl) ?_
    refine hG.put dJ5_afterNodeRemoval_23 fp_J5_19_J31 up1_s rfl rfl (Nat.le_of_ble_eq_true rfl) ?_
    refine hG.aload_nN dJ5_afterNodeRemoval_26 rfl ?_
    refine hG.ifnonnullN dJ5_afterNodeRemoval_27 ?_
    refine hG.aload_n dJ5_afterNodeRemoval_30 rfl ?_
    refine hG.aload dJ5_afterNodeRemoval_31 rfl ?_
    refine hG.put dJ5_afterNodeRemoval_33 fp_J5_7_J5 ((up1_n hmx).trans ((up1_n hmx).trans h0)) rfl rfl (Nat.le_of_ble_eq_true rfl) ?_
    refine hG.goto (tgt := 45) dJ5_afterNodeRemoval_36 rfl ?_
    refine hG.aload dJ5_afterNodeRemoval_45 rfl ?_
    refine hG.ifnonnull (tgt := 58) dJ5_afterNodeRemoval_47 rfl ?_
    refine hG.aload dJ5_afterNodeRemoval_58 rfl ?_
    refine hG.aload_nN dJ5_afterNodeRemoval_60 rfl ?_
    refine hG.put dJ5_afterNodeRemoval_61 fp_J5_19_J31 ((up1_n hm1.symm).trans hy11) rfl rfl (Nat.le_of_ble_eq_true rfl) ?_
    refine hG.vret dJ5_afterNodeRemoval_64 rfl ?_ (by omega) (by omega) trivial
    refine ⟨rfl, rfl, ?_, hfin _ ?_, ?_, fun z h1 h2 => ?_⟩
    · rw [hhd, htl]; simp [up1, h0, va_rf, hmx, hmx.symm, hm1, hm1.symm, hy1x, hy1x.symm]
    · rw [ups_none]; exact (EntH.bf ((EntH.um (hH1) hma _)) hna hy1e none)
    · simp [up1, hmx, hmx.symm, hm1, hm1.symm, hy1x, hy1x.symm]
    · have hz : ∀ y ∈ pre ++ x :: post, z ≠ y.1 := fun y hy e => h2 (e ▸ ads_of hy)
      simp [up1, h1, hz x hxe, hz y1 hy1e]
  · obtain ⟨y0, hy0, rfl⟩ := hBb _ rfl
    have hy0e : y0 ∈ pre ++ x :: post := by simp [hy0]
    have hy0x : y0.1 ≠ x.1 := fun e => hxp.1 (e ▸ ads_of hy0)
    have hy01 := (hH1 y0 hy0e).1
    have hm0 : m ≠ y0.1 := hma y0 hy0e
    refine hG.aload_n dJ5_afterNodeRemoval_0 rfl ?_
    refine hG.castS dJ5_afterNodeRemoval_1 q1383 (Rcv.raw hx1 cl_J31) cl_J31 ?_
    refine hG.astore_n dJ5_afterNodeRemoval_4 (by decide) ?_
    refine hG.aload_n dJ5_afterNodeRemoval_5 rfl ?_
    refine hG.get dJ5_afterNodeRemoval_6 fg_J5_19_J31 (Or.inl hx1) rfl ?_
    refine hG.astore_n dJ5_afterNodeRemoval_9 (by decide) ?_
    refine hG.aload_n dJ5_afterNodeRemoval_10 rfl ?_
    refine hG.get dJ5_afterNodeRemoval_11 fg_J5_14_J31 (Or.inl (hx1)) rfl ?_
    refine hG.astoreN dJ5_afterNodeRemoval_14 (by decide) ?_
    refine hG.aload_n dJ5_afterNodeRemoval_16 rfl ?_
    refine hG.aload_n dJ5_afterNodeRemoval_17 rfl ?_
    refine hG.null dJ5_afterNodeRemoval_18 ?_
    refine hG.dup_x1 dJ5_afterNodeRemoval_19 rfl rfl ?_
    refine hG.put dJ5_afterNodeRemoval_20 fp_J5_14_J31 hx1 rfl rfl (Nat.le_of_ble_eq_true rfl) ?_
    refine hG.put dJ5_afterNodeRemoval_23 fp_J5_19_J31 up1_s rfl rfl (Nat.le_of_ble_eq_true rfl) ?_
    refine hG.aload_n dJ5_afterNodeRemoval_26 rfl ?_
    refine hG.ifnonnull (tgt := 39) dJ5_afterNodeRemoval_27 rfl ?_
    refine hG.aload_n dJ5_afterNodeRemoval_39 rfl ?_
    refine hG.aloadN dJ5_afterNodeRemoval_40 rfl ?_
    refine hG.put dJ5_afterNodeRemoval_42 fp_J5_14_J31 hy01 rfl rfl (Nat.le_of_ble_eq_true rfl) ?_
    refine hG.aloadN dJ5_afterNodeRemoval_45 rfl ?_
    refine hG.ifnonnullN dJ5_afterNodeRemoval_47 ?_
    refine hG.aload_n dJ5_afterNodeRemoval_50 rfl ?_
    refine hG.aload_n dJ5_afterNodeRemoval_51 rfl ?_
    refine hG.put dJ5_afterNodeRemoval_52 fp_J5_11_J5 ((up1_n hm0).trans ((up1_n hmx).trans ((up1_n hmx).trans h0))) rfl rfl (Nat.le_of_ble_eq_true rfl) ?_
    refine hG.goto (tgt := 64) dJ5_afterNodeRemoval_55 rfl ?_
    refine hG.vret dJ5_afterNodeRemoval_64 rfl ?_ (by omega) (by omega) trivial
    refine ⟨rfl, rfl, ?_, hfin _ ?_, ?_, fun z h1 h2 => ?_⟩
    · rw [hhd, htl]; simp [up1, h0, va_rf, hmx, hmx.symm, hm0, hm0.symm, hy0x, hy0x.symm]
    · rw [ups_none]; exact (EntH.um ((EntH.af (hH1) hna hy0e none)) hma _)
    · simp [up1, hmx, hmx.symm, hm0, hm0.symm, hy0x, hy0x.symm]
    · have hz : ∀ y ∈ pre ++ x :: post, z ≠ y.1 := fun y hy e => h2 (e ▸ ads_of hy)
      simp [up1, h1, hz x hxe, hz y0 hy0e]
  · obtain ⟨y0, hy0, rfl⟩ := hBb _ rfl
    have hy0e : y0 ∈ pre ++ x :: post := by simp [hy0]
    have hy0x : y0.1 ≠ x.1 := fun e => hxp.1 (e ▸ ads_of hy0)
    have hy01 := (hH1 y0 hy0e).1
    have hm0 : m ≠ y0.1 := hma y0 hy0e
    obtain ⟨y1, hy1, rfl⟩ := hAa _ rfl
    have hy1e : y1 ∈ pre ++ x :: post := by simp [hy1]
    have hy1x : y1.1 ≠ x.1 := fun e => hxp.2 (e ▸ ads_of hy1)
    have hy11 := (hH1 y1 hy1e).1
    have hm1 : m ≠ y1.1 := hma y1 hy1e
    have h01 : y0.1 ≠ y1.1 := hpp _ (ads_of hy0) _ (ads_of hy1)
    refine hG.aload_n dJ5_afterNodeRemoval_0 rfl ?_
    refine hG.castS dJ5_afterNodeRemoval_1 q1383 (Rcv.raw hx1 cl_J31) cl_J31 ?_
    refine hG.astore_n dJ5_afterNodeRemoval_4 (by decide) ?_
    refine hG.aload_n dJ5_afterNodeRemoval_5 rfl ?_
    refine hG.get dJ5_afterNodeRemoval_6 fg_J5_19_J31 (Or.inl hx1) rfl ?_
    refine hG.astore_n dJ5_afterNodeRemoval_9 (by decide) ?_
    refine hG.aload_n dJ5_afterNodeRemoval_10 rfl ?_
    refine hG.get dJ5_afterNodeRemoval_11 fg_J5_14_J31 (Or.inl (hx1)) rfl ?_
    refine hG.astore dJ5_afterNodeRemoval_14 (by decide) ?_
    refine hG.aload_n dJ5_afterNodeRemoval_16 rfl ?_
    refine hG.aload_n dJ5_afterNodeRemoval_17 rfl ?_
    refine hG.null dJ5_afterNodeRemoval_18 ?_
    refine hG.dup_x1 dJ5_afterNodeRemoval_19 rfl rfl ?_
    refine hG.put dJ5_afterNodeRemoval_20 fp_J5_14_J31 hx1 rfl rfl (Nat.le_of_ble_eq_true rfl) ?_
    refine hG.put dJ5_afterNodeRemoval_23 fp_J5_19_J31 up1_s rfl rfl (Nat.le_of_ble_eq_true rfl) ?_
    refine hG.aload_n dJ5_afterNodeRemoval_26 rfl ?_
    refine hG.ifnonnull (tgt := 39) dJ5_afterNodeRemoval_27 rfl ?_
    refine hG.aload_n dJ5_afterNodeRemoval_39 rfl ?_
    refine hG.aload dJ5_afterNodeRemoval_40 rfl ?_
    refine hG.put dJ5_afterNodeRemoval_42 fp_J5_14_J31 hy01 rfl rfl (Nat.le_of_ble_eq_true rfl) ?_
    refine hG.aload dJ5_afterNodeRemoval_45 rfl ?_
    refine hG.ifnonnull (tgt := 58) dJ5_afterNodeRemoval_47 rfl ?_
    refine hG.aload dJ5_afterNodeRemoval_58 rfl ?_
    refine hG.aload_n dJ5_afterNodeRemoval_60 rfl ?_
    refine hG.put dJ5_afterNodeRemoval_61 fp_J5_19_J31 ((up1_n h01.symm).trans hy11) rfl rfl (Nat.le_of_ble_eq_true rfl) ?_
    refine hG.vret dJ5_afterNodeRemoval_64 rfl ?_ (by omega) (by omega) trivial
    refine ⟨rfl, rfl, ?_, hfin _ ?_, ?_, fun z h1 h2 => ?_⟩
    · rw [hhd, htl]; simp [up1, h0, va_rf, hmx, hmx.symm, hm0, hm0.symm, hy0x, hy0x.symm, hm1, hm1.symm, hy1x, hy1x.symm, h01, h01.symm]
    · refine ((EntH.bf ((EntH.af (hH1) hna hy0e (some y1.1))) hna hy1e (some y0.1))).m (fun y hy => ?_)
      rw [show ups (some y0.1) (some y1.1) (ups (some x.1) none (suc (ads (pre ++ x :: post)))) y1.1 = ups (some x.1) none (suc (ads (pre ++ x :: post))) y1.1 by simp [ups, h01]]; rfl
    · simp [up1, hmx, hmx.symm, hm0, hm0.symm, hy0x, hy0x.symm, hm1, hm1.symm, hy1x, hy1x.symm, h01, h01.symm]
    · have hz : ∀ y ∈ pre ++ x :: post, z ≠ y.1 := fun y hy e => h2 (e ▸ ads_of hy)
      simp [up1, h1, hz x hxe, hz y0 hy0e, hz y1 hy1e]
