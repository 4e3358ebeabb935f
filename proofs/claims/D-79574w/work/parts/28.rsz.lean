/-! the table grown: from none to 16, from 16 to 32 -/
theorem ads_of {es : List Ent} {x : Ent} (h : x ∈ es) : x.1 ∈ ads es := List.mem_map.mpr ⟨x, h, rfl⟩
def set1 (o v : Option Nat) (nx : Ent → Option Nat) : Ent → Option Nat := fun z => if o = some z.1 then v else nx z
theorem set1_none {v : Option Nat} {nx : Ent → Option Nat} : set1 none v nx = nx := by
  funext z
  unfold set1
  rw [if_neg (by simp)]
theorem EntG.st1 {I : AI} {S : AL} {es : List Ent} {nx : Ent → Option Nat} {od : List Nat} {kr vr : Nat → Nat} (h : EntG I S es nx od kr vr) (hna : (ads es).Nodup) {x : Ent} (hx : x ∈ es) (v : Option Nat) : EntG I (up1 S x.1 (some (obC ciJ31 [.int (nI (hN x.2.1)), .ref (kr x.1), .ref (vr x.1), va_rf v, va_rf (prd od x.1), va_rf (suc od x.1)]))) es (set1 (some x.1) v nx) od kr vr := by
  refine (h.nxt hna hx v).congr (fun _ _ => rfl) (fun y hy => ?_) (fun _ _ => ⟨rfl, rfl⟩)
  unfold set1
  by_cases e : y.1 = x.1
  · rw [if_pos e, if_pos (by rw [e])]
  · rw [if_neg e, if_neg (fun h => e (Option.some.inj h).symm)]
abbrev bk (es : List Ent) (j : Nat) : List Ent := es.filter (fun x => hN x.2.1 % 16 == j)
theorem bk_lo {es : List Ent} {j : Nat} (hj : j < 16) : bkt (bk es j) 32 j = bkt es 32 j := by
  unfold bkt bk
  rw [List.filter_filter]
  congr 1
  refine List.filter_congr (fun x _ => ?_)
  rw [Bool.eq_iff_iff]
  simp
  omega
theorem bk_hi {es : List Ent} {j : Nat} (hj : j < 16) : bkt (bk es j) 32 (j + 16) = bkt es 32 (j + 16) := by
  unfold bkt bk
  rw [List.filter_filter]
  congr 1
  refine List.filter_congr (fun x _ => ?_)
  rw [Bool.eq_iff_iff]
  simp
  omega
theorem bkt_in {es : List Ent} (hna : (ads es).Nodup) {x : Ent} (hx : x ∈ es) {cap j : Nat} : x.1 ∈ bkt es cap j ↔ hN x.2.1 % cap = j := by
  constructor
  · intro h
    obtain ⟨y, hy, e, h2⟩ := bkt_mem h
    rw [← ads_inj hna hy hx e]
    exact h2
  · rintro rfl
    exact mem_bkt hx
theorem nI_bit {h : Nat} (hh : h < 300) : (nI h &&& nI 16 = 0) ↔ h % 32 < 16 := by
  have H : ∀ h ∈ List.range 300, (nI h &&& nI 16 = 0) ↔ h % 32 < 16 := by decide +kernel
  exact H h (List.mem_range.mpr hh)
def RzN (es : List Ent) (j : Nat) (done todo : List Ent) (nx : Ent → Option Nat) : Prop :=
  (∀ x ∈ es, hN x.2.1 % 16 ≠ j → nx x = if hN x.2.1 % 16 < j then nxB es 32 x else nxB es 16 x) ∧
  (∀ x ∈ todo, nx x = nxB es 16 x) ∧
  (∀ x ∈ done, (bkt done 32 (hN x.2.1 % 32)).getLast? ≠ some x.1 → nx x = suc (bkt done 32 (hN x.2.1 % 32)) x.1)
theorem bkt_last {es : List Ent} {cap j : Nat} {a : Nat} (h : (bkt es cap j).getLast? = some a) : a ∈ bkt es cap j := List.mem_of_getLast? h
theorem RzN.step {es : List Ent} {j : Nat} {done todo : List Ent} {e : Ent} {nx : Ent → Option Nat} (hna : (ads es).Nodup) (hb : bk es j = done ++ e :: todo) (h : RzN es j done (e :: todo) nx) : RzN es j (done ++ [e]) todo (set1 (bkt done 32 (hN e.2.1 % 32)).getLast? (some e.1) nx) := by
  obtain ⟨h1, h2, h3⟩ := h
  have hsub : ∀ x, x ∈ done ++ e :: todo → x ∈ es ∧ hN x.2.1 % 16 = j := fun x hx => by
    rw [← hb] at hx
    obtain ⟨k1, k2⟩ := List.mem_filter.mp hx
    exact ⟨k1, by simpa using k2⟩
  have hnd : (ads (done ++ e :: todo)).Nodup := by
    rw [← hb]
    exact ((List.filter_sublist).map _).nodup hna
  have hnd1 : (ads done).Nodup := by
    have : ads (done ++ e :: todo) = ads done ++ ads (e :: todo) := List.map_append
    rw [this, List.nodup_append] at hnd
    exact hnd.1
  have hdis : ∀ x ∈ done, ∀ y ∈ e :: todo, x.1 ≠ y.1 := fun x hx y hy => by
    have : ads (done ++ e :: todo) = ads done ++ ads (e :: todo) := List.map_append
    rw [this, List.nodup_append] at hnd
    exact hnd.2.2 x.1 (List.mem_map.mpr ⟨x, hx, rfl⟩) y.1 (ads_of hy)
  have hlast : ∀ a, (bkt done 32 (hN e.2.1 % 32)).getLast? = some a → ∃ y ∈ done, y.1 = a ∧ hN y.2.1 % 32 = hN e.2.1 % 32 := fun a ha => by
    obtain ⟨y, k1, k2, k3⟩ := bkt_mem (bkt_last ha)
    exact ⟨y, k1, k2, k3⟩
  refine ⟨fun x hx hxj => ?_, fun x hx => ?_, fun x hx hl => ?_⟩
  · unfold set1
    rw [if_neg (fun q => ?_)]
    · exact h1 x hx hxj
    · obtain ⟨y, k1, k2, -⟩ := hlast _ q
      obtain ⟨m1, m2⟩ := hsub y (List.mem_append_left _ k1)
      rw [ads_inj hna m1 hx k2] at m2
      exact hxj m2
  · unfold set1
    rw [if_neg (fun q => ?_)]
    · exact h2 x (List.mem_cons_of_mem _ hx)
    · obtain ⟨y, k1, k2, -⟩ := hlast _ q
      exact hdis y k1 x (List.mem_cons_of_mem _ hx) k2
  · rw [bkt_app, bkt_one] at hl ⊢
    rcases List.mem_append.mp hx with hx | hx
    · by_cases hxe : hN e.2.1 % 32 = hN x.2.1 % 32
      · rw [if_pos hxe] at hl ⊢
        have hxm : x.1 ∈ bkt done 32 (hN x.2.1 % 32) := mem_bkt hx
        rw [suc_app (bkt_nodup hnd1 _ _) hxm]
        unfold set1
        rw [hxe]
        by_cases hs : suc (bkt done 32 (hN x.2.1 % 32)) x.1 = none
        · rw [if_pos hs, if_pos ((suc_last (bkt_nodup hnd1 _ _) hxm).mp hs)]
        · have hs2 := fun q => hs ((suc_last (bkt_nodup hnd1 _ _) hxm).mpr q)
          rw [if_neg hs, if_neg hs2]
          exact h3 x hx hs2
      · rw [if_neg hxe, List.append_nil] at hl ⊢
        unfold set1
        rw [if_neg (fun q => ?_)]
        · exact h3 x hx hl
        · obtain ⟨y, k1, k2, k3⟩ := hlast _ q
          rw [ads_inj hnd1 k1 hx k2] at k3
          exact hxe k3.symm
    · cases List.mem_singleton.mp hx
      rw [if_pos rfl] at hl
      exact absurd (by simp) hl
theorem RzN.fin {es : List Ent} {j : Nat} {nx : Ent → Option Nat} (hna : (ads es).Nodup) (hj : j < 16) (h : RzN es j (bk es j) [] nx) : ∀ x ∈ es, set1 (bkt (bk es j) 32 (j + 16)).getLast? none (set1 (bkt (bk es j) 32 j).getLast? none nx) x = if hN x.2.1 % 16 < j + 1 then nxB es 32 x else nxB es 16 x := by
  obtain ⟨h1, -, h3⟩ := h
  intro x hx
  rw [bk_lo hj, bk_hi hj]
  have hl : ∀ b, (bkt es 32 b).getLast? = some x.1 → hN x.2.1 % 32 = b := fun b q => (bkt_in hna hx).mp (bkt_last q)
  have hlt : ∀ b, hN x.2.1 % 32 ≠ b → ¬ (bkt es 32 b).getLast? = some x.1 := fun b q r => q (hl b r)
  unfold set1
  by_cases hxj : hN x.2.1 % 16 = j
  · rw [if_pos (by omega : hN x.2.1 % 16 < j + 1)]
    have hxb : x ∈ bk es j := List.mem_filter.mpr ⟨hx, by simpa using hxj⟩
    have hxm : x.1 ∈ bkt es 32 (hN x.2.1 % 32) := mem_bkt hx
    have hlst := suc_last (bkt_nodup hna 32 (hN x.2.1 % 32)) hxm
    have e3 := h3 x hxb
    rcases (by omega : hN x.2.1 % 32 = j ∨ hN x.2.1 % 32 = j + 16) with hb | hb
    · rw [if_neg (hlt (j + 16) (by omega))]
      rw [hb, bk_lo hj] at e3
      rw [hb] at hlst
      show _ = suc (bkt es 32 (hN x.2.1 % 32)) x.1
      rw [hb]
      by_cases hs : (bkt es 32 j).getLast? = some x.1
      · rw [if_pos hs, hlst.mpr hs]
      · rw [if_neg hs, e3 hs]
    · rw [hb, bk_hi hj] at e3
      rw [hb] at hlst
      show _ = suc (bkt es 32 (hN x.2.1 % 32)) x.1
      rw [hb]
      by_cases hs : (bkt es 32 (j + 16)).getLast? = some x.1
      · rw [if_pos hs, hlst.mpr hs]
      · rw [if_neg hs, if_neg (hlt j (by omega)), e3 hs]
  · rw [if_neg (hlt (j + 16) (by omega)), if_neg (hlt j (by omega)), h1 x hx hxj]
    by_cases hq : hN x.2.1 % 16 < j
    · rw [if_pos hq, if_pos (by omega)]
    · rw [if_neg hq, if_neg (by omega)]
/-- where the split begins -/
theorem RzN.beg {es : List Ent} {j : Nat} {nx : Ent → Option Nat} (h : ∀ x ∈ es, nx x = if hN x.2.1 % 16 < j then nxB es 32 x else nxB es 16 x) : RzN es j [] (bk es j) nx := by
  refine ⟨fun x hx _ => h x hx, fun x hx => ?_, fun x hx => (nomatch hx)⟩
  obtain ⟨h1, h2⟩ := List.mem_filter.mp hx
  rw [h x h1, if_neg]
  have : hN x.2.1 % 16 = j := by simpa using h2
  omega
theorem hd_last {α : Type} {l : List α} (h : l.getLast? = none) : l.head? = none := by
  rw [List.getLast?_eq_none_iff] at h
  rw [h]
  rfl
theorem fg_J4_88_J5 : LkG RJ4 88 ciJ5 4 := ⟨RJ5, TJ5, 12, tyJ5, _, cls_J5, by decide, Or.inl rfl, Or.inl q220⟩
theorem fp_J4_88_J5 {nm : String} : LkP RJ4 nm 88 ciJ5 4 (tyJ5 4) := ⟨RJ5, TJ5, 12, tyJ5, _, cls_J5, by decide, rfl, Or.inl rfl, Or.inl ⟨rfl, q220⟩⟩
theorem fp_J4_105_J5 {nm : String} : LkP RJ4 nm 105 ciJ5 0 (tyJ5 0) := ⟨RJ5, TJ5, 12, tyJ5, _, cls_J5, by decide, rfl, Or.inl rfl, Or.inl ⟨rfl, q212⟩⟩
set_option maxHeartbeats 4000000 in
set_option maxRecDepth 100000 in
theorem sp_J4_resizeA {l : Launch} {s0 : State} {D : va_G} {I : AI} {L : AL} {m : Nat} {a2 a3 a4 a6 a7 a8 a9 a10 a11 a12 : Value} (hΓ : Gam l s0 D) (h0 : L m = some (obC ciJ5 [.null, a2, a3, a4, .int 0, a6, a7, a8, a9, a10, a11, a12])) : Spc l s0 D yJ4_resize 1 [.ref m] I L 1 16 (fun r I' L' => I = I' ∧ ∃ q, L q = none ∧ r = some (.ref q) ∧ L' = up1 (up1 L q (some (.inl (arQ NODE 16 (fun _ => none))))) m (some (obC ciJ5 [.ref q, a2, a3, a4, .int (nI 12), a6, a7, a8, a9, a10, a11, a12]))) noX := by
  refine Spc.of hΓ cJ4_resize 14 (some (FieldType.array (FieldType.object "java/util/HashMap$Node"))) q1520 (by decide +kernel) (by decide) (Nat.le_of_ble_eq_true rfl) (fun G GX hG => ?_)
  refine hG.aload_n dJ4_resize_0 rfl ?_
  refine hG.get dJ4_resize_1 fg_J4_105_J5 (Or.inl h0) rfl ?_
  refine hG.astore_nN dJ4_resize_4 (by decide) ?_
  refine hG.aload_nN dJ4_resize_5 rfl ?_
  refine hG.ifnonnullN dJ4_resize_6 ?_
  refine hG.iconst (v := 0) dJ4_resize_9 rfl ?_
  refine hG.goto (tgt := 15) dJ4_resize_10 rfl ?_
  refine hG.istore_n dJ4_resize_15 (by decide) ?_
  refine hG.aload_n dJ4_resize_16 rfl ?_
  refine hG.get dJ4_resize_17 fg_J4_88_J5 (Or.inl h0) rfl ?_
  refine hG.istore_n dJ4_resize_20 (by decide) ?_
  refine hG.iconst (v := 0) dJ4_resize_21 rfl ?_
  refine hG.istore dJ4_resize_22 (by decide) ?_
  refine hG.iload_n dJ4_resize_24 rfl ?_
  refine hG.if_le (tgt := 67) dJ4_resize_25 rfl (fun c_25 => ?_) (fun c_25 => absurd (by decide +kernel) c_25)
  refine hG.iload_n dJ4_resize_67 rfl ?_
  refine hG.if_le (tgt := 77) dJ4_resize_68 rfl (fun c_68 => ?_) (fun c_68 => absurd (by decide +kernel) c_68)
  refine hG.bipush (v := 16) dJ4_resize_77 rfl ?_
  refine hG.istore dJ4_resize_79 (by decide) ?_
  refine hG.bipush (v := 12) dJ4_resize_81 rfl ?_
  refine hG.istore dJ4_resize_83 (by decide) ?_
  refine hG.iload dJ4_resize_85 rfl ?_
  refine hG.if_ne (tgt := 125) dJ4_resize_87 rfl (fun c_87 => ?_) (fun c_87 => absurd c_87 (by decide +kernel))
  refine hG.aload_n dJ4_resize_125 rfl ?_
  refine hG.iload dJ4_resize_126 rfl ?_
  refine hG.put dJ4_resize_128 fp_J4_88_J5 h0 rfl rfl (Nat.le_of_ble_eq_true rfl) ?_
  refine hG.iload dJ4_resize_131 rfl ?_
  refine hG.newq (C := NODE) (N := 16) dJ4_resize_133 q1524 q1525 (by decide) (by decide) (by decide) (by omega) (by omega) (fun q hLq hIq => ?_)
  have hqm : q ≠ m := fun e => by subst e; rw [up1_s] at hLq; cases hLq
  refine hG.astore dJ4_resize_136 (by decide) ?_
  refine hG.aload_n dJ4_resize_138 rfl ?_
  refine hG.aload dJ4_resize_139 rfl ?_
  refine hG.put dJ4_resize_141 fp_J4_105_J5 ((up1_n hqm.symm).trans up1_s) rfl rfl (Nat.le_of_ble_eq_true rfl) ?_
  refine hG.aload_nN dJ4_resize_144 rfl ?_
  refine hG.ifnullN (tgt := 353) dJ4_resize_145 rfl ?_
  refine hG.aload dJ4_resize_353 rfl ?_
  refine hG.aret dJ4_resize_355 rfl (by first | exact Or.inl ⟨_, rfl⟩ | exact Or.inr ⟨_, rfl⟩) (by first | exact Or.inr ⟨_, rfl⟩ | exact Or.inl rfl) ?_ (by omega) (by omega) trivial
  refine ⟨rfl, q, (up1_n hqm).symm.trans hLq, rfl, ?_⟩
  rw [up1_comm hqm.symm, up1_up1]
  rfl
/-- the state of the table's split -/
abbrev RzP (L : AL) (m tb q : Nat) (es : List Ent) (kr vr : Nat → Nat) (mv : List Value) (J : AI) (L' : AL) (f1 g : Nat → Option Nat) (nx : Ent → Option Nat) : Prop := L' m = some (obC ciJ5 mv) ∧ L' tb = some (.inl (arQ NODE 16 f1)) ∧ L' q = some (.inl (arQ NODE 32 g)) ∧ EntG J L' es nx (ads es) kr vr ∧ ∀ z, z ≠ m → z ≠ q → z ≠ tb → z ∉ ads es → L' z = L z
theorem CASTN : Cond.castable "java/util/LinkedHashMap$Entry" NODE ∈ lw_tbl := q3728
theorem hd_app {l : List Nat} {a e : Nat} (h : some a = l.getLast?) : (l ++ [e]).head? = l.head? := by
  cases l with
  | nil => cases h
  | cons x l => rfl
theorem fp_J4_177_J31 {nm : String} : LkP RJ4 nm 177 ciJ31 3 (tyJ31 3) := ⟨RJ31, TJ31, 6, tyJ31, _, cls_J31, by decide, rfl, Or.inl rfl, Or.inl ⟨rfl, q1445⟩⟩
set_option maxHeartbeats 4000000 in
set_option maxRecDepth 100000 in
theorem sp_J4_resizeB {l : Launch} {s0 : State} {D : va_G} {I : AI} {L : AL} {m tb : Nat} {a2 a3 a4 a6 a7 a8 a9 a10 a11 a12 : Value} {es : List Ent} {f : Nat → Option Nat} {kr vr : Nat → Nat} (hΓ : Gam l s0 D) (hNT : StN s0) (h0 : L m = some (obC ciJ5 [.ref tb, a2, a3, a4, .int (nI 12), a6, a7, a8, a9, a10, a11, a12])) (hna : (ads es).Nodup) (hme : m ∉ ads es) (htm : tb ≠ m) (hta : tb ∉ ads es) (hT1 : L tb = some (.inl (arQ NODE 16 f))) (hT2 : ∀ j, j < 16 → f j = (bkt es 16 j).head?) (hE : EntG I L es (nxB es 16) (ads es) kr vr) : Spc l s0 D yJ4_resize 1 [.ref m] I L 1 32 (fun r I' L' => I = I' ∧ ∃ q f', L q = none ∧ r = some (.ref q) ∧ L' m = some (obC ciJ5 [.ref q, a2, a3, a4, .int (nI 24), a6, a7, a8, a9, a10, a11, a12]) ∧ L' q = some (.inl (arQ NODE 32 f')) ∧ (∀ j, j < 32 → f' j = (bkt es 32 j).head?) ∧ EntG I L' es (nxB es 32) (ads es) kr vr ∧ ∀ z, z ≠ m → z ≠ q → z ≠ tb → z ∉ ads es → L' z = L z) noX := by
  refine Spc.of hΓ cJ4_resize 14 (some (FieldType.array (FieldType.object "java/util/HashMap$Node"))) q1520 (by decide +kernel) (by decide) (Nat.le_of_ble_eq_true rfl) (fun G GX hG => ?_)
  refine hG.aload_n dJ4_resize_0 rfl ?_
  refine hG.get dJ4_resize_1 fg_J4_105_J5 (Or.inl h0) rfl ?_
  refine hG.astore_n dJ4_resize_4 (by decide) ?_
  refine hG.aload_n dJ4_resize_5 rfl ?_
  refine hG.ifnonnull (tgt := 13) dJ4_resize_6 rfl ?_
  refine hG.aload_n dJ4_resize_13 rfl ?_
  refine hG.alen dJ4_resize_14 (Or.inl hT1) ?_
  change G _ _ (.int (nI 16) :: _) _ _ _ _
  refine hG.istore_n dJ4_resize_15 (by decide) ?_
  refine hG.aload_n dJ4_resize_16 rfl ?_
  refine hG.get dJ4_resize_17 fg_J4_88_J5 (Or.inl h0) rfl ?_
  refine hG.istore_n dJ4_resize_20 (by decide) ?_
  refine hG.iconst (v := 0) dJ4_resize_21 rfl ?_
  refine hG.istore dJ4_resize_22 (by decide) ?_
  refine hG.iload_n dJ4_resize_24 rfl ?_
  refine hG.if_le (tgt := 67) dJ4_resize_25 rfl (fun c_25 => absurd c_25 (by decide +kernel)) (fun c_25 => ?_)
  refine hG.iload_n dJ4_resize_28 rfl ?_
  refine hG.ldc dJ4_resize_29 q1521 ?_
  refine hG.icmp_lt (tgt := 42) dJ4_resize_31 rfl (fun c_31 => ?_) (fun c_31 => absurd (by decide +kernel) c_31)
  refine hG.iload_n dJ4_resize_42 rfl ?_
  refine hG.iconst (v := 1) dJ4_resize_43 rfl ?_
  refine hG.ishl dJ4_resize_44 ?_
  refine hG.dup dJ4_resize_45 rfl ?_
  refine hG.istore dJ4_resize_46 (by decide) ?_
  refine hG.ldc dJ4_resize_48 q1521 ?_
  refine hG.icmp_ge (tgt := 85) dJ4_resize_50 rfl (fun c_50 => absurd c_50 (by decide +kernel)) (fun c_50 => ?_)
  refine hG.iload_n dJ4_resize_53 rfl ?_
  refine hG.bipush (v := 16) dJ4_resize_54 rfl ?_
  refine hG.icmp_lt (tgt := 85) dJ4_resize_56 rfl (fun c_56 => absurd c_56 (by decide +kernel)) (fun c_56 => ?_)
  refine hG.iload_n dJ4_resize_59 rfl ?_
  refine hG.iconst (v := 1) dJ4_resize_60 rfl ?_
  refine hG.ishl dJ4_resize_61 ?_
  refine hG.istore dJ4_resize_62 (by decide) ?_
  refine hG.goto (tgt := 85) dJ4_resize_64 rfl ?_
  refine hG.iload dJ4_resize_85 rfl ?_
  refine hG.if_ne (tgt := 125) dJ4_resize_87 rfl (fun c_87 => ?_) (fun c_87 => absurd c_87 (by decide +kernel))
  refine hG.aload_n dJ4_resize_125 rfl ?_
  refine hG.iload dJ4_resize_126 rfl ?_
  refine hG.put dJ4_resize_128 fp_J4_88_J5 h0 rfl rfl (Nat.le_of_ble_eq_true rfl) ?_
  refine hG.iload dJ4_resize_131 rfl ?_
  refine hG.newq (C := NODE) (N := 32) dJ4_resize_133 q1524 q1525 (by decide) (by decide) (by decide) (by omega) (by omega) (fun q hLq hIq => ?_)
  have hqm : q ≠ m := fun e => by subst e; rw [up1_s] at hLq; cases hLq
  have hLq' : L q = none := (up1_n hqm).symm.trans hLq
  have hqa : q ∉ ads es := fun hm => by
    obtain ⟨x, hx, e⟩ := List.mem_map.mp hm
    have := (hE x hx).1
    rw [e, hLq'] at this
    cases this
  have htq : tb ≠ q := fun e => by rw [e, hLq'] at hT1; cases hT1
  refine hG.astore dJ4_resize_136 (by decide) ?_
  refine hG.aload_n dJ4_resize_138 rfl ?_
  refine hG.aload dJ4_resize_139 rfl ?_
  refine hG.put dJ4_resize_141 fp_J4_105_J5 ((up1_n hqm.symm).trans up1_s) rfl rfl (Nat.le_of_ble_eq_true rfl) ?_
  refine hG.aload_n dJ4_resize_144 rfl ?_
  refine hG.ifnull dJ4_resize_145 ?_
  refine hG.iconst (v := 0) dJ4_resize_148 rfl ?_
  refine hG.istore dJ4_resize_149 (by decide) ?_
  have k327 : ∀ (j : Nat) (lh lt hh ht : Option Nat) (f1 g : Nat → Option Nat) (nx : Ent → Option Nat) (L1 : AL), j < 16 → (hh = (bkt es 32 (j + 16)).head?) → (ht = (bkt es 32 (j + 16)).getLast?) → RzP L m tb q es kr vr [.ref q, a2, a3, a4, .int (nI 24), a6, a7, a8, a9, a10, a11, a12] I L1 f1 g nx → (∀ (g' : Nat → Option Nat) (L2 : AL), RzP L m tb q es kr vr [.ref q, a2, a3, a4, .int (nI 24), a6, a7, a8, a9, a10, a11, a12] I L2 f1 g' (set1 ht none nx) → (∀ i, i < 32 → g' i = if i = j + 16 then (bkt es 32 (j + 16)).head? else g i) → g (j + 16) = none → G 347 [(0, .ref m), (1, .ref tb), (2, .int (nI 16)), (4, .int (nI 32)), (6, .ref q), (7, .int (nI j))] [] I L2 1 32) → g (j + 16) = none → G 327 [(0, .ref m), (1, .ref tb), (2, .int (nI 16)), (4, .int (nI 32)), (6, .ref q), (7, .int (nI j)), (11, va_rf hh), (12, va_rf ht)] [] I L1 1 32 := by
    intro j lh lt hh ht f1 g nx L1 hj ehh eht hR kk hg0
    obtain ⟨hRm, hRt, hRq, hRE, hRo⟩ := hR
    rcases ht with _ | a
    · have e0 : hh = none := by rw [ehh]; exact hd_last eht.symm
      refine hG.aloadN dJ4_resize_327 rfl ?_
      refine hG.ifnullN (tgt := 347) dJ4_resize_329 rfl ?_
      exact hG.lsb [(0, .ref m), (1, .ref tb), (2, .int (nI 16)), (4, .int (nI 32)), (6, .ref q), (7, .int (nI j))] ⟨rfl, rfl, rfl, rfl, rfl, rfl, trivial⟩ (by
        refine kk g L1 (by rw [set1_none]; exact ⟨hRm, hRt, hRq, hRE, hRo⟩) (fun i hi => ?_) hg0
        by_cases e : i = j + 16
        · rw [if_pos e, e, hg0, ← ehh, e0]
        · rw [if_neg e])
    · obtain ⟨y, hy, rfl, hyb⟩ := bkt_mem (bkt_last eht.symm)
      have hy1 := (hRE y hy).1
      have hya := ads_of hy
      obtain ⟨hc, rfl⟩ : ∃ hc, hh = some hc := by
        rw [ehh]
        cases hq : (bkt es 32 (j + 16)).head? with
        | some x => exact ⟨x, rfl⟩
        | none => rw [List.head?_eq_none_iff] at hq; rw [hq] at eht; cases eht
      obtain ⟨w, hw, rfl, -⟩ := bkt_mem (List.mem_of_mem_head? ehh.symm)
      have hw1 := (hRE w hw).1
      refine hG.aload dJ4_resize_327 rfl ?_
      refine hG.ifnull dJ4_resize_329 ?_
      refine hG.aload dJ4_resize_332 rfl ?_
      refine hG.null dJ4_resize_334 ?_
      refine hG.put dJ4_resize_335 fp_J4_177_J31 hy1 rfl rfl (Nat.le_of_ble_eq_true rfl) ?_
      refine hG.aload dJ4_resize_338 rfl ?_
      refine hG.iload dJ4_resize_340 rfl ?_
      refine hG.iload_n dJ4_resize_342 rfl ?_
      refine hG.iadd dJ4_resize_343 ?_
      refine hG.aload dJ4_resize_344 rfl ?_
      have hcc : Rcv s0 D I (up1 L1 y.1 (some (obC ciJ31 [.int (nI (hN y.2.1)), .ref (kr y.1), .ref (vr y.1), .null, va_rf (prd (ads es) y.1), va_rf (suc (ads es) y.1)]))) w.1 "java/util/LinkedHashMap$Entry" := by
        by_cases e : w.1 = y.1
        · rw [e]; exact Rcv.raw up1_s cl_J31
        · exact Rcv.raw ((up1_n e).trans hw1) cl_J31
      rw [show nI j + nI 16 = nI (j + 16) from nI_add _ _]
      refine hG.aast dJ4_resize_346 ((up1_n (fun e => hqa (by rw [e]; exact hya))).trans hRq) hcc CASTN (vp_in_nI (by omega : j + 16 < 32) (by decide)) ?_
      rw [nI_clamp (by omega)]
      exact hG.lsb [(0, .ref m), (1, .ref tb), (2, .int (nI 16)), (4, .int (nI 32)), (6, .ref q), (7, .int (nI j))] ⟨rfl, rfl, rfl, rfl, rfl, rfl, trivial⟩ (by
        have hmy : m ≠ y.1 := fun e => hme (by rw [e]; exact hya)
        have hqy : q ≠ y.1 := fun e => hqa (by rw [e]; exact hya)
        have hty : tb ≠ y.1 := fun e => hta (by rw [e]; exact hya)
        refine kk _ _ ⟨by rw [up1_n hqm.symm, up1_n hmy]; exact hRm, by rw [up1_n htq, up1_n hty]; exact hRt, up1_s, ?_, fun z z1 z2 z3 z4 => by rw [up1_n z2, up1_n (fun e => z4 (by rw [e]; exact hya))]; exact hRo z z1 z2 z3 z4⟩ (fun i hi => ?_) hg0
        · refine (hRE.st1 hna hy none).congr (fun x hx => up1_n (fun e => hqa (by rw [← e]; exact List.mem_map.mpr ⟨x, hx, rfl⟩))) (fun _ _ => rfl) (fun _ _ => ⟨rfl, rfl⟩)
        · show (if i = j + 16 then some w.1 else g i) = _
          rw [← ehh])
  have k309 : ∀ (j : Nat) (lh lt hh ht : Option Nat) (f1 g : Nat → Option Nat) (nx : Ent → Option Nat) (L1 : AL), j < 16 → (lh = (bkt es 32 j).head?) → (lt = (bkt es 32 j).getLast?) → (hh = (bkt es 32 (j + 16)).head?) → (ht = (bkt es 32 (j + 16)).getLast?) → RzP L m tb q es kr vr [.ref q, a2, a3, a4, .int (nI 24), a6, a7, a8, a9, a10, a11, a12] I L1 f1 g nx → (∀ (g' : Nat → Option Nat) (L2 : AL), RzP L m tb q es kr vr [.ref q, a2, a3, a4, .int (nI 24), a6, a7, a8, a9, a10, a11, a12] I L2 f1 g' (set1 ht none (set1 lt none nx)) → (∀ i, i < 32 → g' i = if i = j + 16 then (bkt es 32 (j + 16)).head? else if i = j then (bkt es 32 j).head? else g i) → G 347 [(0, .ref m), (1, .ref tb), (2, .int (nI 16)), (4, .int (nI 32)), (6, .ref q), (7, .int (nI j))] [] I L2 1 32) → g j = none → g (j + 16) = none → G 309 [(0, .ref m), (1, .ref tb), (2, .int (nI 16)), (4, .int (nI 32)), (6, .ref q), (7, .int (nI j)), (9, va_rf lh), (10, va_rf lt), (11, va_rf hh), (12, va_rf ht)] [] I L1 1 32 := by
    intro j lh lt hh ht f1 g nx L1 hj elh elt ehh eht hR kk hg0 hg1
    obtain ⟨hRm, hRt, hRq, hRE, hRo⟩ := hR
    rcases lt with _ | a
    · have e0 : lh = none := by rw [elh]; exact hd_last elt.symm
      refine hG.aloadN dJ4_resize_309 rfl ?_
      refine hG.ifnullN (tgt := 327) dJ4_resize_311 rfl ?_
      exact hG.lsb [(0, .ref m), (1, .ref tb), (2, .int (nI 16)), (4, .int (nI 32)), (6, .ref q), (7, .int (nI j)), (11, va_rf hh), (12, va_rf ht)] ⟨rfl, rfl, rfl, rfl, rfl, rfl, rfl, rfl, trivial⟩ (by
        refine k327 j lh none hh ht f1 g nx L1 hj ehh eht ⟨hRm, hRt, hRq, hRE, hRo⟩ (fun g' L2 k1 k2 _ => kk g' L2 (by rw [set1_none]; exact k1) (fun i hi => ?_)) hg1
        rw [k2 i hi]
        by_cases e : i = j
        · rw [if_neg (by omega), if_neg (by omega), if_pos e, e, hg0, ← elh, e0]
        · rw [if_neg e])
    · obtain ⟨y, hy, rfl, hyb⟩ := bkt_mem (bkt_last elt.symm)
      have hy1 := (hRE y hy).1
      have hya := ads_of hy
      obtain ⟨hc, rfl⟩ : ∃ hc, lh = some hc := by
        rw [elh]
        cases hq : (bkt es 32 j).head? with
        | some x => exact ⟨x, rfl⟩
        | none => rw [List.head?_eq_none_iff] at hq; rw [hq] at elt; cases elt
      obtain ⟨w, hw, rfl, -⟩ := bkt_mem (List.mem_of_mem_head? elh.symm)
      have hw1 := (hRE w hw).1
      refine hG.aload dJ4_resize_309 rfl ?_
      refine hG.ifnull dJ4_resize_311 ?_
      refine hG.aload dJ4_resize_314 rfl ?_
      refine hG.null dJ4_resize_316 ?_
      refine hG.put dJ4_resize_317 fp_J4_177_J31 hy1 rfl rfl (Nat.le_of_ble_eq_true rfl) ?_
      refine hG.aload dJ4_resize_320 rfl ?_
      refine hG.iload dJ4_resize_322 rfl ?_
      refine hG.aload dJ4_resize_324 rfl ?_
      have hcc : Rcv s0 D I (up1 L1 y.1 (some (obC ciJ31 [.int (nI (hN y.2.1)), .ref (kr y.1), .ref (vr y.1), .null, va_rf (prd (ads es) y.1), va_rf (suc (ads es) y.1)]))) w.1 "java/util/LinkedHashMap$Entry" := by
        by_cases e : w.1 = y.1
        · rw [e]; exact Rcv.raw up1_s cl_J31
        · exact Rcv.raw ((up1_n e).trans hw1) cl_J31
      refine hG.aast dJ4_resize_326 ((up1_n (fun e => hqa (by rw [e]; exact hya))).trans hRq) hcc CASTN (vp_in_nI (by omega : j < 32) (by decide)) ?_
      rw [nI_clamp (by omega)]
      exact hG.lsb [(0, .ref m), (1, .ref tb), (2, .int (nI 16)), (4, .int (nI 32)), (6, .ref q), (7, .int (nI j)), (11, va_rf hh), (12, va_rf ht)] ⟨rfl, rfl, rfl, rfl, rfl, rfl, rfl, rfl, trivial⟩ (by
        have hmy : m ≠ y.1 := fun e => hme (by rw [e]; exact hya)
        have hqy : q ≠ y.1 := fun e => hqa (by rw [e]; exact hya)
        have hty : tb ≠ y.1 := fun e => hta (by rw [e]; exact hya)
        refine k327 j (some w.1) (some y.1) hh ht f1 _ (set1 (some y.1) none nx) _ hj ehh eht ⟨by rw [up1_n hqm.symm, up1_n hmy]; exact hRm, by rw [up1_n htq, up1_n hty]; exact hRt, up1_s, ?_, fun z z1 z2 z3 z4 => by rw [up1_n z2, up1_n (fun e => z4 (by rw [e]; exact hya))]; exact hRo z z1 z2 z3 z4⟩ (fun g' L2 k1 k2 _ => kk g' L2 k1 (fun i hi => ?_)) ?_
        · refine (hRE.st1 hna hy none).congr (fun x hx => up1_n (fun e => hqa (by rw [← e]; exact List.mem_map.mpr ⟨x, hx, rfl⟩))) (fun _ _ => rfl) (fun _ _ => ⟨rfl, rfl⟩)
        · rw [k2 i hi, ← elh]
          rfl
        · show (if j + 16 = j then some w.1 else g (j + 16)) = none
          rw [if_neg (by omega), hg1])
  have k235 : ∀ (j : Nat) (f1 g : Nat → Option Nat), j < 16 → g j = none → g (j + 16) = none → (∀ (g' : Nat → Option Nat) (nx : Ent → Option Nat) (L2 : AL), RzP L m tb q es kr vr [.ref q, a2, a3, a4, .int (nI 24), a6, a7, a8, a9, a10, a11, a12] I L2 f1 g' nx → (∀ x ∈ es, nx x = if hN x.2.1 % 16 < j + 1 then nxB es 32 x else nxB es 16 x) → (∀ i, i < 32 → g' i = if i = j + 16 then (bkt es 32 (j + 16)).head? else if i = j then (bkt es 32 j).head? else g i) → G 347 [(0, .ref m), (1, .ref tb), (2, .int (nI 16)), (4, .int (nI 32)), (6, .ref q), (7, .int (nI j))] [] I L2 1 32) → ∀ (todo done : List Ent) (e : Ent) (nx : Ent → Option Nat) (L1 : AL) (lh lt hh ht : Option Nat), bk es j = done ++ e :: todo → lh = (bkt done 32 j).head? → lt = (bkt done 32 j).getLast? → hh = (bkt done 32 (j + 16)).head? → ht = (bkt done 32 (j + 16)).getLast? → RzN es j done (e :: todo) nx → RzP L m tb q es kr vr [.ref q, a2, a3, a4, .int (nI 24), a6, a7, a8, a9, a10, a11, a12] I L1 f1 g nx → G 235 [(0, .ref m), (1, .ref tb), (2, .int (nI 16)), (4, .int (nI 32)), (6, .ref q), (7, .int (nI j)), (8, .ref e.1), (9, va_rf lh), (10, va_rf lt), (11, va_rf hh), (12, va_rf ht)] [] I L1 1 32 := by
    intro j f1 g hj hg0 hg1 kk todo
    induction todo with
    | nil =>
      intro done e nx L1 lh lt hh ht hb elh elt ehh eht hN9 hR
      have hsub : ∀ x, x ∈ done ++ e :: [] → x ∈ es ∧ hN x.2.1 % 16 = j := fun x hx => by
        rw [← hb] at hx
        obtain ⟨k1, k2⟩ := List.mem_filter.mp hx
        exact ⟨k1, by simpa using k2⟩
      have hnb : (ads (bk es j)).Nodup := ((List.filter_sublist).map _).nodup hna
      obtain ⟨hee, hej⟩ := hsub e (by simp)
      have hea : e.1 ∈ ads es := List.mem_map.mpr ⟨e, hee, rfl⟩
      obtain ⟨he1, he2, -⟩ := hR.2.2.2.1 e hee
      have hnx : nx e = (ads []).head? := by
        rw [hN9.2.1 e (by simp)]
        show suc (bkt es 16 (hN e.2.1 % 16)) e.1 = _
        rw [hej]
        refine suc_head (pre := ads done) hnb ?_
        show ads (bk es j) = _
        rw [hb]
        exact List.map_append
      unfold entG at he1
      rw [hnx] at he1
      have hstep := hN9.step hna hb
      have h301 : ∀ (nx2 : Ent → Option Nat) (L2 : AL) (lh2 lt2 hh2 ht2 : Option Nat), lh2 = (bkt (done ++ [e]) 32 j).head? → lt2 = (bkt (done ++ [e]) 32 j).getLast? → hh2 = (bkt (done ++ [e]) 32 (j + 16)).head? → ht2 = (bkt (done ++ [e]) 32 (j + 16)).getLast? → RzN es j (done ++ [e]) [] nx2 → RzP L m tb q es kr vr [.ref q, a2, a3, a4, .int (nI 24), a6, a7, a8, a9, a10, a11, a12] I L2 f1 g nx2 → G 301 [(0, .ref m), (1, .ref tb), (2, .int (nI 16)), (4, .int (nI 32)), (6, .ref q), (7, .int (nI j)), (9, va_rf lh2), (10, va_rf lt2), (11, va_rf hh2), (12, va_rf ht2), (13, va_rf (ads []).head?)] [] I L2 1 32 := by
        intro nx2 L2 lh2 lt2 hh2 ht2 elh2 elt2 ehh2 eht2 hN2 hR2
        refine hG.aloadN dJ4_resize_301 rfl ?_
        refine hG.dup dJ4_resize_303 rfl ?_
        refine hG.astoreN dJ4_resize_304 (by decide) ?_
        refine hG.ifnonnullN dJ4_resize_306 ?_
        have hall : done ++ [e] = bk es j := hb.symm
        rw [hall] at hN2 elh2 elt2 ehh2 eht2
        have hfin := hN2.fin hna hj
        rw [← elt2, ← eht2] at hfin
        rw [bk_lo hj] at elh2 elt2
        rw [bk_hi hj] at ehh2 eht2
        exact hG.lsb [(0, .ref m), (1, .ref tb), (2, .int (nI 16)), (4, .int (nI 32)), (6, .ref q), (7, .int (nI j)), (9, va_rf lh2), (10, va_rf lt2), (11, va_rf hh2), (12, va_rf ht2)] ⟨rfl, rfl, rfl, rfl, rfl, rfl, rfl, rfl, rfl, rfl, trivial⟩ (k309 j lh2 lt2 hh2 ht2 f1 g nx2 L2 hj elh2 elt2 ehh2 eht2 hR2 (fun g' L3 k1 k2 => kk g' _ L3 k1 hfin k2) hg0 hg1)
      have hlo : bkt (done ++ [e]) 32 j = bkt done 32 j ++ if hN e.2.1 % 32 = j then [e.1] else [] := by rw [bkt_app, bkt_one]
      have hhi : bkt (done ++ [e]) 32 (j + 16) = bkt done 32 (j + 16) ++ if hN e.2.1 % 32 = j + 16 then [e.1] else [] := by rw [bkt_app, bkt_one]
      have he8 := hN_lt he2
      obtain ⟨hRm, hRt, hRq, hRE, hRo⟩ := id hR
      by_cases hbit : hN e.2.1 % 32 < 16
      · have hb32 : hN e.2.1 % 32 = j := by omega
        rw [if_pos hb32] at hlo
        rw [if_neg (by omega), List.append_nil] at hhi
        rw [hb32] at hstep
        rcases lt with _ | a
        · have e0 : bkt done 32 j = [] := by rw [← List.getLast?_eq_none_iff]; exact elt.symm
          rw [← elt, set1_none] at hstep
          refine hG.aload dJ4_resize_235 rfl ?_
          refine hG.get dJ4_resize_237 fg_J4_177_J31 (Or.inl he1) rfl ?_
          refine hG.astoreQ dJ4_resize_240 (by decide) ?_
          refine hG.aload dJ4_resize_242 rfl ?_
          refine hG.get dJ4_resize_244 fg_J4_168_J31 (Or.inl he1) rfl ?_
          refine hG.iload_n dJ4_resize_247 rfl ?_
          refine hG.iand dJ4_resize_248 ?_
          refine hG.if_ne (tgt := 278) dJ4_resize_249 rfl (fun c_249 => absurd ((nI_bit he8).mpr hbit) c_249) (fun c_249 => ?_)
          refine hG.aloadN dJ4_resize_252 rfl ?_
          refine hG.ifnonnullN dJ4_resize_254 ?_
          refine hG.aload dJ4_resize_257 rfl ?_
          refine hG.astore dJ4_resize_259 (by decide) ?_
          refine hG.goto (tgt := 271) dJ4_resize_261 rfl ?_
          refine hG.aload dJ4_resize_271 rfl ?_
          refine hG.astore dJ4_resize_273 (by decide) ?_
          refine hG.goto (tgt := 301) dJ4_resize_275 rfl ?_
          exact hG.lsb [(0, .ref m), (1, .ref tb), (2, .int (nI 16)), (4, .int (nI 32)), (6, .ref q), (7, .int (nI j)), (9, va_rf (some e.1)), (10, va_rf (some e.1)), (11, va_rf (hh)), (12, va_rf (ht)), (13, va_rf (ads []).head?)] (by refine ⟨rfl, rfl, rfl, rfl, rfl, rfl, ?_, ?_, ?_, ?_, ?_, trivial⟩ <;> first | rfl | (cases ht <;> rfl) | (cases lh <;> cases ht <;> rfl) | (cases lt <;> rfl) | (cases hh <;> rfl)) (h301 nx L1 (some e.1) (some e.1) hh ht (by rw [hlo, e0]; rfl) (by rw [hlo, e0]; rfl) (by rw [hhi]; exact ehh) (by rw [hhi]; exact eht) hstep hR)
        · obtain ⟨y, hy, rfl, hyb⟩ := bkt_mem (bkt_last elt.symm)
          have hye := (hsub y (List.mem_append_left _ hy)).1
          have hy1 := (hRE y hye).1
          have hya := ads_of hye
          rw [← elt] at hstep
          refine hG.aload dJ4_resize_235 rfl ?_
          refine hG.get dJ4_resize_237 fg_J4_177_J31 (Or.inl he1) rfl ?_
          refine hG.astoreQ dJ4_resize_240 (by decide) ?_
          refine hG.aload dJ4_resize_242 rfl ?_
          refine hG.get dJ4_resize_244 fg_J4_168_J31 (Or.inl he1) rfl ?_
          refine hG.iload_n dJ4_resize_247 rfl ?_
          refine hG.iand dJ4_resize_248 ?_
          refine hG.if_ne (tgt := 278) dJ4_resize_249 rfl (fun c_249 => absurd ((nI_bit he8).mpr hbit) c_249) (fun c_249 => ?_)
          refine hG.aload dJ4_resize_252 rfl ?_
          refine hG.ifnonnull (tgt := 264) dJ4_resize_254 rfl ?_
          refine hG.aload dJ4_resize_264 rfl ?_
          refine hG.aload dJ4_resize_266 rfl ?_
          refine hG.put dJ4_resize_268 fp_J4_177_J31 hy1 rfl rfl (Nat.le_of_ble_eq_true rfl) ?_
          refine hG.aload dJ4_resize_271 rfl ?_
          refine hG.astore dJ4_resize_273 (by decide) ?_
          refine hG.goto (tgt := 301) dJ4_resize_275 rfl ?_
          exact hG.lsb [(0, .ref m), (1, .ref tb), (2, .int (nI 16)), (4, .int (nI 32)), (6, .ref q), (7, .int (nI j)), (9, va_rf (lh)), (10, va_rf (some e.1)), (11, va_rf (hh)), (12, va_rf (ht)), (13, va_rf (ads []).head?)] (by refine ⟨rfl, rfl, rfl, rfl, rfl, rfl, ?_, ?_, ?_, ?_, ?_, trivial⟩ <;> first | rfl | (cases ht <;> rfl) | (cases lh <;> cases ht <;> rfl) | (cases lt <;> rfl) | (cases hh <;> rfl)) (h301 _ _ lh (some e.1) hh ht (by rw [hlo, hd_app elt]; exact elh) (by rw [hlo]; simp) (by rw [hhi]; exact ehh) (by rw [hhi]; exact eht) hstep ⟨by rw [up1_n (fun e => hme (by rw [e]; exact hya))]; exact hRm, by rw [up1_n (fun e => hta (by rw [e]; exact hya))]; exact hRt, by rw [up1_n (fun e => hqa (by rw [e]; exact hya))]; exact hRq, hRE.st1 hna hye (some e.1), fun z z1 z2 z3 z4 => by rw [up1_n (fun e => z4 (by rw [e]; exact hya))]; exact hRo z z1 z2 z3 z4⟩)
      · have hb32 : hN e.2.1 % 32 = j + 16 := by omega
        rw [if_pos hb32] at hhi
        rw [if_neg (by omega), List.append_nil] at hlo
        rw [hb32] at hstep
        rcases ht with _ | a
        · have e0 : bkt done 32 (j + 16) = [] := by rw [← List.getLast?_eq_none_iff]; exact eht.symm
          rw [← eht, set1_none] at hstep
          refine hG.aload dJ4_resize_235 rfl ?_
          refine hG.get dJ4_resize_237 fg_J4_177_J31 (Or.inl he1) rfl ?_
          refine hG.astoreQ dJ4_resize_240 (by decide) ?_
          refine hG.aload dJ4_resize_242 rfl ?_
          refine hG.get dJ4_resize_244 fg_J4_168_J31 (Or.inl he1) rfl ?_
          refine hG.iload_n dJ4_resize_247 rfl ?_
          refine hG.iand dJ4_resize_248 ?_
          refine hG.if_ne (tgt := 278) dJ4_resize_249 rfl (fun c_249 => ?_) (fun c_249 => absurd c_249 (fun c => hbit ((nI_bit he8).mp c)))
          refine hG.aloadN dJ4_resize_278 rfl ?_
          refine hG.ifnonnullN dJ4_resize_280 ?_
          refine hG.aload dJ4_resize_283 rfl ?_
          refine hG.astore dJ4_resize_285 (by decide) ?_
          refine hG.goto (tgt := 297) dJ4_resize_287 rfl ?_
          refine hG.aload dJ4_resize_297 rfl ?_
          refine hG.astore dJ4_resize_299 (by decide) ?_
          exact hG.lsb [(0, .ref m), (1, .ref tb), (2, .int (nI 16)), (4, .int (nI 32)), (6, .ref q), (7, .int (nI j)), (9, va_rf (lh)), (10, va_rf (lt)), (11, va_rf (some e.1)), (12, va_rf (some e.1)), (13, va_rf (ads []).head?)] (by refine ⟨rfl, rfl, rfl, rfl, rfl, rfl, ?_, ?_, ?_, ?_, ?_, trivial⟩ <;> first | rfl | (cases ht <;> rfl) | (cases lh <;> cases ht <;> rfl) | (cases lt <;> rfl) | (cases hh <;> rfl)) (h301 nx L1 lh lt (some e.1) (some e.1) (by rw [hlo]; exact elh) (by rw [hlo]; exact elt) (by rw [hhi, e0]; rfl) (by rw [hhi, e0]; rfl) hstep hR)
        · obtain ⟨y, hy, rfl, hyb⟩ := bkt_mem (bkt_last eht.symm)
          have hye := (hsub y (List.mem_append_left _ hy)).1
          have hy1 := (hRE y hye).1
          have hya := ads_of hye
          rw [← eht] at hstep
          refine hG.aload dJ4_resize_235 rfl ?_
          refine hG.get dJ4_resize_237 fg_J4_177_J31 (Or.inl he1) rfl ?_
          refine hG.astoreQ dJ4_resize_240 (by decide) ?_
          refine hG.aload dJ4_resize_242 rfl ?_
          refine hG.get dJ4_resize_244 fg_J4_168_J31 (Or.inl he1) rfl ?_
          refine hG.iload_n dJ4_resize_247 rfl ?_
          refine hG.iand dJ4_resize_248 ?_
          refine hG.if_ne (tgt := 278) dJ4_resize_249 rfl (fun c_249 => ?_) (fun c_249 => absurd c_249 (fun c => hbit ((nI_bit he8).mp c)))
          refine hG.aload dJ4_resize_278 rfl ?_
          refine hG.ifnonnull (tgt := 290) dJ4_resize_280 rfl ?_
          refine hG.aload dJ4_resize_290 rfl ?_
          refine hG.aload dJ4_resize_292 rfl ?_
          refine hG.put dJ4_resize_294 fp_J4_177_J31 hy1 rfl rfl (Nat.le_of_ble_eq_true rfl) ?_
          refine hG.aload dJ4_resize_297 rfl ?_
          refine hG.astore dJ4_resize_299 (by decide) ?_
          exact hG.lsb [(0, .ref m), (1, .ref tb), (2, .int (nI 16)), (4, .int (nI 32)), (6, .ref q), (7, .int (nI j)), (9, va_rf (lh)), (10, va_rf (lt)), (11, va_rf (hh)), (12, va_rf (some e.1)), (13, va_rf (ads []).head?)] (by refine ⟨rfl, rfl, rfl, rfl, rfl, rfl, ?_, ?_, ?_, ?_, ?_, trivial⟩ <;> first | rfl | (cases ht <;> rfl) | (cases lh <;> cases ht <;> rfl) | (cases lt <;> rfl) | (cases hh <;> rfl)) (h301 _ _ lh lt hh (some e.1) (by rw [hlo]; exact elh) (by rw [hlo]; exact elt) (by rw [hhi, hd_app eht]; exact ehh) (by rw [hhi]; simp) hstep ⟨by rw [up1_n (fun e => hme (by rw [e]; exact hya))]; exact hRm, by rw [up1_n (fun e => hta (by rw [e]; exact hya))]; exact hRt, by rw [up1_n (fun e => hqa (by rw [e]; exact hya))]; exact hRq, hRE.st1 hna hye (some e.1), fun z z1 z2 z3 z4 => by rw [up1_n (fun e => z4 (by rw [e]; exact hya))]; exact hRo z z1 z2 z3 z4⟩)
    | cons e2 todo ih =>
      intro done e nx L1 lh lt hh ht hb elh elt ehh eht hN9 hR
      have hsub : ∀ x, x ∈ done ++ e :: (e2 :: todo) → x ∈ es ∧ hN x.2.1 % 16 = j := fun x hx => by
        rw [← hb] at hx
        obtain ⟨k1, k2⟩ := List.mem_filter.mp hx
        exact ⟨k1, by simpa using k2⟩
      have hnb : (ads (bk es j)).Nodup := ((List.filter_sublist).map _).nodup hna
      obtain ⟨hee, hej⟩ := hsub e (by simp)
      have hea : e.1 ∈ ads es := List.mem_map.mpr ⟨e, hee, rfl⟩
      obtain ⟨he1, he2, -⟩ := hR.2.2.2.1 e hee
      have hnx : nx e = (ads (e2 :: todo)).head? := by
        rw [hN9.2.1 e (by simp)]
        show suc (bkt es 16 (hN e.2.1 % 16)) e.1 = _
        rw [hej]
        refine suc_head (pre := ads done) hnb ?_
        show ads (bk es j) = _
        rw [hb]
        exact List.map_append
      unfold entG at he1
      rw [hnx] at he1
      have hstep := hN9.step hna hb
      have h301 : ∀ (nx2 : Ent → Option Nat) (L2 : AL) (lh2 lt2 hh2 ht2 : Option Nat), lh2 = (bkt (done ++ [e]) 32 j).head? → lt2 = (bkt (done ++ [e]) 32 j).getLast? → hh2 = (bkt (done ++ [e]) 32 (j + 16)).head? → ht2 = (bkt (done ++ [e]) 32 (j + 16)).getLast? → RzN es j (done ++ [e]) (e2 :: todo) nx2 → RzP L m tb q es kr vr [.ref q, a2, a3, a4, .int (nI 24), a6, a7, a8, a9, a10, a11, a12] I L2 f1 g nx2 → G 301 [(0, .ref m), (1, .ref tb), (2, .int (nI 16)), (4, .int (nI 32)), (6, .ref q), (7, .int (nI j)), (9, va_rf lh2), (10, va_rf lt2), (11, va_rf hh2), (12, va_rf ht2), (13, va_rf (ads (e2 :: todo)).head?)] [] I L2 1 32 := by
        intro nx2 L2 lh2 lt2 hh2 ht2 elh2 elt2 ehh2 eht2 hN2 hR2
        refine hG.aload dJ4_resize_301 rfl ?_
        refine hG.dup dJ4_resize_303 rfl ?_
        refine hG.astore dJ4_resize_304 (by decide) ?_
        refine hG.ifnonnull (tgt := 235) dJ4_resize_306 rfl ?_
        exact hG.lsb [(0, .ref m), (1, .ref tb), (2, .int (nI 16)), (4, .int (nI 32)), (6, .ref q), (7, .int (nI j)), (8, .ref e2.1), (9, va_rf lh2), (10, va_rf lt2), (11, va_rf hh2), (12, va_rf ht2)] ⟨rfl, rfl, rfl, rfl, rfl, rfl, rfl, rfl, rfl, rfl, rfl, trivial⟩ (ih (done ++ [e]) e2 nx2 L2 lh2 lt2 hh2 ht2 (by rw [hb]; simp) elh2 elt2 ehh2 eht2 hN2 hR2)
      have hlo : bkt (done ++ [e]) 32 j = bkt done 32 j ++ if hN e.2.1 % 32 = j then [e.1] else [] := by rw [bkt_app, bkt_one]
      have hhi : bkt (done ++ [e]) 32 (j + 16) = bkt done 32 (j + 16) ++ if hN e.2.1 % 32 = j + 16 then [e.1] else [] := by rw [bkt_app, bkt_one]
      have he8 := hN_lt he2
      obtain ⟨hRm, hRt, hRq, hRE, hRo⟩ := id hR
      by_cases hbit : hN e.2.1 % 32 < 16
      · have hb32 : hN e.2.1 % 32 = j := by omega
        rw [if_pos hb32] at hlo
        rw [if_neg (by omega), List.append_nil] at hhi
        rw [hb32] at hstep
        rcases lt with _ | a
        · have e0 : bkt done 32 j = [] := by rw [← List.getLast?_eq_none_iff]; exact elt.symm
          rw [← elt, set1_none] at hstep
          refine hG.aload dJ4_resize_235 rfl ?_
          refine hG.get dJ4_resize_237 fg_J4_177_J31 (Or.inl he1) rfl ?_
          refine hG.astoreQ dJ4_resize_240 (by decide) ?_
          refine hG.aload dJ4_resize_242 rfl ?_
          refine hG.get dJ4_resize_244 fg_J4_168_J31 (Or.inl he1) rfl ?_
          refine hG.iload_n dJ4_resize_247 rfl ?_
          refine hG.iand dJ4_resize_248 ?_
          refine hG.if_ne (tgt := 278) dJ4_resize_249 rfl (fun c_249 => absurd ((nI_bit he8).mpr hbit) c_249) (fun c_249 => ?_)
          refine hG.aloadN dJ4_resize_252 rfl ?_
          refine hG.ifnonnullN dJ4_resize_254 ?_
          refine hG.aload dJ4_resize_257 rfl ?_
          refine hG.astore dJ4_resize_259 (by decide) ?_
          refine hG.goto (tgt := 271) dJ4_resize_261 rfl ?_
          refine hG.aload dJ4_resize_271 rfl ?_
          refine hG.astore dJ4_resize_273 (by decide) ?_
          refine hG.goto (tgt := 301) dJ4_resize_275 rfl ?_
          exact hG.lsb [(0, .ref m), (1, .ref tb), (2, .int (nI 16)), (4, .int (nI 32)), (6, .ref q), (7, .int (nI j)), (9, va_rf (some e.1)), (10, va_rf (some e.1)), (11, va_rf (hh)), (12, va_rf (ht)), (13, va_rf (ads (e2 :: todo)).head?)] (by refine ⟨rfl, rfl, rfl, rfl, rfl, rfl, ?_, ?_, ?_, ?_, ?_, trivial⟩ <;> first | rfl | (cases ht <;> rfl) | (cases lh <;> cases ht <;> rfl) | (cases lt <;> rfl) | (cases hh <;> rfl)) (h301 nx L1 (some e.1) (some e.1) hh ht (by rw [hlo, e0]; rfl) (by rw [hlo, e0]; rfl) (by rw [hhi]; exact ehh) (by rw [hhi]; exact eht) hstep hR)
        · obtain ⟨y, hy, rfl, hyb⟩ := bkt_mem (bkt_last elt.symm)
          have hye := (hsub y (List.mem_append_left _ hy)).1
          have hy1 := (hRE y hye).1
          have hya := ads_of hye
          rw [← elt] at hstep
          refine hG.aload dJ4_resize_235 rfl ?_
          refine hG.get dJ4_resize_237 fg_J4_177_J31 (Or.inl he1) rfl ?_
          refine hG.astoreQ dJ4_resize_240 (by decide) ?_
          refine hG.aload dJ4_resize_242 rfl ?_
          refine hG.get dJ4_resize_244 fg_J4_168_J31 (Or.inl he1) rfl ?_
          refine hG.iload_n dJ4_resize_247 rfl ?_
          refine hG.iand dJ4_resize_248 ?_
          refine hG.if_ne (tgt := 278) dJ4_resize_249 rfl (fun c_249 => absurd ((nI_bit he8).mpr hbit) c_249) (fun c_249 => ?_)
          refine hG.aload dJ4_resize_252 rfl ?_
          refine hG.ifnonnull (tgt := 264) dJ4_resize_254 rfl ?_
          refine hG.aload dJ4_resize_264 rfl ?_
          refine hG.aload dJ4_resize_266 rfl ?_
          refine hG.put dJ4_resize_268 fp_J4_177_J31 hy1 rfl rfl (Nat.le_of_ble_eq_true rfl) ?_
          refine hG.aload dJ4_resize_271 rfl ?_
          refine hG.astore dJ4_resize_273 (by decide) ?_
          refine hG.goto (tgt := 301) dJ4_resize_275 rfl ?_
          exact hG.lsb [(0, .ref m), (1, .ref tb), (2, .int (nI 16)), (4, .int (nI 32)), (6, .ref q), (7, .int (nI j)), (9, va_rf (lh)), (10, va_rf (some e.1)), (11, va_rf (hh)), (12, va_rf (ht)), (13, va_rf (ads (e2 :: todo)).head?)] (by refine ⟨rfl, rfl, rfl, rfl, rfl, rfl, ?_, ?_, ?_, ?_, ?_, trivial⟩ <;> first | rfl | (cases ht <;> rfl) | (cases lh <;> cases ht <;> rfl) | (cases lt <;> rfl) | (cases hh <;> rfl)) (h301 _ _ lh (some e.1) hh ht (by rw [hlo, hd_app elt]; exact elh) (by rw [hlo]; simp) (by rw [hhi]; exact ehh) (by rw [hhi]; exact eht) hstep ⟨by rw [up1_n (fun e => hme (by rw [e]; exact hya))]; exact hRm, by rw [up1_n (fun e => hta (by rw [e]; exact hya))]; exact hRt, by rw [up1_n (fun e => hqa (by rw [e]; exact hya))]; exact hRq, hRE.st1 hna hye (some e.1), fun z z1 z2 z3 z4 => by rw [up1_n (fun e => z4 (by rw [e]; exact hya))]; exact hRo z z1 z2 z3 z4⟩)
      · have hb32 : hN e.2.1 % 32 = j + 16 := by omega
        rw [if_pos hb32] at hhi
        rw [if_neg (by omega), List.append_nil] at hlo
        rw [hb32] at hstep
        rcases ht with _ | a
        · have e0 : bkt done 32 (j + 16) = [] := by rw [← List.getLast?_eq_none_iff]; exact eht.symm
          rw [← eht, set1_none] at hstep
          refine hG.aload dJ4_resize_235 rfl ?_
          refine hG.get dJ4_resize_237 fg_J4_177_J31 (Or.inl he1) rfl ?_
          refine hG.astoreQ dJ4_resize_240 (by decide) ?_
          refine hG.aload dJ4_resize_242 rfl ?_
          refine hG.get dJ4_resize_244 fg_J4_168_J31 (Or.inl he1) rfl ?_
          refine hG.iload_n dJ4_resize_247 rfl ?_
          refine hG.iand dJ4_resize_248 ?_
          refine hG.if_ne (tgt := 278) dJ4_resize_249 rfl (fun c_249 => ?_) (fun c_249 => absurd c_249 (fun c => hbit ((nI_bit he8).mp c)))
          refine hG.aloadN dJ4_resize_278 rfl ?_
          refine hG.ifnonnullN dJ4_resize_280 ?_
          refine hG.aload dJ4_resize_283 rfl ?_
          refine hG.astore dJ4_resize_285 (by decide) ?_
          refine hG.goto (tgt := 297) dJ4_resize_287 rfl ?_
          refine hG.aload dJ4_resize_297 rfl ?_
          refine hG.astore dJ4_resize_299 (by decide) ?_
          exact hG.lsb [(0, .ref m), (1, .ref tb), (2, .int (nI 16)), (4, .int (nI 32)), (6, .ref q), (7, .int (nI j)), (9, va_rf (lh)), (10, va_rf (lt)), (11, va_rf (some e.1)), (12, va_rf (some e.1)), (13, va_rf (ads (e2 :: todo)).head?)] (by refine ⟨rfl, rfl, rfl, rfl, rfl, rfl, ?_, ?_, ?_, ?_, ?_, trivial⟩ <;> first | rfl | (cases ht <;> rfl) | (cases lh <;> cases ht <;> rfl) | (cases lt <;> rfl) | (cases hh <;> rfl)) (h301 nx L1 lh lt (some e.1) (some e.1) (by rw [hlo]; exact elh) (by rw [hlo]; exact elt) (by rw [hhi, e0]; rfl) (by rw [hhi, e0]; rfl) hstep hR)
        · obtain ⟨y, hy, rfl, hyb⟩ := bkt_mem (bkt_last eht.symm)
          have hye := (hsub y (List.mem_append_left _ hy)).1
          have hy1 := (hRE y hye).1
          have hya := ads_of hye
          rw [← eht] at hstep
          refine hG.aload dJ4_resize_235 rfl ?_
          refine hG.get dJ4_resize_237 fg_J4_177_J31 (Or.inl he1) rfl ?_
          refine hG.astoreQ dJ4_resize_240 (by decide) ?_
          refine hG.aload dJ4_resize_242 rfl ?_
          refine hG.get dJ4_resize_244 fg_J4_168_J31 (Or.inl he1) rfl ?_
          refine hG.iload_n dJ4_resize_247 rfl ?_
          refine hG.iand dJ4_resize_248 ?_
          refine hG.if_ne (tgt := 278) dJ4_resize_249 rfl (fun c_249 => ?_) (fun c_249 => absurd c_249 (fun c => hbit ((nI_bit he8).mp c)))
          refine hG.aload dJ4_resize_278 rfl ?_
          refine hG.ifnonnull (tgt := 290) dJ4_resize_280 rfl ?_
          refine hG.aload dJ4_resize_290 rfl ?_
          refine hG.aload dJ4_resize_292 rfl ?_
          refine hG.put dJ4_resize_294 fp_J4_177_J31 hy1 rfl rfl (Nat.le_of_ble_eq_true rfl) ?_
          refine hG.aload dJ4_resize_297 rfl ?_
          refine hG.astore dJ4_resize_299 (by decide) ?_
          exact hG.lsb [(0, .ref m), (1, .ref tb), (2, .int (nI 16)), (4, .int (nI 32)), (6, .ref q), (7, .int (nI j)), (9, va_rf (lh)), (10, va_rf (lt)), (11, va_rf (hh)), (12, va_rf (some e.1)), (13, va_rf (ads (e2 :: todo)).head?)] (by refine ⟨rfl, rfl, rfl, rfl, rfl, rfl, ?_, ?_, ?_, ?_, ?_, trivial⟩ <;> first | rfl | (cases ht <;> rfl) | (cases lh <;> cases ht <;> rfl) | (cases lt <;> rfl) | (cases hh <;> rfl)) (h301 _ _ lh lt hh (some e.1) (by rw [hlo]; exact elh) (by rw [hlo]; exact elt) (by rw [hhi, hd_app eht]; exact ehh) (by rw [hhi]; simp) hstep ⟨by rw [up1_n (fun e => hme (by rw [e]; exact hya))]; exact hRm, by rw [up1_n (fun e => hta (by rw [e]; exact hya))]; exact hRt, by rw [up1_n (fun e => hqa (by rw [e]; exact hya))]; exact hRq, hRE.st1 hna hye (some e.1), fun z z1 z2 z3 z4 => by rw [up1_n (fun e => z4 (by rw [e]; exact hya))]; exact hRo z z1 z2 z3 z4⟩)
  have k151 : ∀ (r j : Nat) (f1 g : Nat → Option Nat) (nx : Ent → Option Nat) (L1 : AL), j + r = 16 → RzP L m tb q es kr vr [.ref q, a2, a3, a4, .int (nI 24), a6, a7, a8, a9, a10, a11, a12] I L1 f1 g nx → (∀ x ∈ es, nx x = if hN x.2.1 % 16 < j then nxB es 32 x else nxB es 16 x) → (∀ i, j ≤ i → i < 16 → f1 i = (bkt es 16 i).head?) → (∀ i, i < 32 → g i = if i % 16 < j then (bkt es 32 i).head? else none) → G 151 [(0, .ref m), (1, .ref tb), (2, .int (nI 16)), (4, .int (nI 32)), (6, .ref q), (7, .int (nI j))] [] I L1 1 32 := by
    intro r
    induction r with
    | zero =>
      intro j f1 g nx L1 hjr hR hnx hf1 hg
      have hj : j = 16 := by omega
      subst hj
      refine hG.iload dJ4_resize_151 rfl ?_
      refine hG.iload_n dJ4_resize_153 rfl ?_
      refine hG.icmp_ge (tgt := 353) dJ4_resize_154 rfl (fun c_154 => ?_) (fun c_154 => absurd (by decide +kernel) c_154)
      refine hG.aload dJ4_resize_353 rfl ?_
      refine hG.aret dJ4_resize_355 rfl (by first | exact Or.inl ⟨_, rfl⟩ | exact Or.inr ⟨_, rfl⟩) (by first | exact Or.inr ⟨_, rfl⟩ | exact Or.inl rfl) ?_ (by omega) (by omega) trivial
      obtain ⟨hRm, hRt, hRq, hRE, hRo⟩ := hR
      refine ⟨rfl, q, g, hLq', rfl, hRm, hRq, fun i hi => ?_, hRE.congr (fun _ _ => rfl) (fun x hx => ?_) (fun _ _ => ⟨rfl, rfl⟩), hRo⟩
      · rw [hg i hi, if_pos (Nat.mod_lt _ (by decide))]
      · rw [hnx x hx, if_pos (Nat.mod_lt _ (by decide))]
    | succ r ih =>
      intro j f1 g nx L1 hjr hR hnx hf1 hg
      have hj : j < 16 := by omega
      have hg0 : g j = none := by rw [hg j (by omega), if_neg (by omega)]
      have hg1 : g (j + 16) = none := by rw [hg (j + 16) (by omega), if_neg (by omega)]
      have hnxt : ∀ (f2 g' : Nat → Option Nat) (nx2 : Ent → Option Nat) (L2 : AL), (∀ i, i ≠ j → f2 i = f1 i) → RzP L m tb q es kr vr [.ref q, a2, a3, a4, .int (nI 24), a6, a7, a8, a9, a10, a11, a12] I L2 f2 g' nx2 → (∀ x ∈ es, nx2 x = if hN x.2.1 % 16 < j + 1 then nxB es 32 x else nxB es 16 x) → (∀ i, i < 32 → g' i = if i = j + 16 then (bkt es 32 (j + 16)).head? else if i = j then (bkt es 32 j).head? else g i) → G 347 [(0, .ref m), (1, .ref tb), (2, .int (nI 16)), (4, .int (nI 32)), (6, .ref q), (7, .int (nI j))] [] I L2 1 32 := by
        intro f2 g' nx2 L2 hf2 hR2 hnx2 hg2
        refine hG.iinc dJ4_resize_347 rfl (by decide) ?_
        refine hG.goto (tgt := 151) dJ4_resize_350 rfl ?_
        refine hG.lsb [(0, .ref m), (1, .ref tb), (2, .int (nI 16)), (4, .int (nI 32)), (6, .ref q), (7, .int (nI j + Int32.ofInt 1))] ⟨rfl, rfl, rfl, rfl, rfl, rfl, trivial⟩ ?_
        rw [show nI j + Int32.ofInt 1 = nI (j + 1) from nI_add j 1]
        refine ih (j + 1) f2 g' nx2 L2 (by omega) hR2 hnx2 (fun i h1 h2 => ?_) (fun i hi => ?_)
        · rw [hf2 i (by omega)]; exact hf1 i (by omega) h2
        · rw [hg2 i hi]
          by_cases e1 : i = j + 16
          · rw [if_pos e1, if_pos (by omega), e1]
          · rw [if_neg e1]
            by_cases e2 : i = j
            · rw [if_pos e2, if_pos (by omega), e2]
            · rw [if_neg e2, hg i hi]
              by_cases e3 : i % 16 < j
              · rw [if_pos e3, if_pos (by omega)]
              · rw [if_neg e3, if_neg (by omega)]
      obtain ⟨hRm, hRt, hRq, hRE, hRo⟩ := id hR
      have hbe : (bkt es 16 j).head? = (ads (bk es j)).head? := rfl
      have hnb : (ads (bk es j)).Nodup := ((List.filter_sublist).map _).nodup hna
      rcases hB : bk es j with _ | ⟨e, todo⟩
      · rw [hB] at hbe
        refine hG.iload dJ4_resize_151 rfl ?_
        refine hG.iload_n dJ4_resize_153 rfl ?_
        refine hG.icmp_ge (tgt := 353) dJ4_resize_154 rfl (fun c_154 => absurd c_154 (nI_ge hj (by decide))) (fun c_154 => ?_)
        refine hG.aload_n dJ4_resize_157 rfl ?_
        refine hG.iload dJ4_resize_158 rfl ?_
        refine hG.aald dJ4_resize_160 (Or.inl hRt) (vp_in_nI hj (by decide)) ?_
        rw [nI_clamp (by omega), hf1 j (Nat.le_refl _) hj, hbe]
        refine hG.dup dJ4_resize_161 rfl ?_
        refine hG.astoreN dJ4_resize_162 (by decide) ?_
        refine hG.ifnullN (tgt := 347) dJ4_resize_164 rfl ?_
        exact hG.lsb [(0, .ref m), (1, .ref tb), (2, .int (nI 16)), (4, .int (nI 32)), (6, .ref q), (7, .int (nI j))] ⟨rfl, rfl, rfl, rfl, rfl, rfl, trivial⟩ (hnxt f1 g nx L1 (fun _ _ => rfl) hR (fun x hx => by
          have hxj : hN x.2.1 % 16 ≠ j := fun q => by
            have : x ∈ bk es j := List.mem_filter.mpr ⟨hx, by simpa using q⟩
            rw [hB] at this
            cases this
          rw [hnx x hx]
          by_cases q : hN x.2.1 % 16 < j
          · rw [if_pos q, if_pos (by omega)]
          · rw [if_neg q, if_neg (by omega)]) (fun i hi => by
          have h32 : ∀ b, b % 16 = j → bkt es 32 b = [] := fun b hb => by
            unfold bkt
            rw [List.map_eq_nil_iff, List.filter_eq_nil_iff]
            intro x hx
            simp
            intro q
            have : x ∈ bk es j := List.mem_filter.mpr ⟨hx, by simp; omega⟩
            rw [hB] at this
            cases this
          by_cases e1 : i = j + 16
          · rw [if_pos e1, h32 _ (by omega), e1, hg1]; rfl
          · rw [if_neg e1]
            by_cases e2 : i = j
            · rw [if_pos e2, h32 _ (by omega), e2, hg0]; rfl
            · rw [if_neg e2]))
      · rw [hB] at hbe
        have hbj := RzN.beg hnx
        rw [hB] at hbj
        have hem : e ∈ bk es j := by rw [hB]; simp
        obtain ⟨hee, hej⟩ := List.mem_filter.mp hem
        have hej : hN e.2.1 % 16 = j := by simpa using hej
        have hea : e.1 ∈ ads es := List.mem_map.mpr ⟨e, hee, rfl⟩
        have hRE0 := hRE e hee
        obtain ⟨he1, he2, -⟩ := hRE0
        have he8 := hN_lt he2
        have hnxe : nx e = (ads todo).head? := by
          rw [hbj.2.1 e (by simp)]
          show suc (bkt es 16 (hN e.2.1 % 16)) e.1 = _
          rw [hej]
          exact suc_head (pre := []) hnb (by show ads (bk es j) = _; rw [hB]; rfl)
        unfold entG at he1
        rw [hnxe] at he1
        rcases todo with _ | ⟨e2, todo⟩
        · have hd1 : bk es j = [e] := hB
          refine hG.iload dJ4_resize_151 rfl ?_
          refine hG.iload_n dJ4_resize_153 rfl ?_
          refine hG.icmp_ge (tgt := 353) dJ4_resize_154 rfl (fun c_154 => absurd c_154 (nI_ge hj (by decide))) (fun c_154 => ?_)
          refine hG.aload_n dJ4_resize_157 rfl ?_
          refine hG.iload dJ4_resize_158 rfl ?_
          refine hG.aald dJ4_resize_160 (Or.inl hRt) (vp_in_nI hj (by decide)) ?_
          rw [nI_clamp (by omega), hf1 j (Nat.le_refl _) hj, hbe]
          refine hG.dup dJ4_resize_161 rfl ?_
          refine hG.astore dJ4_resize_162 (by decide) ?_
          refine hG.ifnull dJ4_resize_164 ?_
          refine hG.aload_n dJ4_resize_167 rfl ?_
          refine hG.iload dJ4_resize_168 rfl ?_
          refine hG.null dJ4_resize_170 ?_
          refine hG.aastN dJ4_resize_171 hRt (vp_in_nI hj (by decide)) ?_
          rw [nI_clamp (by omega)]
          refine hG.aload dJ4_resize_172 rfl ?_
          refine hG.get dJ4_resize_174 fg_J4_177_J31 (Or.inl ((up1_n (fun e9 => hta (by rw [← e9]; exact hea))).trans he1)) rfl ?_
          refine hG.ifnonnullN dJ4_resize_177 ?_
          refine hG.aload dJ4_resize_180 rfl ?_
          refine hG.aload dJ4_resize_182 rfl ?_
          refine hG.get dJ4_resize_184 fg_J4_168_J31 (Or.inl ((up1_n (fun e9 => hta (by rw [← e9]; exact hea))).trans he1)) rfl ?_
          refine hG.iload dJ4_resize_187 rfl ?_
          refine hG.iconst (v := 1) dJ4_resize_189 rfl ?_
          refine hG.isub dJ4_resize_190 ?_
          refine hG.iand dJ4_resize_191 ?_
          refine hG.aload dJ4_resize_192 rfl ?_
          rw [show nI (hN e.2.1) &&& (nI 32 - 1) = nI (hN e.2.1 % 32) from (Int32.and_comm _ _).trans (ix_eq (cap := 32) (by decide) he8)]
          refine hG.aast dJ4_resize_194 ((up1_n htq.symm).trans hRq) (Rcv.raw ((up1_n (fun e9 => hta (by rw [← e9]; exact hea))).trans he1) cl_J31) CASTN (vp_in_nI (Nat.mod_lt _ (by decide) : hN e.2.1 % 32 < 32) (by decide)) ?_
          rw [nI_clamp (by omega)]
          refine hG.goto (tgt := 347) dJ4_resize_195 rfl ?_
          exact hG.lsb [(0, .ref m), (1, .ref tb), (2, .int (nI 16)), (4, .int (nI 32)), (6, .ref q), (7, .int (nI j))] ⟨rfl, rfl, rfl, rfl, rfl, rfl, trivial⟩ (hnxt _ _ nx _ (fun i hi => if_neg hi) ⟨by rw [up1_n hqm.symm, up1_n htm.symm]; exact hRm, by rw [up1_n htq]; exact up1_s, up1_s, hRE.congr (fun x hx => by rw [up1_n (fun e => hqa (by rw [← e]; exact List.mem_map.mpr ⟨x, hx, rfl⟩)), up1_n (fun e => hta (by rw [← e]; exact List.mem_map.mpr ⟨x, hx, rfl⟩))]) (fun _ _ => rfl) (fun _ _ => ⟨rfl, rfl⟩), fun z z1 z2 z3 z4 => by rw [up1_n z2, up1_n z3]; exact hRo z z1 z2 z3 z4⟩ (fun x hx => by
            rw [hnx x hx]
            by_cases q : hN x.2.1 % 16 < j
            · rw [if_pos q, if_pos (by omega)]
            · rw [if_neg q]
              by_cases q2 : hN x.2.1 % 16 < j + 1
              · rw [if_pos q2]
                have hxb : x ∈ bk es j := List.mem_filter.mpr ⟨hx, by simp; omega⟩
                rw [hd1] at hxb
                cases List.mem_singleton.mp hxb
                have e16 : nxB es 16 e = none := by
                  rw [← hbj.2.1 e (by simp), hnxe]
                  rfl
                have hs : bkt es 32 (hN e.2.1 % 32) = [e.1] := by
                  rcases (by omega : hN e.2.1 % 32 = j ∨ hN e.2.1 % 32 = j + 16) with h | h
                  · rw [h, ← bk_lo hj, hd1, bkt_one, if_pos h]
                  · rw [h, ← bk_hi hj, hd1, bkt_one, if_pos h]
                rw [e16]
                show none = suc (bkt es 32 (hN e.2.1 % 32)) e.1
                rw [hs]
                simp [suc]
              · rw [if_neg q2]) (fun i hi => by
            show (if i = hN e.2.1 % 32 then some e.1 else g i) = _
            rw [← bk_lo hj, ← bk_hi hj, hd1, bkt_one, bkt_one]
            by_cases e1 : i = j + 16
            · rw [if_pos e1]
              by_cases e2 : hN e.2.1 % 32 = j + 16
              · rw [if_pos (by omega), if_pos e2]; rfl
              · rw [if_neg (by omega), if_neg e2, e1, hg1]; rfl
            · rw [if_neg e1]
              by_cases e2 : i = j
              · rw [if_pos e2]
                by_cases e3 : hN e.2.1 % 32 = j
                · rw [if_pos (by omega), if_pos e3]; rfl
                · rw [if_neg (by omega), if_neg e3, e2, hg0]; rfl
              · rw [if_neg e2, if_neg (by omega)]))
        · have hR2 : RzP L m tb q es kr vr [.ref q, a2, a3, a4, .int (nI 24), a6, a7, a8, a9, a10, a11, a12] I (up1 L1 tb (some (.inl (arQ NODE 16 (va_up f1 j none))))) (va_up f1 j none) g nx := ⟨by rw [up1_n htm.symm]; exact hRm, up1_s, by rw [up1_n htq.symm]; exact hRq, hRE.congr (fun x hx => up1_n (fun e => hta (by rw [← e]; exact List.mem_map.mpr ⟨x, hx, rfl⟩))) (fun _ _ => rfl) (fun _ _ => ⟨rfl, rfl⟩), fun z z1 z2 z3 z4 => by rw [up1_n z3]; exact hRo z z1 z2 z3 z4⟩
          refine hG.iload dJ4_resize_151 rfl ?_
          refine hG.iload_n dJ4_resize_153 rfl ?_
          refine hG.icmp_ge (tgt := 353) dJ4_resize_154 rfl (fun c_154 => absurd c_154 (nI_ge hj (by decide))) (fun c_154 => ?_)
          refine hG.aload_n dJ4_resize_157 rfl ?_
          refine hG.iload dJ4_resize_158 rfl ?_
          refine hG.aald dJ4_resize_160 (Or.inl hRt) (vp_in_nI hj (by decide)) ?_
          rw [nI_clamp (by omega), hf1 j (Nat.le_refl _) hj, hbe]
          refine hG.dup dJ4_resize_161 rfl ?_
          refine hG.astore dJ4_resize_162 (by decide) ?_
          refine hG.ifnull dJ4_resize_164 ?_
          refine hG.aload_n dJ4_resize_167 rfl ?_
          refine hG.iload dJ4_resize_168 rfl ?_
          refine hG.null dJ4_resize_170 ?_
          refine hG.aastN dJ4_resize_171 hRt (vp_in_nI hj (by decide)) ?_
          rw [nI_clamp (by omega)]
          refine hG.aload dJ4_resize_172 rfl ?_
          refine hG.get dJ4_resize_174 fg_J4_177_J31 (Or.inl ((up1_n (fun e9 => hta (by rw [← e9]; exact hea))).trans he1)) rfl ?_
          refine hG.ifnonnull (tgt := 198) dJ4_resize_177 rfl ?_
          refine hG.aload dJ4_resize_198 rfl ?_
          refine hG.instNo dJ4_resize_200 q1161 (Rcv.raw ((up1_n (fun e9 => hta (by rw [← e9]; exact hea))).trans he1) cl_J31) hNT ?_
          refine hG.if_eq (tgt := 223) dJ4_resize_203 rfl (fun c_203 => ?_) (fun c_203 => absurd rfl c_203)
          refine hG.null dJ4_resize_223 ?_
          refine hG.astoreN dJ4_resize_224 (by decide) ?_
          refine hG.null dJ4_resize_226 ?_
          refine hG.astoreN dJ4_resize_227 (by decide) ?_
          refine hG.null dJ4_resize_229 ?_
          refine hG.astoreN dJ4_resize_230 (by decide) ?_
          refine hG.null dJ4_resize_232 ?_
          refine hG.astoreN dJ4_resize_233 (by decide) ?_
          refine hG.lsb [(0, .ref m), (1, .ref tb), (2, .int (nI 16)), (4, .int (nI 32)), (6, .ref q), (7, .int (nI j)), (8, .ref e.1), (9, va_rf none), (10, va_rf none), (11, va_rf none), (12, va_rf none)] ⟨rfl, rfl, rfl, rfl, rfl, rfl, rfl, rfl, rfl, rfl, rfl, trivial⟩ (k235 j (va_up f1 j none) g hj hg0 hg1 (fun g' nx2 L2 k1 k2 k3 => hnxt (va_up f1 j none) g' nx2 L2 (fun i hi => if_neg hi) k1 k2 k3) (e2 :: todo) [] e nx _ none none none none hB rfl rfl rfl rfl hbj hR2)
  refine hG.lsb [(0, .ref m), (1, .ref tb), (2, .int (nI 16)), (4, .int (nI 32)), (6, .ref q), (7, .int (nI 0))] ⟨rfl, rfl, rfl, rfl, rfl, rfl, trivial⟩ (k151 16 0 f _ (nxB es 16) _ rfl ⟨up1_s, ?_, ?_, ?_, fun z z1 z2 z3 z4 => ?_⟩ (fun x _ => by rw [if_neg (by omega)]) (fun i _ hi => hT2 i hi) (fun i hi => by rw [if_neg (by omega)]))
  · rw [up1_n htm, up1_n htq, up1_n htm]; exact hT1
  · rw [up1_n hqm, up1_s]
  · exact hE.congr (fun x hx => by
      have hxa : x.1 ∈ ads es := List.mem_map.mpr ⟨x, hx, rfl⟩
      have hxm : x.1 ≠ m := fun e => hme (by rw [← e]; exact hxa)
      have hxq : x.1 ≠ q := fun e => hqa (by rw [← e]; exact hxa)
      rw [up1_n hxm, up1_n hxq, up1_n hxm]) (fun _ _ => rfl) (fun _ _ => ⟨rfl, rfl⟩)
  · rw [up1_n z1, up1_n z2, up1_n z1]
