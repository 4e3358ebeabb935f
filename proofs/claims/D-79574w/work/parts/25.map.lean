/-! java.util.LinkedHashMap from groups to boxes: one cell -/
abbrev NODE : String := "java/util/HashMap$Node"
abbrev caps : List Nat := [16, 32, 64, 128, 256]
abbrev entF (es : List Ent) (cap : Nat) (kr vr : Nat → Nat) (x : Ent) : List Value := [.int (nI (hN x.2.1)), .ref (kr x.1), .ref (vr x.1), va_rf (suc (bkt es cap (hN x.2.1 % cap)) x.1), va_rf (prd (ads es) x.1), va_rf (suc (ads es) x.1)]
/-- one entry's cell and what it refers to -/
def EntS (I : AI) (S : AL) (es : List Ent) (cap : Nat) (kr vr : Nat → Nat) : Prop := ∀ x ∈ es, S x.1 = some (obC ciJ31 (entF es cap kr vr x)) ∧ x.2.1 < 147 ∧ I (kr x.1) (ob ciX9 (grp x.2.1)) ∧ I (vr x.1) (bxE x.2.2)
/-- the table: none yet, or an array of buckets -/
def TblS (S : AL) (m : Nat) (es : List Ent) (tbV : Value) (cap : Nat) : Prop := (cap = 0 ∧ es = [] ∧ tbV = .null) ∨ (cap ∈ caps ∧ es.length ≤ 3 * cap / 4 ∧ ∃ (tb : Nat) (f : Nat → Option Nat), tbV = .ref tb ∧ tb ≠ m ∧ tb ∉ ads es ∧ S tb = some (.inl (arQ NODE cap f)) ∧ ∀ j, j < cap → f j = (bkt es cap j).head?)
abbrev mapF (es : List Ent) (mo : Int32) (tbV esV : Value) (cap : Nat) (lf : UInt32) : List Value := [tbV, esV, .int (nI es.length), .int mo, .int (nI (3 * cap / 4)), .float lf, .null, .null, va_rf (ads es).head?, va_rf (ads es).getLast?, .int 0, .int 0]
def MpO (I : AI) (S : AL) (m : Nat) (mo : Int32) (es : List Ent) (tbV esV : Value) (cap : Nat) (lf : UInt32) (kr vr : Nat → Nat) : Prop :=
  S m = some (obC ciJ5 (mapF es mo tbV esV cap lf)) ∧ (ads es).Nodup ∧ (cods es).Nodup ∧ m ∉ ads es ∧ EntS I S es cap kr vr ∧ (esV = .null ∨ ∃ q, esV = .ref q ∧ I q (ob ciJ21 [.int 0, .ref m])) ∧ TblS S m es tbV cap
def mpΦ (mo : Int32) (es : List Ent) : AI → Nat → AL → Prop := fun J m S => ∃ (tbV esV : Value) (cap : Nat) (lf : UInt32) (kr vr : Nat → Nat), MpO J S m mo es tbV esV cap lf kr vr
abbrev mpC (mo : Int32) (es : List Ent) : Cel := cel 2 (mpΦ mo es)
theorem ix_eq {cap h : Nat} (hc : cap ∈ caps) (hh : h < 300) : (Int32.ofNat cap - 1) &&& nI h = nI (h % cap) := by
  rw [Int32.and_comm]
  simp only [List.mem_cons, List.not_mem_nil, or_false] at hc
  rcases hc with rfl | rfl | rfl | rfl | rfl
  · exact pk_andN (n := h) (by omega) 4 (by decide)
  · exact pk_andN (n := h) (by omega) 5 (by decide)
  · exact pk_andN (n := h) (by omega) 6 (by decide)
  · exact pk_andN (n := h) (by omega) 7 (by decide)
  · exact pk_andN (n := h) (by omega) 8 (by decide)
theorem caps_in {cap : Nat} (hc : cap ∈ caps) : 16 ≤ cap ∧ cap ≤ 256 := by
  simp only [List.mem_cons, List.not_mem_nil, or_false] at hc
  omega
/-- an entry of the bucket, with its cell -/
theorem ent_at {I : AI} {S : AL} {es : List Ent} {cap : Nat} {kr vr : Nat → Nat} (hE : EntS I S es cap kr vr) {j e : Nat} (he : e ∈ bkt es cap j) : ∃ x ∈ es, x.1 = e ∧ hN x.2.1 % cap = j ∧ S x.1 = some (obC ciJ31 (entF es cap kr vr x)) ∧ x.2.1 < 147 ∧ I (kr x.1) (ob ciX9 (grp x.2.1)) ∧ I (vr x.1) (bxE x.2.2) := by
  obtain ⟨x, h1, h2, h3⟩ := bkt_mem he
  exact ⟨x, h1, h2, h3, hE x h1⟩
/-- nothing of the code c in the bucket: nothing anywhere -/
theorem lkp_bkt {es : List Ent} {cap c : Nat} (h : ∀ y ∈ es, y.1 ∈ bkt es cap (hN c % cap) → y.2.1 ≠ c) : lkp es c = none := lkp_none.mpr fun x hx e => h x hx (by rw [← e]; exact mem_bkt hx) e
theorem suc_head {l : List Nat} {e : Nat} {pre post : List Nat} (hn : l.Nodup) (h : l = pre ++ e :: post) : suc l e = post.head? := by
  subst h
  rw [List.nodup_append] at hn
  exact suc_mid fun q => hn.2.2 e q e (by simp) rfl
/-- an entry isn't a tree's node -/
abbrev StN (s0 : State) : Prop := va_Nc "java/util/LinkedHashMap$Entry" "java/util/HashMap$TreeNode" s0
theorem cls_J31 : CLs ciJ31 RJ31 TJ31 6 tyJ31 := ⟨rfl, in_J31, tyJ31_ok, nmJ31⟩
theorem cls_J5 : CLs ciJ5 RJ5 TJ5 12 tyJ5 := ⟨rfl, in_J5, tyJ5_ok, nmJ5⟩
theorem fg_J4_168_J31 : LkG RJ4 168 ciJ31 0 := ⟨RJ31, TJ31, 6, tyJ31, _, cls_J31, by decide, Or.inl rfl, Or.inl q1428⟩
theorem fg_J4_170_J31 : LkG RJ4 170 ciJ31 1 := ⟨RJ31, TJ31, 6, tyJ31, _, cls_J31, by decide, Or.inl rfl, Or.inl q1435⟩
theorem ko_J4_173_X9 : LkU RJ4 173 RX9 yJ41_equals yX9_equals 1 := ⟨_, q1108, q1110, q1122, q1123, q119, by decide +kernel, by decide +kernel, by decide +kernel, Or.inr (Or.inl ⟨q1109, _, _, _, q1160⟩)⟩
theorem fg_J4_177_J31 : LkG RJ4 177 ciJ31 3 := ⟨RJ31, TJ31, 6, tyJ31, _, cls_J31, by decide, Or.inl rfl, Or.inl q1445⟩
theorem fg_J4_105_J5 : LkG RJ4 105 ciJ5 0 := ⟨RJ5, TJ5, 12, tyJ5, _, cls_J5, by decide, Or.inl rfl, Or.inl q212⟩
theorem ks_J4_149 : LkS RJ4 149 yJ4_hash 1 := ⟨q779, q780, q80, by decide +kernel, by decide +kernel, by decide +kernel⟩
set_option maxHeartbeats 4000000 in
set_option maxRecDepth 100000 in
theorem sp_J4_getNode {l : Launch} {s0 : State} {D : va_G} {I : AI} {L : AL} {m key c : Nat} {mo : Int32} {es : List Ent} {tbV esV : Value} {cap : Nat} {lf : UInt32} {kr vr : Nat → Nat} (hΓ : Gam l s0 D) (hNT : StN s0) (h : MpO I L m mo es tbV esV cap lf kr vr) (hc : c < 147) (hkey : I key (ob ciX9 (grp c))) : Spc l s0 D yJ4_getNode 3 [.ref m, .ref key] I L 0 0 (pV (va_rf ((lkp es c).map (·.1))) I L) noX := by
  refine Spc.of hΓ cJ4_getNode 8 (some (FieldType.object "java/util/HashMap$Node")) q778 (by decide +kernel) (by decide) (Nat.le_of_ble_eq_true rfl) (fun G GX hG => ?_)
  obtain ⟨h1, hna, hnc, hme, hE, hes, hT⟩ := h
  have loop : ∀ (post pre : List Nat) (e : Nat), bkt es cap (hN c % cap) = pre ++ e :: post → (∀ y ∈ es, y.1 ∈ pre → y.2.1 ≠ c) → G 99 [(1, .ref key), (4, .ref e), (6, .int (nI (hN c)))] [] I L 0 0 := by
    intro post
    induction post with
    | nil =>
      intro pre e hB hpre
      obtain ⟨x, hx0, rfl, hx2, hx3, hx4, hx5, hx6⟩ := ent_at hE (show e ∈ bkt es cap (hN c % cap) by rw [hB]; simp)
      have hyes : x.2.1 = c → G 134 [(1, .ref key), (4, .ref x.1), (6, .int (nI (hN c)))] [] I L 0 0 := fun e9 => by
        refine hG.aload dJ4_getNode_134 rfl ?_
        refine hG.aret dJ4_getNode_136 rfl (by first | exact Or.inl ⟨_, rfl⟩ | exact Or.inr ⟨_, rfl⟩) (by first | exact Or.inr ⟨_, rfl⟩ | exact Or.inl rfl) ?_ (by omega) (by omega) trivial
        exact ⟨by rw [← e9, lkp_of hnc hx0]; rfl, rfl, rfl⟩
      have hno : x.2.1 ≠ c → G 137 [(1, .ref key), (4, .ref x.1), (6, .int (nI (hN c)))] [] I L 0 0 := fun e9 => by
        have hpre2 : ∀ y ∈ es, y.1 ∈ pre ++ [x.1] → y.2.1 ≠ c := fun y hy hm => by
          rcases List.mem_append.mp hm with h | h
          · exact hpre y hy h
          · rw [ads_inj hna hy hx0 (List.mem_singleton.mp h)]; exact e9
        have hnx : suc (bkt es cap (hN x.2.1 % cap)) x.1 = none := by rw [hx2]; exact suc_head (bkt_nodup hna _ _) hB
        refine hG.aload dJ4_getNode_137 rfl ?_
        refine hG.get dJ4_getNode_139 fg_J4_177_J31 (Or.inl hx3) rfl ?_
        rw [hnx]
        refine hG.dup dJ4_getNode_142 rfl ?_
        refine hG.astoreN dJ4_getNode_143 (by decide) ?_
        refine hG.ifnonnullN dJ4_getNode_145 ?_
        refine hG.null dJ4_getNode_148 ?_
        refine hG.aret dJ4_getNode_149 rfl (by first | exact Or.inl ⟨_, rfl⟩ | exact Or.inr ⟨_, rfl⟩) (by first | exact Or.inr ⟨_, rfl⟩ | exact Or.inl rfl) ?_ (by omega) (by omega) trivial
        exact ⟨by rw [lkp_bkt (cap := cap) (fun y hy hm => hpre2 y hy (by rw [hB] at hm; exact hm))]; rfl, rfl, rfl⟩
      refine hG.aload dJ4_getNode_99 rfl ?_
      refine hG.get dJ4_getNode_101 fg_J4_168_J31 (Or.inl hx3) rfl ?_
      refine hG.iload dJ4_getNode_104 rfl ?_
      refine hG.icmp_ne (tgt := 137) dJ4_getNode_106 rfl (fun c_106 => ?_) (fun c_106 => ?_)
      · first
        | exact hG.lsb [(1, .ref key), (4, .ref x.1), (6, .int (nI (hN c)))] ⟨rfl, rfl, rfl, trivial⟩ (hno (fun e9 => c_106 (by rw [e9])))
        | exact hG.lsb [(1, .ref key), (4, .ref x.1), (6, .int (nI (hN c)))] ⟨rfl, rfl, rfl, trivial⟩ (hno (fun e9 => (by simpa [b2i] using c_131 : ¬ c = x.2.1) e9.symm))
      · refine hG.aload dJ4_getNode_109 rfl ?_
        refine hG.get dJ4_getNode_111 fg_J4_170_J31 (Or.inl hx3) rfl ?_
        refine hG.dup dJ4_getNode_114 rfl ?_
        refine hG.astore dJ4_getNode_115 (by decide) ?_
        refine hG.aload_n dJ4_getNode_117 rfl ?_
        refine hG.acmp_eq (tgt := 134) dJ4_getNode_118 rfl (fun c_118 => ?_) (fun c_118 => ?_)
        · first
          | (refine hG.uniq (Or.inr hx5) (Or.inr (by rw [c_118]; exact hkey)) cl_X9 rfl rfl (fun hgr => ?_)
             exact hG.lsb [(1, .ref key), (4, .ref x.1), (6, .int (nI (hN c)))] ⟨rfl, rfl, rfl, trivial⟩ (hyes (grp_eq hx4 hc hgr)))
          | exact hG.lsb [(1, .ref key), (4, .ref x.1), (6, .int (nI (hN c)))] ⟨rfl, rfl, rfl, trivial⟩ (hyes (by simpa [b2i] using c_131 : c = x.2.1).symm)
        · refine hG.aload_n dJ4_getNode_121 rfl ?_
          refine hG.ifnull dJ4_getNode_122 ?_
          refine hG.aload_n dJ4_getNode_125 rfl ?_
          refine hG.aload dJ4_getNode_126 rfl ?_
          refine hG.callU dJ4_getNode_128 ko_J4_173_X9 (Rcv.imm hkey cl_X9) (sp_X9_equals hΓ hc hx4 (Or.inr hkey) (Or.inr hx5)) rfl rfl (Nat.le_of_ble_eq_true rfl) (by decide) (by omega) (by omega) (fun r128 I128 L128 hI128 h128 => ?_) (fun _ _ _ _ _ h => h.elim)
          obtain ⟨rfl, rfl, rfl⟩ := h128
          refine hG.if_eq (tgt := 137) dJ4_getNode_131 rfl (fun c_131 => ?_) (fun c_131 => ?_)
          · first
            | exact hG.lsb [(1, .ref key), (4, .ref x.1), (6, .int (nI (hN c)))] ⟨rfl, rfl, rfl, trivial⟩ (hno (fun e9 => c_106 (by rw [e9])))
            | exact hG.lsb [(1, .ref key), (4, .ref x.1), (6, .int (nI (hN c)))] ⟨rfl, rfl, rfl, trivial⟩ (hno (fun e9 => (by simpa [b2i] using c_131 : ¬ c = x.2.1) e9.symm))
          · first
            | (refine hG.uniq (Or.inr hx5) (Or.inr (by rw [c_118]; exact hkey)) cl_X9 rfl rfl (fun hgr => ?_)
               exact hG.lsb [(1, .ref key), (4, .ref x.1), (6, .int (nI (hN c)))] ⟨rfl, rfl, rfl, trivial⟩ (hyes (grp_eq hx4 hc hgr)))
            | exact hG.lsb [(1, .ref key), (4, .ref x.1), (6, .int (nI (hN c)))] ⟨rfl, rfl, rfl, trivial⟩ (hyes (by simpa [b2i] using c_131 : c = x.2.1).symm)
    | cons e2 post ih =>
      intro pre e hB hpre
      obtain ⟨x, hx0, rfl, hx2, hx3, hx4, hx5, hx6⟩ := ent_at hE (show e ∈ bkt es cap (hN c % cap) by rw [hB]; simp)
      have hyes : x.2.1 = c → G 134 [(1, .ref key), (4, .ref x.1), (6, .int (nI (hN c)))] [] I L 0 0 := fun e9 => by
        refine hG.aload dJ4_getNode_134 rfl ?_
        refine hG.aret dJ4_getNode_136 rfl (by first | exact Or.inl ⟨_, rfl⟩ | exact Or.inr ⟨_, rfl⟩) (by first | exact Or.inr ⟨_, rfl⟩ | exact Or.inl rfl) ?_ (by omega) (by omega) trivial
        exact ⟨by rw [← e9, lkp_of hnc hx0]; rfl, rfl, rfl⟩
      have hno : x.2.1 ≠ c → G 137 [(1, .ref key), (4, .ref x.1), (6, .int (nI (hN c)))] [] I L 0 0 := fun e9 => by
        have hpre2 : ∀ y ∈ es, y.1 ∈ pre ++ [x.1] → y.2.1 ≠ c := fun y hy hm => by
          rcases List.mem_append.mp hm with h | h
          · exact hpre y hy h
          · rw [ads_inj hna hy hx0 (List.mem_singleton.mp h)]; exact e9
        have hnx : suc (bkt es cap (hN x.2.1 % cap)) x.1 = some e2 := by rw [hx2]; exact suc_head (bkt_nodup hna _ _) hB
        refine hG.aload dJ4_getNode_137 rfl ?_
        refine hG.get dJ4_getNode_139 fg_J4_177_J31 (Or.inl hx3) rfl ?_
        rw [hnx]
        refine hG.dup dJ4_getNode_142 rfl ?_
        refine hG.astore dJ4_getNode_143 (by decide) ?_
        refine hG.ifnonnull (tgt := 99) dJ4_getNode_145 rfl ?_
        exact hG.lsb [(1, .ref key), (4, .ref e2), (6, .int (nI (hN c)))] ⟨rfl, rfl, rfl, trivial⟩ (ih (pre ++ [x.1]) e2 (by rw [hB]; simp) hpre2)
      refine hG.aload dJ4_getNode_99 rfl ?_
      refine hG.get dJ4_getNode_101 fg_J4_168_J31 (Or.inl hx3) rfl ?_
      refine hG.iload dJ4_getNode_104 rfl ?_
      refine hG.icmp_ne (tgt := 137) dJ4_getNode_106 rfl (fun c_106 => ?_) (fun c_106 => ?_)
      · first
        | exact hG.lsb [(1, .ref key), (4, .ref x.1), (6, .int (nI (hN c)))] ⟨rfl, rfl, rfl, trivial⟩ (hno (fun e9 => c_106 (by rw [e9])))
        | exact hG.lsb [(1, .ref key), (4, .ref x.1), (6, .int (nI (hN c)))] ⟨rfl, rfl, rfl, trivial⟩ (hno (fun e9 => (by simpa [b2i] using c_131 : ¬ c = x.2.1) e9.symm))
      · refine hG.aload dJ4_getNode_109 rfl ?_
        refine hG.get dJ4_getNode_111 fg_J4_170_J31 (Or.inl hx3) rfl ?_
        refine hG.dup dJ4_getNode_114 rfl ?_
        refine hG.astore dJ4_getNode_115 (by decide) ?_
        refine hG.aload_n dJ4_getNode_117 rfl ?_
        refine hG.acmp_eq (tgt := 134) dJ4_getNode_118 rfl (fun c_118 => ?_) (fun c_118 => ?_)
        · first
          | (refine hG.uniq (Or.inr hx5) (Or.inr (by rw [c_118]; exact hkey)) cl_X9 rfl rfl (fun hgr => ?_)
             exact hG.lsb [(1, .ref key), (4, .ref x.1), (6, .int (nI (hN c)))] ⟨rfl, rfl, rfl, trivial⟩ (hyes (grp_eq hx4 hc hgr)))
          | exact hG.lsb [(1, .ref key), (4, .ref x.1), (6, .int (nI (hN c)))] ⟨rfl, rfl, rfl, trivial⟩ (hyes (by simpa [b2i] using c_131 : c = x.2.1).symm)
        · refine hG.aload_n dJ4_getNode_121 rfl ?_
          refine hG.ifnull dJ4_getNode_122 ?_
          refine hG.aload_n dJ4_getNode_125 rfl ?_
          refine hG.aload dJ4_getNode_126 rfl ?_
          refine hG.callU dJ4_getNode_128 ko_J4_173_X9 (Rcv.imm hkey cl_X9) (sp_X9_equals hΓ hc hx4 (Or.inr hkey) (Or.inr hx5)) rfl rfl (Nat.le_of_ble_eq_true rfl) (by decide) (by omega) (by omega) (fun r128 I128 L128 hI128 h128 => ?_) (fun _ _ _ _ _ h => h.elim)
          obtain ⟨rfl, rfl, rfl⟩ := h128
          refine hG.if_eq (tgt := 137) dJ4_getNode_131 rfl (fun c_131 => ?_) (fun c_131 => ?_)
          · first
            | exact hG.lsb [(1, .ref key), (4, .ref x.1), (6, .int (nI (hN c)))] ⟨rfl, rfl, rfl, trivial⟩ (hno (fun e9 => c_106 (by rw [e9])))
            | exact hG.lsb [(1, .ref key), (4, .ref x.1), (6, .int (nI (hN c)))] ⟨rfl, rfl, rfl, trivial⟩ (hno (fun e9 => (by simpa [b2i] using c_131 : ¬ c = x.2.1) e9.symm))
          · first
            | (refine hG.uniq (Or.inr hx5) (Or.inr (by rw [c_118]; exact hkey)) cl_X9 rfl rfl (fun hgr => ?_)
               exact hG.lsb [(1, .ref key), (4, .ref x.1), (6, .int (nI (hN c)))] ⟨rfl, rfl, rfl, trivial⟩ (hyes (grp_eq hx4 hc hgr)))
            | exact hG.lsb [(1, .ref key), (4, .ref x.1), (6, .int (nI (hN c)))] ⟨rfl, rfl, rfl, trivial⟩ (hyes (by simpa [b2i] using c_131 : c = x.2.1).symm)
  rcases hT with ⟨rfl, rfl, rfl⟩ | ⟨hcap, hlen, tb, f, rfl, htm, hta, hT1, hT2⟩
  · refine hG.aload_n dJ4_getNode_0 rfl ?_
    refine hG.get dJ4_getNode_1 fg_J4_105_J5 (Or.inl h1) rfl ?_
    refine hG.dup dJ4_getNode_4 rfl ?_
    refine hG.astore_nN dJ4_getNode_5 (by decide) ?_
    refine hG.ifnullN (tgt := 148) dJ4_getNode_6 rfl ?_
    refine hG.null dJ4_getNode_148 ?_
    refine hG.aret dJ4_getNode_149 rfl (by first | exact Or.inl ⟨_, rfl⟩ | exact Or.inr ⟨_, rfl⟩) (by first | exact Or.inr ⟨_, rfl⟩ | exact Or.inl rfl) ?_ (by omega) (by omega) trivial
    exact ⟨rfl, rfl, rfl⟩
  · have hcb := caps_in hcap
    have hh := hN_lt hc
    have hix := ix_eq hcap hh
    have hjl : hN c % cap < cap := Nat.mod_lt _ (by omega)
    cases hB : bkt es cap (hN c % cap) with
    | nil =>
      refine hG.aload_n dJ4_getNode_0 rfl ?_
      refine hG.get dJ4_getNode_1 fg_J4_105_J5 (Or.inl h1) rfl ?_
      refine hG.dup dJ4_getNode_4 rfl ?_
      refine hG.astore_n dJ4_getNode_5 (by decide) ?_
      refine hG.ifnull dJ4_getNode_6 ?_
      refine hG.aload_n dJ4_getNode_9 rfl ?_
      refine hG.alen dJ4_getNode_10 (Or.inl hT1) ?_
      refine hG.dup dJ4_getNode_11 rfl ?_
      refine hG.istore dJ4_getNode_12 (by decide) ?_
      refine hG.if_le (tgt := 148) dJ4_getNode_14 rfl (fun c_14 => absurd c_14 (nI_nle (n := cap) (by omega) (by omega))) (fun c_14 => ?_)
      refine hG.aload_n dJ4_getNode_17 rfl ?_
      refine hG.iload dJ4_getNode_18 rfl ?_
      refine hG.iconst (v := 1) dJ4_getNode_20 rfl ?_
      refine hG.isub dJ4_getNode_21 ?_
      refine hG.aload_n dJ4_getNode_22 rfl ?_
      refine hG.callS dJ4_getNode_23 ks_J4_149 (sp_J4_hash hΓ hc (Or.inr hkey)) rfl rfl (Nat.le_of_ble_eq_true rfl) (by decide) (by omega) (by omega) (fun r23 I23 L23 hI23 h23 => ?_) (fun _ _ _ _ _ h => h.elim)
      obtain ⟨rfl, rfl, rfl⟩ := h23
      refine hG.dup dJ4_getNode_26 rfl ?_
      refine hG.istore dJ4_getNode_27 (by decide) ?_
      refine hG.iand dJ4_getNode_29 ?_
      rw [hix]
      refine hG.aald dJ4_getNode_30 (Or.inl hT1) (vp_in_nI hjl (by omega)) ?_
      rw [nI_clamp (by omega), hT2 _ hjl, hB]
      refine hG.dup dJ4_getNode_31 rfl ?_
      refine hG.astore_nN dJ4_getNode_32 (by decide) ?_
      refine hG.ifnullN (tgt := 148) dJ4_getNode_33 rfl ?_
      refine hG.null dJ4_getNode_148 ?_
      refine hG.aret dJ4_getNode_149 rfl (by first | exact Or.inl ⟨_, rfl⟩ | exact Or.inr ⟨_, rfl⟩) (by first | exact Or.inr ⟨_, rfl⟩ | exact Or.inl rfl) ?_ (by omega) (by omega) trivial
      exact ⟨by rw [lkp_bkt (cap := cap) (fun y hy hm => by rw [hB] at hm; cases hm)]; rfl, rfl, rfl⟩
    | cons e post =>
      obtain ⟨x, hx0, rfl, hx2, hx3, hx4, hx5, hx6⟩ := ent_at hE (show e ∈ bkt es cap (hN c % cap) by rw [hB]; simp)
      have hyes : x.2.1 = c → G 69 [(0, .ref m), (1, .ref key), (2, .ref tb), (3, .ref x.1), (6, .int (nI (hN c)))] [] I L 0 0 := fun e9 => by
        refine hG.aload_n dJ4_getNode_69 rfl ?_
        refine hG.aret dJ4_getNode_70 rfl (by first | exact Or.inl ⟨_, rfl⟩ | exact Or.inr ⟨_, rfl⟩) (by first | exact Or.inr ⟨_, rfl⟩ | exact Or.inl rfl) ?_ (by omega) (by omega) trivial
        exact ⟨by rw [← e9, lkp_of hnc hx0]; rfl, rfl, rfl⟩
      have hno : x.2.1 ≠ c → G 71 [(0, .ref m), (1, .ref key), (2, .ref tb), (3, .ref x.1), (6, .int (nI (hN c)))] [] I L 0 0 := fun e9 => by
        cases post with
        | nil =>
          have hnx : suc (bkt es cap (hN x.2.1 % cap)) x.1 = none := by rw [hx2]; exact suc_head (pre := []) (bkt_nodup hna _ _) hB
          refine hG.aload_n dJ4_getNode_71 rfl ?_
          refine hG.get dJ4_getNode_72 fg_J4_177_J31 (Or.inl hx3) rfl ?_
          rw [hnx]
          refine hG.dup dJ4_getNode_75 rfl ?_
          refine hG.astoreN dJ4_getNode_76 (by decide) ?_
          refine hG.ifnullN (tgt := 148) dJ4_getNode_78 rfl ?_
          refine hG.null dJ4_getNode_148 ?_
          refine hG.aret dJ4_getNode_149 rfl (by first | exact Or.inl ⟨_, rfl⟩ | exact Or.inr ⟨_, rfl⟩) (by first | exact Or.inr ⟨_, rfl⟩ | exact Or.inl rfl) ?_ (by omega) (by omega) trivial
          exact ⟨by rw [lkp_bkt (cap := cap) (fun y hy hm => by
            rw [hB] at hm
            rw [ads_inj hna hy hx0 (List.mem_singleton.mp hm)]; exact e9)]; rfl, rfl, rfl⟩
        | cons e2 post =>
          have hnx : suc (bkt es cap (hN x.2.1 % cap)) x.1 = some e2 := by rw [hx2]; exact suc_head (pre := []) (bkt_nodup hna _ _) hB
          refine hG.aload_n dJ4_getNode_71 rfl ?_
          refine hG.get dJ4_getNode_72 fg_J4_177_J31 (Or.inl hx3) rfl ?_
          rw [hnx]
          refine hG.dup dJ4_getNode_75 rfl ?_
          refine hG.astore dJ4_getNode_76 (by decide) ?_
          refine hG.ifnull dJ4_getNode_78 ?_
          refine hG.aload_n dJ4_getNode_81 rfl ?_
          refine hG.instNo dJ4_getNode_82 q1161 (Rcv.raw hx3 cl_J31) hNT ?_
          refine hG.if_eq (tgt := 99) dJ4_getNode_85 rfl (fun c_85 => ?_) (fun c_85 => absurd rfl c_85)
          exact hG.lsb [(1, .ref key), (4, .ref e2), (6, .int (nI (hN c)))] ⟨rfl, rfl, rfl, trivial⟩ (loop post [x.1] e2 hB (fun y hy hm => by rw [ads_inj hna hy hx0 (List.mem_singleton.mp hm)]; exact e9))
      refine hG.aload_n dJ4_getNode_0 rfl ?_
      refine hG.get dJ4_getNode_1 fg_J4_105_J5 (Or.inl h1) rfl ?_
      refine hG.dup dJ4_getNode_4 rfl ?_
      refine hG.astore_n dJ4_getNode_5 (by decide) ?_
      refine hG.ifnull dJ4_getNode_6 ?_
      refine hG.aload_n dJ4_getNode_9 rfl ?_
      refine hG.alen dJ4_getNode_10 (Or.inl hT1) ?_
      refine hG.dup dJ4_getNode_11 rfl ?_
      refine hG.istore dJ4_getNode_12 (by decide) ?_
      refine hG.if_le (tgt := 148) dJ4_getNode_14 rfl (fun c_14 => absurd c_14 (nI_nle (n := cap) (by omega) (by omega))) (fun c_14 => ?_)
      refine hG.aload_n dJ4_getNode_17 rfl ?_
      refine hG.iload dJ4_getNode_18 rfl ?_
      refine hG.iconst (v := 1) dJ4_getNode_20 rfl ?_
      refine hG.isub dJ4_getNode_21 ?_
      refine hG.aload_n dJ4_getNode_22 rfl ?_
      refine hG.callS dJ4_getNode_23 ks_J4_149 (sp_J4_hash hΓ hc (Or.inr hkey)) rfl rfl (Nat.le_of_ble_eq_true rfl) (by decide) (by omega) (by omega) (fun r23 I23 L23 hI23 h23 => ?_) (fun _ _ _ _ _ h => h.elim)
      obtain ⟨rfl, rfl, rfl⟩ := h23
      refine hG.dup dJ4_getNode_26 rfl ?_
      refine hG.istore dJ4_getNode_27 (by decide) ?_
      refine hG.iand dJ4_getNode_29 ?_
      rw [hix]
      refine hG.aald dJ4_getNode_30 (Or.inl hT1) (vp_in_nI hjl (by omega)) ?_
      rw [nI_clamp (by omega), hT2 _ hjl, hB]
      refine hG.dup dJ4_getNode_31 rfl ?_
      refine hG.astore_n dJ4_getNode_32 (by decide) ?_
      refine hG.ifnull dJ4_getNode_33 ?_
      refine hG.aload_n dJ4_getNode_36 rfl ?_
      refine hG.get dJ4_getNode_37 fg_J4_168_J31 (Or.inl hx3) rfl ?_
      refine hG.iload dJ4_getNode_40 rfl ?_
      refine hG.icmp_ne (tgt := 71) dJ4_getNode_42 rfl (fun c_42 => ?_) (fun c_42 => ?_)
      · first
        | exact hG.lsb [(0, .ref m), (1, .ref key), (2, .ref tb), (3, .ref x.1), (6, .int (nI (hN c)))] ⟨rfl, rfl, rfl, rfl, rfl, trivial⟩ (hno (fun e9 => c_42 (by rw [e9])))
        | exact hG.lsb [(0, .ref m), (1, .ref key), (2, .ref tb), (3, .ref x.1), (6, .int (nI (hN c)))] ⟨rfl, rfl, rfl, rfl, rfl, trivial⟩ (hno (fun e9 => (by simpa [b2i] using c_66 : ¬ c = x.2.1) e9.symm))
      · refine hG.aload_n dJ4_getNode_45 rfl ?_
        refine hG.get dJ4_getNode_46 fg_J4_170_J31 (Or.inl hx3) rfl ?_
        refine hG.dup dJ4_getNode_49 rfl ?_
        refine hG.astore dJ4_getNode_50 (by decide) ?_
        refine hG.aload_n dJ4_getNode_52 rfl ?_
        refine hG.acmp_eq (tgt := 69) dJ4_getNode_53 rfl (fun c_53 => ?_) (fun c_53 => ?_)
        · first
          | (refine hG.uniq (Or.inr hx5) (Or.inr (by rw [c_53]; exact hkey)) cl_X9 rfl rfl (fun hgr => ?_)
             exact hG.lsb [(0, .ref m), (1, .ref key), (2, .ref tb), (3, .ref x.1), (6, .int (nI (hN c)))] ⟨rfl, rfl, rfl, rfl, rfl, trivial⟩ (hyes (grp_eq hx4 hc hgr)))
          | exact hG.lsb [(0, .ref m), (1, .ref key), (2, .ref tb), (3, .ref x.1), (6, .int (nI (hN c)))] ⟨rfl, rfl, rfl, rfl, rfl, trivial⟩ (hyes (by simpa [b2i] using c_66 : c = x.2.1).symm)
        · refine hG.aload_n dJ4_getNode_56 rfl ?_
          refine hG.ifnull dJ4_getNode_57 ?_
          refine hG.aload_n dJ4_getNode_60 rfl ?_
          refine hG.aload dJ4_getNode_61 rfl ?_
          refine hG.callU dJ4_getNode_63 ko_J4_173_X9 (Rcv.imm hkey cl_X9) (sp_X9_equals hΓ hc hx4 (Or.inr hkey) (Or.inr hx5)) rfl rfl (Nat.le_of_ble_eq_true rfl) (by decide) (by omega) (by omega) (fun r63 I63 L63 hI63 h63 => ?_) (fun _ _ _ _ _ h => h.elim)
          obtain ⟨rfl, rfl, rfl⟩ := h63
          refine hG.if_eq (tgt := 71) dJ4_getNode_66 rfl (fun c_66 => ?_) (fun c_66 => ?_)
          · first
            | exact hG.lsb [(0, .ref m), (1, .ref key), (2, .ref tb), (3, .ref x.1), (6, .int (nI (hN c)))] ⟨rfl, rfl, rfl, rfl, rfl, trivial⟩ (hno (fun e9 => c_42 (by rw [e9])))
            | exact hG.lsb [(0, .ref m), (1, .ref key), (2, .ref tb), (3, .ref x.1), (6, .int (nI (hN c)))] ⟨rfl, rfl, rfl, rfl, rfl, trivial⟩ (hno (fun e9 => (by simpa [b2i] using c_66 : ¬ c = x.2.1) e9.symm))
          · first
            | (refine hG.uniq (Or.inr hx5) (Or.inr (by rw [c_53]; exact hkey)) cl_X9 rfl rfl (fun hgr => ?_)
               exact hG.lsb [(0, .ref m), (1, .ref key), (2, .ref tb), (3, .ref x.1), (6, .int (nI (hN c)))] ⟨rfl, rfl, rfl, rfl, rfl, trivial⟩ (hyes (grp_eq hx4 hc hgr)))
            | exact hG.lsb [(0, .ref m), (1, .ref key), (2, .ref tb), (3, .ref x.1), (6, .int (nI (hN c)))] ⟨rfl, rfl, rfl, rfl, rfl, trivial⟩ (hyes (by simpa [b2i] using c_66 : c = x.2.1).symm)
/-! the map opened and closed -/
def rfs : Value → List Nat
  | .ref a => [a]
  | _ => []
theorem MpO.mono {I J : AI} {S S' : AL} {m : Nat} {mo : Int32} {es : List Ent} {tbV esV : Value} {cap : Nat} {lf : UInt32} {kr vr : Nat → Nat} (h : MpO I S m mo es tbV esV cap lf kr vr) (hI : ile I J) (hS : ∀ q ∈ m :: (rfs tbV ++ ads es), ∀ x, S q = some x → S' q = some x) : MpO J S' m mo es tbV esV cap lf kr vr := by
  obtain ⟨h1, h2, h3, h4, h5, h6, h7⟩ := h
  refine ⟨hS m (by simp) _ h1, h2, h3, h4, fun x hx => ?_, ?_, ?_⟩
  · obtain ⟨k1, k2, k3, k4⟩ := h5 x hx
    exact ⟨hS x.1 (List.mem_cons_of_mem _ (List.mem_append_right _ (List.mem_map.mpr ⟨x, hx, rfl⟩))) _ k1, k2, hI _ _ k3, hI _ _ k4⟩
  · rcases h6 with h | ⟨q, h, k⟩
    · exact Or.inl h
    · exact Or.inr ⟨q, h, hI _ _ k⟩
  · rcases h7 with h | ⟨k1, k2, tb, f, rfl, k4, k5, k6, k7⟩
    · exact Or.inl h
    · exact Or.inr ⟨k1, k2, tb, f, rfl, k4, k5, hS tb (by simp [rfs]) _ k6, k7⟩
theorem MpO.dom {I : AI} {S : AL} {m : Nat} {mo : Int32} {es : List Ent} {tbV esV : Value} {cap : Nat} {lf : UInt32} {kr vr : Nat → Nat} (h : MpO I S m mo es tbV esV cap lf kr vr) : ∀ q ∈ m :: (rfs tbV ++ ads es), S q ≠ none := by
  obtain ⟨h1, h2, h3, h4, h5, h6, h7⟩ := h
  intro q hq
  rcases List.mem_cons.mp hq with e | hq
  · rw [e, h1]; exact (fun h => nomatch h)
  · rcases List.mem_append.mp hq with hq | hq
    · rcases h7 with ⟨-, -, rfl⟩ | ⟨-, -, tb, f, rfl, -, -, k6, -⟩
      · cases hq
      · rw [List.mem_singleton.mp hq, k6]; exact (fun h => nomatch h)
    · obtain ⟨x, hx, e⟩ := List.mem_map.mp hq
      rw [← e, (h5 x hx).1]; exact (fun h => nomatch h)
section MP
variable {l : Launch} {s0 : State} {D : va_G} {own nm : String} {cc : ByteArray} {nL : Nat} {ret : Option FieldType} {tab : List ExceptionTableEntry} {d mc ms : Nat} {Ib : AI} {post : Option Value → AI → AL → Prop} {xp : String → Nat → AI → AL → Prop} {md : Prop} {G : Gt} {GX : GXt}
variable {pc : Nat} {ls : List (Nat × Value)} {st : List Value} {I : AI} {L : AL} {k n : Nat}
theorem IsG.opM (hG : IsG l s0 D own nm cc nL ret tab d mc ms Ib post xp md G GX) {m : Nat} {mo : Int32} {es : List Ent} (h0 : L m = some (mpC mo es)) (kk : ∀ (tbV esV : Value) (cap : Nat) (lf : UInt32) (kr vr : Nat → Nat) (M : AL), MpO I M m mo es tbV esV cap lf kr vr → Frm L m (m :: (rfs tbV ++ ads es)) M → G pc ls st I M k n) : G pc ls st I L k n := by
  refine hG.opn h0 (fun J S M hJ hΦ h1 h2 => ?_)
  obtain ⟨tbV, esV, cap, lf, kr, vr, h⟩ := hΦ
  exact kk tbV esV cap lf kr vr M (h.mono hJ (fun q _ x hx => h1 q x hx)) (frm_of _ (fun q hq _ => h.dom q hq) h2)
theorem IsG.clM (hG : IsG l s0 D own nm cc nL ret tab d mc ms Ib post xp md G GX) {m : Nat} {mo : Int32} {es : List Ent} {tbV esV : Value} {cap : Nat} {lf : UInt32} {kr vr : Nat → Nat} {M : AL} (L : AL) (h : MpO I M m mo es tbV esV cap lf kr vr) {N : List Nat} (hf : Frm L m N M) (hN : ∀ q ∈ m :: (rfs tbV ++ ads es), q ∈ N) (kk : G pc ls st I (up1 L m (some (mpC mo es))) k n) : G pc ls st I M k n :=
  hG.clz 2 L _ (hf.wk hN) (by simp) (h.dom m (by simp)) ⟨tbV, esV, cap, lf, kr, vr, h.mono ile_rf (fun q hq x hx => rst_at hq hx)⟩ kk
theorem IsG.clMs (hG : IsG l s0 D own nm cc nL ret tab d mc ms Ib post xp md G GX) {m : Nat} {mo : Int32} {es : List Ent} {tbV esV : Value} {cap : Nat} {lf : UInt32} {kr vr : Nat → Nat} {M : AL} (L : AL) (h0 : L m = some (mpC mo es)) (h : MpO I M m mo es tbV esV cap lf kr vr) (hf : Frm L m (m :: (rfs tbV ++ ads es)) M) (kk : G pc ls st I L k n) : G pc ls st I M k n :=
  hG.clM L h hf (fun q hq => hq) (by rw [← h0, up1_self]; exact kk)
end MP
theorem Rcv.mp {s0 : State} {D : va_G} {I : AI} {L : AL} {m : Nat} {mo : Int32} {es : List Ent} (h : L m = some (mpC mo es)) : Rcv s0 D I L m "java/util/LinkedHashMap" := by
  intro H hS
  obtain ⟨J, S, h1, ⟨_, _, _, _, _, _, h2⟩, h3, h4, h5⟩ := hS.op h
  exact Rcv.raw (ovl_in h2.1) cl_J5 H h5
theorem ko_J5_99_J5 : LkU RJ5 99 RJ5 ⟨"java/util/LinkedHashMap", "getNode", "(Ljava/lang/Object;)Ljava/util/HashMap$Node;"⟩ yJ4_getNode 1 := ⟨_, q773, q774, q776, q777, q80, by decide +kernel, by decide +kernel, by decide +kernel, Or.inl rfl⟩
theorem fg_J5_64_J5 : LkG RJ5 64 ciJ5 10 := ⟨RJ5, TJ5, 12, tyJ5, _, cls_J5, by decide, Or.inl rfl, Or.inl q210⟩
theorem fg_J5_107_J31 : LkG RJ5 107 ciJ31 2 := ⟨RJ31, TJ31, 6, tyJ31, _, cls_J31, by decide, Or.inl rfl, Or.inl q1440⟩
set_option maxHeartbeats 4000000 in
set_option maxRecDepth 100000 in
theorem sp_J5_get {l : Launch} {s0 : State} {D : va_G} {I : AI} {L : AL} {m key c : Nat} {mo : Int32} {es : List Ent} (hΓ : Gam l s0 D) (hNT : StN s0) (h0 : L m = some (mpC mo es)) (hc : c < 147) (hkey : I key (ob ciX9 (grp c))) : Spc l s0 D yJ5_get 4 [.ref m, .ref key] I L 0 0 (fun r I' L' => I = I' ∧ L = L' ∧ ((lkp es c = none ∧ r = some .null) ∨ ∃ x vr, lkp es c = some x ∧ r = some (.ref vr) ∧ I vr (bxE x.2.2))) noX := by
  refine Spc.of hΓ cJ5_get 3 (some (FieldType.object "java/lang/Object")) q772 (by decide +kernel) (by decide) (Nat.le_of_ble_eq_true rfl) (fun G GX hG => ?_)
  refine hG.opM h0 (fun tbV esV cap lf kr vr M h hf => ?_)
  have h1 := h.1
  rcases hk : lkp es c with _ | x
  · refine hG.aload_n dJ5_get_0 rfl ?_
    refine hG.aload_n dJ5_get_1 rfl ?_
    refine hG.callU dJ5_get_2 ko_J5_99_J5 (Rcv.raw h1 cl_J5) (sp_J4_getNode hΓ hNT h hc hkey) rfl rfl (Nat.le_of_ble_eq_true rfl) (by decide) (by omega) (by omega) (fun r2 I2 L2 hI2 h2 => ?_) (fun _ _ _ _ _ h => h.elim)
    obtain ⟨rfl, rfl, rfl⟩ := h2
    rw [hk]
    refine hG.dup dJ5_get_5 rfl ?_
    refine hG.astore_nN dJ5_get_6 (by decide) ?_
    refine hG.ifnonnullN dJ5_get_7 ?_
    refine hG.null dJ5_get_10 ?_
    refine hG.clMs L h0 h hf ?_
    refine hG.aret dJ5_get_11 rfl (by first | exact Or.inl ⟨_, rfl⟩ | exact Or.inr ⟨_, rfl⟩) (by first | exact Or.inr ⟨_, rfl⟩ | exact Or.inl rfl) ?_ (by omega) (by omega) trivial
    exact ⟨rfl, rfl, Or.inl ⟨hk, rfl⟩⟩
  · obtain ⟨hx0, hxc⟩ := lkp_some hk
    obtain ⟨hx3, hx4, hx5, hx6⟩ := h.2.2.2.2.1 x hx0
    refine hG.aload_n dJ5_get_0 rfl ?_
    refine hG.aload_n dJ5_get_1 rfl ?_
    refine hG.callU dJ5_get_2 ko_J5_99_J5 (Rcv.raw h1 cl_J5) (sp_J4_getNode hΓ hNT h hc hkey) rfl rfl (Nat.le_of_ble_eq_true rfl) (by decide) (by omega) (by omega) (fun r2 I2 L2 hI2 h2 => ?_) (fun _ _ _ _ _ h => h.elim)
    obtain ⟨rfl, rfl, rfl⟩ := h2
    rw [hk]
    refine hG.dup dJ5_get_5 rfl ?_
    refine hG.astore_n dJ5_get_6 (by decide) ?_
    refine hG.ifnonnull (tgt := 12) dJ5_get_7 rfl ?_
    refine hG.aload_n dJ5_get_12 rfl ?_
    refine hG.get dJ5_get_13 fg_J5_64_J5 (Or.inl h1) rfl ?_
    refine hG.if_eq (tgt := 24) dJ5_get_16 rfl (fun c_16 => ?_) (fun c_16 => absurd rfl c_16)
    refine hG.aload_n dJ5_get_24 rfl ?_
    refine hG.get dJ5_get_25 fg_J5_107_J31 (Or.inl hx3) rfl ?_
    refine hG.clMs L h0 h hf ?_
    refine hG.aret dJ5_get_28 rfl (by first | exact Or.inl ⟨_, rfl⟩ | exact Or.inr ⟨_, rfl⟩) (by first | exact Or.inr ⟨_, rfl⟩ | exact Or.inl rfl) ?_ (by omega) (by omega) trivial
    exact ⟨rfl, rfl, Or.inr ⟨x, _, hk, rfl, hx6⟩⟩
