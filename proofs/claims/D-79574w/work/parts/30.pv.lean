theorem ko_J4_117_J5 : LkU RJ4 117 RJ5 yJ4_resize yJ4_resize 0 := ⟨_, q1516, q1518, q1519, q1517, q80, by decide +kernel, by decide +kernel, by decide +kernel, Or.inl rfl⟩
set_option maxHeartbeats 4000000 in
set_option maxRecDepth 100000 in
theorem sp_J4_treeifyBin {l : Launch} {s0 : State} {D : va_G} {I : AI} {L : AL} {m tb j : Nat} {a2 a3 a4 a6 a7 a8 a9 a10 a11 a12 : Value} {es : List Ent} {f : Nat → Option Nat} {kr vr : Nat → Nat} (hΓ : Gam l s0 D) (hNT : StN s0) (h0 : L m = some (obC ciJ5 [.ref tb, a2, a3, a4, .int (nI 12), a6, a7, a8, a9, a10, a11, a12])) (hna : (ads es).Nodup) (hme : m ∉ ads es) (htm : tb ≠ m) (hta : tb ∉ ads es) (hT1 : L tb = some (.inl (arQ NODE 16 f))) (hT2 : ∀ j, j < 16 → f j = (bkt es 16 j).head?) (hE : EntG I L es (nxB es 16) (ads es) kr vr) : Spc l s0 D yJ4_treeifyBin 2 [.ref m, .ref tb, .int (nI j)] I L 1 32 (fun r I' L' => r = none ∧ I = I' ∧ ∃ q f', L q = none ∧ L' m = some (obC ciJ5 [.ref q, a2, a3, a4, .int (nI 24), a6, a7, a8, a9, a10, a11, a12]) ∧ L' q = some (.inl (arQ NODE 32 f')) ∧ (∀ j, j < 32 → f' j = (bkt es 32 j).head?) ∧ EntG I L' es (nxB es 32) (ads es) kr vr ∧ ∀ z, z ≠ m → z ≠ q → z ≠ tb → z ∉ ads es → L' z = L z) noX := by
  refine Spc.of hΓ cJ4_treeifyBin 9 none q1592 (by decide +kernel) (by decide) (Nat.le_of_ble_eq_true rfl) (fun G GX hG => ?_)
  refine hG.aload_n dJ4_treeifyBin_0 rfl ?_
  refine hG.ifnull dJ4_treeifyBin_1 ?_
  refine hG.aload_n dJ4_treeifyBin_4 rfl ?_
  refine hG.alen dJ4_treeifyBin_5 (Or.inl hT1) ?_
  refine hG.dup dJ4_treeifyBin_6 rfl ?_
  refine hG.istore_n dJ4_treeifyBin_7 (by decide) ?_
  refine hG.bipush (v := 64) dJ4_treeifyBin_8 rfl ?_
  refine hG.icmp_ge (tgt := 21) dJ4_treeifyBin_10 rfl (fun c_10 => absurd (show (64 : Int32) ≤ nI 16 from c_10) (by decide +kernel)) (fun c_10 => ?_)
  refine hG.aload_n dJ4_treeifyBin_13 rfl ?_
  refine hG.callU dJ4_treeifyBin_14 ko_J4_117_J5 (Rcv.raw h0 cl_J5) (sp_J4_resizeB hΓ hNT h0 hna hme htm hta hT1 hT2 hE) rfl rfl (Nat.le_of_ble_eq_true rfl) (by decide) (by omega) (by omega) (fun r14 I14 L14 hI14 h14 => ?_) (fun _ _ _ _ _ h => h.elim)
  obtain ⟨rfl, q, f', k1, rfl, k2, k3, k4, k5, k6⟩ := h14
  refine hG.pop dJ4_treeifyBin_17 rfl ?_
  refine hG.goto (tgt := 109) dJ4_treeifyBin_18 rfl ?_
  refine hG.vret dJ4_treeifyBin_109 rfl ?_ (by omega) (by omega) trivial
  exact ⟨rfl, rfl, q, f', k1, k2, k3, k4, k5, k6⟩
/-- the table doubled under the entries -/
theorem MpN.rsz {I : AI} {S S' L0 : AL} {N : List Nat} {m : Nat} {mo : Int32} {sz : Nat} {es : List Ent} {tb : Nat} {esV : Value} {lf : UInt32} {kr vr : Nat → Nat} {q : Nat} {f' : Nat → Option Nat} (h : MpN I S m mo sz es tb esV 16 lf kr vr) (hF : Far L0 N (m :: tb :: ads es) S) (hq0 : S q = none)
    (hm : S' m = some (obC ciJ5 [.ref q, esV, .int (nI sz), .int mo, .int (nI 24), .float lf, .null, .null, va_rf (ads es).head?, va_rf (ads es).getLast?, .int 0, .int 0])) (hf : S' q = some (.inl (arQ NODE 32 f'))) (hf2 : ∀ j, j < 32 → f' j = (bkt es 32 j).head?) (hE : EntG I S' es (nxB es 32) (ads es) kr vr) (ho : ∀ z, z ≠ m → z ≠ q → z ≠ tb → z ∉ ads es → S' z = S z) :
    MpN I S' m mo sz es q esV 32 lf kr vr ∧ Far L0 N (m :: q :: ads es) S' := by
  obtain ⟨h1, h2, h3, h4, h5, h6, h7, h8, h9, -⟩ := h
  have hqa : q ∉ ads es := fun hm => by
    obtain ⟨x, hx, e⟩ := List.mem_map.mp hm
    have := (h5 x hx).1
    rw [e, hq0] at this
    cases this
  have hqm : q ≠ m := fun e => by rw [e, h1] at hq0; cases hq0
  refine ⟨⟨hm, h2, h3, h4, hE, h6, by simp [caps], hqm, hqa, f', hf, hf2⟩, fun z x hz hn => ?_⟩
  obtain ⟨k1, k2⟩ := hF z x hz hn
  simp only [List.mem_cons, not_or] at k1
  have hzq : z ≠ q := fun e => by rw [e, hq0] at k2; cases k2
  refine ⟨?_, (ho z k1.1 hzq k1.2.1 k1.2.2).trans k2⟩
  simp only [List.mem_cons, not_or]
  exact ⟨k1.1, hzq, k1.2.2⟩
theorem ko_J4_205_J5 : LkU RJ4 205 RJ5 ⟨"java/util/HashMap", "afterNodeInsertion", "(Z)V"⟩ yJ5_afterNodeInsertion 1 := ⟨_, q1606, q1608, q1609, q1610, q81, by decide +kernel, by decide +kernel, by decide +kernel, Or.inr (Or.inr q1616)⟩
theorem fg_J4_202_J5 : LkG RJ4 202 ciJ5 3 := ⟨RJ5, TJ5, 12, tyJ5, _, cls_J5, by decide, Or.inl rfl, Or.inl q219⟩
theorem fp_J4_202_J5 {nm : String} : LkP RJ4 nm 202 ciJ5 3 (tyJ5 3) := ⟨RJ5, TJ5, 12, tyJ5, _, cls_J5, by decide, rfl, Or.inl rfl, Or.inl ⟨rfl, q219⟩⟩
theorem fg_J4_156_J5 : LkG RJ4 156 ciJ5 2 := ⟨RJ5, TJ5, 12, tyJ5, _, cls_J5, by decide, Or.inl rfl, Or.inl q215⟩
theorem fp_J4_156_J5 {nm : String} : LkP RJ4 nm 156 ciJ5 2 (tyJ5 2) := ⟨RJ5, TJ5, 12, tyJ5, _, cls_J5, by decide, rfl, Or.inl rfl, Or.inl ⟨rfl, q215⟩⟩
theorem fg_J4_162_J31 : LkG RJ4 162 ciJ31 2 := ⟨RJ31, TJ31, 6, tyJ31, _, cls_J31, by decide, Or.inl rfl, Or.inl q1439⟩
theorem fp_J4_162_J31 {nm : String} : LkP RJ4 nm 162 ciJ31 2 (tyJ31 2) := ⟨RJ31, TJ31, 6, tyJ31, _, cls_J31, by decide, rfl, Or.inl rfl, Or.inl ⟨rfl, q1439⟩⟩
theorem ko_J4_198_J5 : LkU RJ4 198 RJ5 ⟨"java/util/HashMap", "afterNodeAccess", "(Ljava/util/HashMap$Node;)V"⟩ yJ5_afterNodeAccess 1 := ⟨_, q1601, q1603, q1604, q1380, q81, by decide +kernel, by decide +kernel, by decide +kernel, Or.inr (Or.inr q1605)⟩
theorem ko_J4_186_J5 : LkU RJ4 186 RJ5 ⟨"java/util/HashMap", "newNode", "(ILjava/lang/Object;Ljava/lang/Object;Ljava/util/HashMap$Node;)Ljava/util/HashMap$Node;"⟩ yJ5_newNode 4 := ⟨_, q1537, q1539, q1540, q1541, q81, by decide +kernel, by decide +kernel, by decide +kernel, Or.inr (Or.inr q1547)⟩
theorem ko_J4_194_J5 : LkU RJ4 194 RJ5 yJ4_treeifyBin yJ4_treeifyBin 2 := ⟨_, q1588, q1590, q1591, q1589, q80, by decide +kernel, by decide +kernel, by decide +kernel, Or.inl rfl⟩
set_option maxHeartbeats 4000000 in
set_option maxRecDepth 100000 in
theorem sp_J4_putVal {l : Launch} {s0 : State} {D : va_G} {I : AI} {L : AL} {m key val c : Nat} {v mo : Int32} {es : List Ent} {tbV esV : Value} {cap : Nat} {lf : UInt32} {kr vr : Nat → Nat} (hΓ : Gam l s0 D) (hNT : StN s0) (h : MpO I L m mo es tbV esV cap lf kr vr) (hb : es.length ≤ 23) (hc : c < 147) (hkey : I key (ob ciX9 (grp c))) (hval : I val (bxE v)) : Spc l s0 D yJ4_putVal 6 [.ref m, .int (nI (hN c)), .ref key, .ref val, .int 0, .int 1] I L 2 38 (fun r I' L' => I = I' ∧ (∃ o, r = some (va_rf o) ∧ ∀ a, o = some a → ∃ w, I a (bxE w)) ∧ ∃ (q : Nat) (mo' : Int32) (tbV' : Value) (cap' : Nat) (kr' vr' : Nat → Nat), MpO I L' m mo' (mput es q c v) tbV' esV cap' lf kr' vr' ∧ Far L (m :: (rfs tbV ++ ads es)) (m :: (rfs tbV' ++ ads (mput es q c v))) L') noX := by
  refine Spc.of hΓ cJ4_putVal 13 (some (FieldType.object "java/lang/Object")) q1515 (by decide +kernel) (by decide) (Nat.le_of_ble_eq_true rfl) (fun G GX hG => ?_)
  have k292 : ∀ (q tb cap : Nat) (kr' vr' : Nat → Nat) (L1 : AL) (k n : Nat), k ≤ 2 → n ≤ 38 → lkp es c = none → MpN I L1 m (mo + 1) (es.length + 1) (es ++ [(q, c, v)]) tb esV cap lf kr' vr' → es.length + 1 ≤ 3 * cap / 4 → Far L (m :: (rfs tbV ++ ads es)) (m :: tb :: ads (es ++ [(q, c, v)])) L1 → G 292 [(0, .ref m), (5, .int 1)] [] I L1 k n := by
    intro q tb cap kr' vr' L1 k n hk hn hl hM hcap hF
    refine hG.aload_n dJ4_putVal_292 rfl ?_
    refine hG.iload dJ4_putVal_293 rfl ?_
    refine hG.callU dJ4_putVal_295 ko_J4_205_J5 (Rcv.raw hM.1 cl_J5) (sp_J5_afterNodeInsertion hΓ hM.1) rfl rfl (Nat.le_of_ble_eq_true rfl) (by decide) (by omega) (by omega) (fun r295 I295 L295 hI295 h295 => ?_) (fun _ _ _ _ _ h => h.elim)
    obtain ⟨rfl, rfl, rfl⟩ := h295
    refine hG.null dJ4_putVal_298 ?_
    refine hG.aret dJ4_putVal_299 rfl (by first | exact Or.inl ⟨_, rfl⟩ | exact Or.inr ⟨_, rfl⟩) (Or.inl rfl) ?_ hk hn trivial
    have e : mput es q c v = es ++ [(q, c, v)] := by unfold mput; rw [hl]
    refine ⟨rfl, ⟨none, rfl, fun _ h => (nomatch h)⟩, q, mo + 1, .ref tb, cap, kr', vr', ?_, ?_⟩
    · rw [e]; exact hM.mk (by simp) (by simpa using hcap)
    · rw [e]; exact hF.wk (fun z hz => by simpa [rfs] using hz)
  have k259 : ∀ (q tb cap : Nat) (kr' vr' : Nat → Nat) (L1 : AL) (k n : Nat), k ≤ 2 → n ≤ 38 → (cap = 16 → 12 ≤ es.length → k ≤ 1 ∧ n ≤ 6) → lkp es c = none → MpN I L1 m mo es.length (es ++ [(q, c, v)]) tb esV cap lf kr' vr' → Far L (m :: (rfs tbV ++ ads es)) (m :: tb :: ads (es ++ [(q, c, v)])) L1 → G 259 [(0, .ref m), (5, .int 1)] [] I L1 k n := by
    intro q tb cap kr' vr' L1 k n hk hn hkn hl hM hF
    have hM1 := hM.1
    have hcb := caps_in hM.2.2.2.2.2.2.1
    have hM' : ∀ L2, L2 = up1 L1 m (some (obC ciJ5 [.ref tb, esV, .int (nI (es.length + 1)), .int (mo + 1), .int (nI (3 * cap / 4)), .float lf, .null, .null, va_rf (ads (es ++ [(q, c, v)])).head?, va_rf (ads (es ++ [(q, c, v)])).getLast?, .int 0, .int 0])) → MpN I L2 m (mo + 1) (es.length + 1) (es ++ [(q, c, v)]) tb esV cap lf kr' vr' := by
      rintro L2 rfl
      obtain ⟨h1, h2, h3, h4, h5, h6, h7, h8, h9, f, m1, m2⟩ := hM
      exact ⟨up1_s, h2, h3, h4, h5.congr (fun x hx => up1_n (fun e => h4 (e ▸ ads_of hx))) (fun _ _ => rfl) (fun _ _ => ⟨rfl, rfl⟩), h6, h7, h8, h9, f, by rw [up1_n h8]; exact m1, m2⟩
    have hF' : ∀ x, Far L (m :: (rfs tbV ++ ads es)) (m :: tb :: ads (es ++ [(q, c, v)])) (up1 L1 m x) := fun x => hF.up (by simp) x
    refine hG.aload_n dJ4_putVal_259 rfl ?_
    refine hG.dup dJ4_putVal_260 rfl ?_
    refine hG.get dJ4_putVal_261 fg_J4_202_J5 (Or.inl hM1) rfl ?_
    refine hG.iconst (v := 1) dJ4_putVal_264 rfl ?_
    refine hG.iadd dJ4_putVal_265 ?_
    refine hG.put dJ4_putVal_266 fp_J4_202_J5 hM1 rfl rfl (Nat.le_of_ble_eq_true rfl) ?_
    refine hG.aload_n dJ4_putVal_269 rfl ?_
    refine hG.dup dJ4_putVal_270 rfl ?_
    refine hG.get dJ4_putVal_271 fg_J4_156_J5 (Or.inl up1_s) rfl ?_
    refine hG.iconst (v := 1) dJ4_putVal_274 rfl ?_
    refine hG.iadd dJ4_putVal_275 ?_
    refine hG.dup_x1 dJ4_putVal_276 rfl rfl ?_
    refine hG.put dJ4_putVal_277 fp_J4_156_J5 up1_s rfl rfl (Nat.le_of_ble_eq_true rfl) ?_
    refine hG.aload_n dJ4_putVal_280 rfl ?_
    refine hG.get dJ4_putVal_281 fg_J4_88_J5 (Or.inl up1_s) rfl ?_
    rw [up1_up1, nI_1] at *
    have hM2 := hM' _ rfl
    refine hG.icmp_le (tgt := 292) dJ4_putVal_284 rfl (fun c_284 => ?_) (fun c_284 => ?_)
    · exact hG.lsb [(0, .ref m), (5, .int 1)] ⟨rfl, rfl, trivial⟩ (k292 q tb cap kr' vr' _ k n hk hn hl hM2 ((nI_leI (by omega) (by omega)).mp c_284) (hF' _))
    · have c_284 := mt (nI_leI (a := es.length + 1) (b := 3 * cap / 4) (by omega) (by omega)).mpr c_284
      have h16 : cap = 16 := by
        have := hM.2.2.2.2.2.2.1
        simp only [List.mem_cons, List.not_mem_nil, or_false] at this
        omega
      subst h16
      obtain ⟨hk1, hn1⟩ := hkn rfl (by omega)
      obtain ⟨f, m1, m2⟩ := hM2.2.2.2.2.2.2.2.2.2
      refine hG.aload_n dJ4_putVal_287 rfl ?_
      refine hG.callU dJ4_putVal_288 ko_J4_117_J5 (Rcv.raw hM2.1 cl_J5) (sp_J4_resizeB hΓ hNT hM2.1 hM2.2.1 hM2.2.2.2.1 hM2.2.2.2.2.2.2.2.1 hM2.2.2.2.2.2.2.2.2.1 m1 m2 hM2.2.2.2.2.1) rfl rfl (Nat.le_of_ble_eq_true rfl) (by decide) (by omega) (by omega) (fun r288 I288 L288 hI288 h288 => ?_) (fun _ _ _ _ _ h => h.elim)
      obtain ⟨rfl, q2, f', j1, rfl, j2, j3, j4, j5, j6⟩ := h288
      obtain ⟨hM3, hF3⟩ := hM2.rsz (hF' _) j1 j2 j3 j4 j5 j6
      refine hG.pop dJ4_putVal_291 rfl ?_
      exact hG.lsb [(0, .ref m), (5, .int 1)] ⟨rfl, rfl, trivial⟩ (k292 q q2 32 kr' vr' _ (k + 1) (n + 32) (by omega) (by omega) hl hM3 (by omega) hF3)
  have k222 : ∀ (x : Ent) (tb cap : Nat) (L1 : AL) (k n : Nat), k ≤ 2 → n ≤ 38 → MpN I L1 m mo es.length es tb esV cap lf kr vr → es.length ≤ 3 * cap / 4 → Far L (m :: (rfs tbV ++ ads es)) (m :: tb :: ads es) L1 → x ∈ es → x.2.1 = c → G 222 [(0, .ref m), (3, .ref val), (4, .int 0), (10, .ref x.1)] [] I L1 k n := by
    intro x tb cap L1 k n hk hn hM hcap hF hx hxc
    obtain ⟨hx1, hx2, hx3, hx4⟩ := hM.2.2.2.2.1 x hx
    have hmx : m ≠ x.1 := fun e => hM.2.2.2.1 (e ▸ ads_of hx)
    refine hG.aload dJ4_putVal_222 rfl ?_
    refine hG.ifnull dJ4_putVal_224 ?_
    refine hG.aload dJ4_putVal_227 rfl ?_
    refine hG.get dJ4_putVal_229 fg_J4_162_J31 (Or.inl hx1) rfl ?_
    refine hG.astore dJ4_putVal_232 (by decide) ?_
    refine hG.iload dJ4_putVal_234 rfl ?_
    refine hG.if_eq (tgt := 244) dJ4_putVal_236 rfl (fun c_236 => ?_) (fun c_236 => absurd rfl c_236)
    refine hG.aload dJ4_putVal_244 rfl ?_
    refine hG.aload_n dJ4_putVal_246 rfl ?_
    refine hG.put dJ4_putVal_247 fp_J4_162_J31 hx1 rfl rfl (Nat.le_of_ble_eq_true rfl) ?_
    refine hG.aload_n dJ4_putVal_250 rfl ?_
    refine hG.aload dJ4_putVal_251 rfl ?_
    refine hG.callU dJ4_putVal_253 ko_J4_198_J5 (Rcv.raw ((up1_n hmx).trans hM.1) cl_J5) (sp_J5_afterNodeAccess hΓ ((up1_n hmx).trans hM.1)) rfl rfl (Nat.le_of_ble_eq_true rfl) (by decide) (by omega) (by omega) (fun r253 I253 L253 hI253 h253 => ?_) (fun _ _ _ _ _ h => h.elim)
    obtain ⟨rfl, rfl, rfl⟩ := h253
    refine hG.aload dJ4_putVal_256 rfl ?_
    refine hG.aret dJ4_putVal_258 rfl (by first | exact Or.inl ⟨_, rfl⟩ | exact Or.inr ⟨_, rfl⟩) (by first | exact Or.inr ⟨_, rfl⟩ | exact Or.inl rfl) ?_ (by omega) (by omega) trivial
    have e : mput es 0 c v = rplL es c v := by unfold mput; rw [← hxc, lkp_of hM.2.2.1 hx]
    refine ⟨rfl, ⟨some _, rfl, fun a ha => by cases ha; exact ⟨_, hx4⟩⟩, 0, mo, .ref tb, cap, kr, uf vr x.1 val, ?_, ?_⟩
    · rw [e]
      exact (hM.rpv hval hx hxc up1_s (fun z hz => up1_n hz)).mk (by simp) (by simpa using hcap)
    · rw [e]
      refine (hF.up (b := x.1) (by simp [ads_of hx]) _).wk (fun z hz => ?_)
      rw [rpl_ads] at hz
      simpa [rfs] using hz
  have k145 : ∀ (y : Ent) (tb cap i : Nat) (L1 : AL) (k n : Nat), ((k = 0 ∧ n = 0) ∨ es = []) → MpN I L1 m mo es.length es tb esV cap lf kr vr → es.length ≤ 3 * cap / 4 → Far L (m :: (rfs tbV ++ ads es)) (m :: tb :: ads es) L1 → y ∈ es → (bkt es cap (hN c % cap)).getLast? = some y.1 → i + 1 = (bkt es cap (hN c % cap)).length → lkp es c = none → G 145 [(0, .ref m), (1, .int (nI (hN c))), (2, .ref key), (3, .ref val), (4, .int 0), (5, .int 1), (6, .ref tb), (7, .ref y.1), (10, .null), (12, .int (nI i))] [] I L1 k n := by
    intro y tb cap i L1 k n hkn0 hM hcap hF hy hlast hi hl
    have hkn : k = 0 ∧ n = 0 := by
      rcases hkn0 with h | h
      · exact h
      · rw [h] at hy; cases hy
    obtain ⟨rfl, rfl⟩ := hkn
    have hcb := caps_in hM.2.2.2.2.2.2.1
    have hil : i < 147 := by
      have h1 := es_len (fun x hx => (hM.2.2.2.2.1 x hx).2.1) hM.2.2.1
      have h2 : (bkt es cap (hN c % cap)).length ≤ es.length := by unfold bkt; rw [List.length_map]; exact List.length_filter_le _ _
      omega
    have hym : m ≠ y.1 := fun e => hM.2.2.2.1 (e ▸ ads_of hy)
    obtain ⟨f, m1, m2⟩ := hM.2.2.2.2.2.2.2.2.2
    refine hG.aload dJ4_putVal_145 rfl ?_
    refine hG.aload_n dJ4_putVal_147 rfl ?_
    refine hG.iload_n dJ4_putVal_148 rfl ?_
    refine hG.aload_n dJ4_putVal_149 rfl ?_
    refine hG.aload_n dJ4_putVal_150 rfl ?_
    refine hG.null dJ4_putVal_151 ?_
    refine hG.callU dJ4_putVal_152 ko_J4_186_J5 (Rcv.raw hM.1 cl_J5) (sp_J5_newNode hΓ hM.1 hM.2.1 hM.2.2.2.1 hM.2.2.2.2.1 hc) rfl rfl (Nat.le_of_ble_eq_true rfl) (by decide) (by omega) (by omega) (fun r152 I152 L152 hI152 h152 => ?_) (fun _ _ _ _ _ h => h.elim)
    obtain ⟨rfl, q, hq0, hqm, hqa, rfl, hm2, hq2, hE2, ho2⟩ := h152
    have hqt : q ≠ tb := fun e => by rw [e, m1] at hq0; cases hq0
    have htb2 := (ho2 tb hM.2.2.2.2.2.2.2.1 hqt.symm hM.2.2.2.2.2.2.2.2.1).trans m1
    have hF2 : Far L (m :: (rfs tbV ++ ads es)) (m :: tb :: ads (es ++ [(q, c, v)])) L152 := fun z x hz hn => by
      obtain ⟨g1, g2⟩ := hF z x hz hn
      have hzq : z ≠ q := fun e => by rw [e, hq0] at g2; cases g2
      rw [ads_app]
      simp only [List.mem_cons, List.mem_append, List.not_mem_nil, or_false, not_or] at g1 ⊢
      exact ⟨⟨g1.1, g1.2.1, g1.2.2, hzq⟩, (ho2 z g1.1 hzq g1.2.2).trans g2⟩
    have hqy : q ≠ y.1 := fun e => hqa (e ▸ ads_of hy)
    refine hG.put dJ4_putVal_155 fp_J4_177_J31 (hE2 y hy).1 rfl rfl (Nat.le_of_ble_eq_true rfl) ?_
    have hM2 : MpN I (up1 L152 y.1 (some (obC ciJ31 [.int (nI (hN y.2.1)), .ref (kr y.1), .ref (vr y.1), .ref q, va_rf (prd (ads es ++ [q]) y.1), va_rf (suc (ads es ++ [q]) y.1)]))) m mo es.length (es ++ [(q, c, v)]) tb esV cap lf (uf kr q key) (uf vr q val) := by
      refine hM.add hc hkey hval hl hqm hqa hqt ((up1_n hym).trans hm2) ((up1_n hqy).trans hq2) (by rw [hlast]; exact hE2.st1 hM.2.1 hy (some q)) ((up1_n (fun e : tb = y.1 => hM.2.2.2.2.2.2.2.2.1 (e ▸ ads_of hy))).trans htb2) (fun j hj => ?_)
      rw [m2 j hj, bkt_app, bkt_one]
      by_cases e : hN c % cap = j
      · rw [if_pos e]
        rw [e] at hlast
        exact (hd_app hlast.symm).symm
      · rw [if_neg e, List.append_nil]
    have hF3 := hF2.up (b := y.1) (by rw [ads_app]; simp [ads_of hy]) (some (obC ciJ31 [.int (nI (hN y.2.1)), .ref (kr y.1), .ref (vr y.1), .ref q, va_rf (prd (ads es ++ [q]) y.1), va_rf (suc (ads es ++ [q]) y.1)]))
    refine hG.iload dJ4_putVal_158 rfl ?_
    refine hG.bipush (v := 7) dJ4_putVal_160 rfl ?_
    refine hG.icmp_lt (tgt := 222) dJ4_putVal_162 rfl (fun c_162 => ?_) (fun c_162 => ?_)
    · refine hG.aloadN dJ4_putVal_222 rfl ?_
      refine hG.ifnullN (tgt := 259) dJ4_putVal_224 rfl ?_
      exact hG.lsb [(0, .ref m), (5, .int 1)] ⟨rfl, rfl, trivial⟩ (k259 q tb cap _ _ _ _ _ (by omega) (by omega) (fun _ _ => ⟨by omega, by omega⟩) hl hM2 hF3)
    · have h7 : 7 ≤ i := Nat.le_of_not_lt (fun q => c_162 (by have := nI_lt (a := i) (b := 7) q (by decide); exact this))
      have h16 : cap = 16 := by
        have hcp := hM.2.2.2.2.2.2.1
        by_cases e : cap = 16
        · exact e
        · have h3 := bkt_len (cap := cap) (j := hN c % cap) (fun x hx => (hM.2.2.2.2.1 x hx).2.1) hM.2.2.1 (by simp only [List.mem_cons, List.not_mem_nil, or_false] at hcp ⊢; omega) (Nat.mod_lt _ (by omega))
          omega
      subst h16
      obtain ⟨f3, m3, m4⟩ := hM2.2.2.2.2.2.2.2.2.2
      refine hG.aload_n dJ4_putVal_165 rfl ?_
      refine hG.aload dJ4_putVal_166 rfl ?_
      refine hG.iload_n dJ4_putVal_168 rfl ?_
      refine hG.callU dJ4_putVal_169 ko_J4_194_J5 (Rcv.raw hM2.1 cl_J5) (sp_J4_treeifyBin hΓ hNT hM2.1 hM2.2.1 hM2.2.2.2.1 hM2.2.2.2.2.2.2.2.1 hM2.2.2.2.2.2.2.2.2.1 m3 m4 hM2.2.2.2.2.1) rfl rfl (Nat.le_of_ble_eq_true rfl) (by decide) (by omega) (by omega) (fun r169 I169 L169 hI169 h169 => ?_) (fun _ _ _ _ _ h => h.elim)
      obtain ⟨rfl, rfl, q2, f', j1, j2, j3, j4, j5, j6⟩ := h169
      obtain ⟨hM4, hF4⟩ := hM2.rsz hF3 j1 j2 j3 j4 j5 j6
      refine hG.goto (tgt := 222) dJ4_putVal_172 rfl ?_
      refine hG.aloadN dJ4_putVal_222 rfl ?_
      refine hG.ifnullN (tgt := 259) dJ4_putVal_224 rfl ?_
      exact hG.lsb [(0, .ref m), (5, .int 1)] ⟨rfl, rfl, trivial⟩ (k259 q q2 32 _ _ _ _ _ (by omega) (by omega) (fun h => absurd h (by decide)) hl hM4 hF4)
  have k134 : ∀ (post pre : List Nat) (p : Ent) (tb cap i : Nat) (L1 : AL) (k n : Nat), ((k = 0 ∧ n = 0) ∨ es = []) → MpN I L1 m mo es.length es tb esV cap lf kr vr → es.length ≤ 3 * cap / 4 → Far L (m :: (rfs tbV ++ ads es)) (m :: tb :: ads es) L1 → p ∈ es → bkt es cap (hN c % cap) = pre ++ p.1 :: post → i = pre.length → (∀ y ∈ es, y.1 ∈ pre ++ [p.1] → y.2.1 ≠ c) → G 134 [(0, .ref m), (1, .int (nI (hN c))), (2, .ref key), (3, .ref val), (4, .int 0), (5, .int 1), (6, .ref tb), (7, .ref p.1), (12, .int (nI i))] [] I L1 k n := by
    intro post
    induction post with
    | nil =>
      intro pre p tb cap i L1 k n hkn hM hcap hF hp hB hi hne
      have hkn2 : k ≤ 2 ∧ n ≤ 38 := by
        rcases hkn with h | h
        · omega
        · rw [h] at hp; cases hp
      have hp1 := (hM.2.2.2.2.1 p hp).1
      have hpc : hN p.2.1 % cap = hN c % cap := (bkt_in hM.2.1 hp).mp (by rw [hB]; simp)
      have hnx : nxB es cap p = none := by
        show suc (bkt es cap (hN p.2.1 % cap)) p.1 = _
        rw [hpc]
        exact suc_head (bkt_nodup hM.2.1 _ _) hB
      unfold entG at hp1
      rw [hnx] at hp1
      refine hG.aload dJ4_putVal_134 rfl ?_
      refine hG.get dJ4_putVal_136 fg_J4_177_J31 (Or.inl hp1) rfl ?_
      refine hG.dup dJ4_putVal_139 rfl ?_
      refine hG.astoreN dJ4_putVal_140 (by decide) ?_
      refine hG.ifnonnullN dJ4_putVal_142 ?_
      exact hG.lsb [(0, .ref m), (1, .int (nI (hN c))), (2, .ref key), (3, .ref val), (4, .int 0), (5, .int 1), (6, .ref tb), (7, .ref p.1), (10, .null), (12, .int (nI i))] ⟨rfl, rfl, rfl, rfl, rfl, rfl, rfl, rfl, rfl, rfl, trivial⟩ (k145 p tb cap i L1 k n hkn hM hcap hF hp (by rw [hB]; simp) (by rw [hB]; simp [hi]) (lkp_bkt (cap := cap) (fun y hy hm => hne y hy (by rw [hB] at hm; exact hm))))
    | cons e2 post ih =>
      intro pre p tb cap i L1 k n hkn hM hcap hF hp hB hi hne
      have hkn2 : k ≤ 2 ∧ n ≤ 38 := by
        rcases hkn with h | h
        · omega
        · rw [h] at hp; cases hp
      have hp1 := (hM.2.2.2.2.1 p hp).1
      have hpc : hN p.2.1 % cap = hN c % cap := (bkt_in hM.2.1 hp).mp (by rw [hB]; simp)
      have hnx : nxB es cap p = some e2 := by
        show suc (bkt es cap (hN p.2.1 % cap)) p.1 = _
        rw [hpc]
        exact suc_head (bkt_nodup hM.2.1 _ _) hB
      unfold entG at hp1
      rw [hnx] at hp1
      obtain ⟨x, hx0, rfl, hxj⟩ := bkt_mem (es := es) (cap := cap) (j := hN c % cap) (e := e2) (by rw [hB]; simp)
      obtain ⟨hx1, hx2, hx3, hx4⟩ := hM.2.2.2.2.1 x hx0
      have hyes : x.2.1 = c → G 222 [(0, .ref m), (1, .int (nI (hN c))), (2, .ref key), (3, .ref val), (4, .int 0), (5, .int 1), (6, .ref tb), (7, .ref p.1), (10, .ref x.1), (12, .int (nI i))] [] I L1 k n := fun e9 => by
        exact hG.lsb [(0, .ref m), (3, .ref val), (4, .int 0), (10, .ref x.1)] ⟨rfl, rfl, rfl, rfl, trivial⟩ (k222 x tb cap L1 k n hkn2.1 hkn2.2 hM hcap hF hx0 e9)
      have hno : x.2.1 ≠ c → G 212 [(0, .ref m), (1, .int (nI (hN c))), (2, .ref key), (3, .ref val), (4, .int 0), (5, .int 1), (6, .ref tb), (7, .ref p.1), (10, .ref x.1), (12, .int (nI i))] [] I L1 k n := fun e9 => by
        refine hG.aload dJ4_putVal_212 rfl ?_
        refine hG.astore dJ4_putVal_214 (by decide) ?_
        refine hG.iinc dJ4_putVal_216 rfl (by decide) ?_
        refine hG.goto (tgt := 134) dJ4_putVal_219 rfl ?_
        refine hG.lsb [(0, .ref m), (1, .int (nI (hN c))), (2, .ref key), (3, .ref val), (4, .int 0), (5, .int 1), (6, .ref tb), (7, .ref x.1), (12, .int (nI i + Int32.ofInt 1))] ⟨rfl, rfl, rfl, rfl, rfl, rfl, rfl, rfl, rfl, trivial⟩ ?_
        rw [show nI i + Int32.ofInt 1 = nI (i + 1) from nI_add i 1]
        refine ih (pre ++ [p.1]) x tb cap (i + 1) L1 k n hkn hM hcap hF hx0 (by rw [hB]; simp) (by rw [hi]; simp) (fun y hy hm => ?_)
        rcases List.mem_append.mp hm with h | h
        · exact hne y hy h
        · rw [ads_inj hM.2.1 hy hx0 (List.mem_singleton.mp h)]; exact e9
      refine hG.aload dJ4_putVal_134 rfl ?_
      refine hG.get dJ4_putVal_136 fg_J4_177_J31 (Or.inl hp1) rfl ?_
      refine hG.dup dJ4_putVal_139 rfl ?_
      refine hG.astore dJ4_putVal_140 (by decide) ?_
      refine hG.ifnonnull (tgt := 175) dJ4_putVal_142 rfl ?_
      refine hG.aload dJ4_putVal_175 rfl ?_
      refine hG.get dJ4_putVal_177 fg_J4_168_J31 (Or.inl hx1) rfl ?_
      refine hG.iload_n dJ4_putVal_180 rfl ?_
      refine hG.icmp_ne (tgt := 212) dJ4_putVal_181 rfl (fun c_181 => ?_) (fun c_181 => ?_)
      · first
        | exact hG.lsb [(0, .ref m), (1, .int (nI (hN c))), (2, .ref key), (3, .ref val), (4, .int 0), (5, .int 1), (6, .ref tb), (7, .ref p.1), (10, .ref x.1), (12, .int (nI i))] ⟨rfl, rfl, rfl, rfl, rfl, rfl, rfl, rfl, rfl, rfl, trivial⟩ (hno (fun e9 => c_181 (by rw [e9])))
        | exact hG.lsb [(0, .ref m), (1, .int (nI (hN c))), (2, .ref key), (3, .ref val), (4, .int 0), (5, .int 1), (6, .ref tb), (7, .ref p.1), (10, .ref x.1), (12, .int (nI i))] ⟨rfl, rfl, rfl, rfl, rfl, rfl, rfl, rfl, rfl, rfl, trivial⟩ (hno (fun e9 => (by simpa [b2i] using c_206 : ¬ c = x.2.1) e9.symm))
      · refine hG.aload dJ4_putVal_184 rfl ?_
        refine hG.get dJ4_putVal_186 fg_J4_170_J31 (Or.inl hx1) rfl ?_
        refine hG.dup dJ4_putVal_189 rfl ?_
        refine hG.astore dJ4_putVal_190 (by decide) ?_
        refine hG.aload_n dJ4_putVal_192 rfl ?_
        refine hG.acmp_eq (tgt := 222) dJ4_putVal_193 rfl (fun c_193 => ?_) (fun c_193 => ?_)
        · first
          | (refine hG.uniq (Or.inr hx3) (Or.inr (by rw [c_193]; exact hkey)) cl_X9 rfl rfl (fun hgr => ?_)
             exact hG.lsb [(0, .ref m), (1, .int (nI (hN c))), (2, .ref key), (3, .ref val), (4, .int 0), (5, .int 1), (6, .ref tb), (7, .ref p.1), (10, .ref x.1), (12, .int (nI i))] ⟨rfl, rfl, rfl, rfl, rfl, rfl, rfl, rfl, rfl, rfl, trivial⟩ (hyes (grp_eq hx2 hc hgr)))
          | exact hG.lsb [(0, .ref m), (1, .int (nI (hN c))), (2, .ref key), (3, .ref val), (4, .int 0), (5, .int 1), (6, .ref tb), (7, .ref p.1), (10, .ref x.1), (12, .int (nI i))] ⟨rfl, rfl, rfl, rfl, rfl, rfl, rfl, rfl, rfl, rfl, trivial⟩ (hyes (by simpa [b2i] using c_206 : c = x.2.1).symm)
        · refine hG.aload_n dJ4_putVal_196 rfl ?_
          refine hG.ifnull dJ4_putVal_197 ?_
          refine hG.aload_n dJ4_putVal_200 rfl ?_
          refine hG.aload dJ4_putVal_201 rfl ?_
          refine hG.callU dJ4_putVal_203 ko_J4_173_X9 (Rcv.imm hkey cl_X9) (sp_X9_equals hΓ hc hx2 (Or.inr hkey) (Or.inr hx3)) rfl rfl (Nat.le_of_ble_eq_true rfl) (by decide) (by omega) (by omega) (fun r203 I203 L203 hI203 h203 => ?_) (fun _ _ _ _ _ h => h.elim)
          obtain ⟨rfl, rfl, rfl⟩ := h203
          refine hG.if_eq (tgt := 212) dJ4_putVal_206 rfl (fun c_206 => ?_) (fun c_206 => ?_)
          · first
            | exact hG.lsb [(0, .ref m), (1, .int (nI (hN c))), (2, .ref key), (3, .ref val), (4, .int 0), (5, .int 1), (6, .ref tb), (7, .ref p.1), (10, .ref x.1), (12, .int (nI i))] ⟨rfl, rfl, rfl, rfl, rfl, rfl, rfl, rfl, rfl, rfl, trivial⟩ (hno (fun e9 => c_181 (by rw [e9])))
            | exact hG.lsb [(0, .ref m), (1, .int (nI (hN c))), (2, .ref key), (3, .ref val), (4, .int 0), (5, .int 1), (6, .ref tb), (7, .ref p.1), (10, .ref x.1), (12, .int (nI i))] ⟨rfl, rfl, rfl, rfl, rfl, rfl, rfl, rfl, rfl, rfl, trivial⟩ (hno (fun e9 => (by simpa [b2i] using c_206 : ¬ c = x.2.1) e9.symm))
          · refine hG.goto (tgt := 222) dJ4_putVal_209 rfl ?_
            first
            | (refine hG.uniq (Or.inr hx3) (Or.inr (by rw [c_193]; exact hkey)) cl_X9 rfl rfl (fun hgr => ?_)
               exact hG.lsb [(0, .ref m), (1, .int (nI (hN c))), (2, .ref key), (3, .ref val), (4, .int 0), (5, .int 1), (6, .ref tb), (7, .ref p.1), (10, .ref x.1), (12, .int (nI i))] ⟨rfl, rfl, rfl, rfl, rfl, rfl, rfl, rfl, rfl, rfl, trivial⟩ (hyes (grp_eq hx2 hc hgr)))
            | exact hG.lsb [(0, .ref m), (1, .int (nI (hN c))), (2, .ref key), (3, .ref val), (4, .int 0), (5, .int 1), (6, .ref tb), (7, .ref p.1), (10, .ref x.1), (12, .int (nI i))] ⟨rfl, rfl, rfl, rfl, rfl, rfl, rfl, rfl, rfl, rfl, trivial⟩ (hyes (by simpa [b2i] using c_206 : c = x.2.1).symm)
  have k29 : ∀ (tb cap : Nat) (L1 : AL) (k n : Nat), ((k = 0 ∧ n = 0) ∨ (es = [] ∧ k = 1 ∧ n = 16)) → MpN I L1 m mo es.length es tb esV cap lf kr vr → es.length ≤ 3 * cap / 4 → Far L (m :: (rfs tbV ++ ads es)) (m :: tb :: ads es) L1 → G 29 [(0, .ref m), (1, .int (nI (hN c))), (2, .ref key), (3, .ref val), (4, .int 0), (5, .int 1), (6, .ref tb), (8, .int (nI cap))] [] I L1 k n := by
    intro tb cap L1 k n hkn hM hcap hF
    have hkn0 : (k = 0 ∧ n = 0) ∨ es = [] := hkn.imp id (fun h => h.1)
    have hkn2 : k ≤ 1 ∧ n ≤ 16 := by omega
    obtain ⟨f, m1, m2⟩ := hM.2.2.2.2.2.2.2.2.2
    have hcp := hM.2.2.2.2.2.2.1
    have hcb := caps_in hcp
    have hh := hN_lt hc
    have hix := ix_eq hcp hh
    have hjl : hN c % cap < cap := Nat.mod_lt _ (by omega)
    cases hB : bkt es cap (hN c % cap) with
    | nil =>
      have hl : lkp es c = none := lkp_bkt (cap := cap) (fun y hy hm => by rw [hB] at hm; cases hm)
      refine hG.aload dJ4_putVal_29 rfl ?_
      refine hG.iload dJ4_putVal_31 rfl ?_
      refine hG.iconst (v := 1) dJ4_putVal_33 rfl ?_
      refine hG.isub dJ4_putVal_34 ?_
      refine hG.iload_n dJ4_putVal_35 rfl ?_
      refine hG.iand dJ4_putVal_36 ?_
      rw [show (nI cap - 1) &&& nI (hN c) = nI (hN c % cap) from hix]
      refine hG.dup dJ4_putVal_37 rfl ?_
      refine hG.istore dJ4_putVal_38 (by decide) ?_
      refine hG.aald dJ4_putVal_40 (Or.inl m1) (vp_in_nI hjl (by omega)) ?_
      rw [nI_clamp (by omega), m2 _ hjl, hB]
      refine hG.dup dJ4_putVal_41 rfl ?_
      refine hG.astoreN dJ4_putVal_42 (by decide) ?_
      refine hG.ifnonnullN dJ4_putVal_44 ?_
      refine hG.aload dJ4_putVal_47 rfl ?_
      refine hG.iload dJ4_putVal_49 rfl ?_
      refine hG.aload_n dJ4_putVal_51 rfl ?_
      refine hG.iload_n dJ4_putVal_52 rfl ?_
      refine hG.aload_n dJ4_putVal_53 rfl ?_
      refine hG.aload_n dJ4_putVal_54 rfl ?_
      refine hG.null dJ4_putVal_55 ?_
      refine hG.callU dJ4_putVal_56 ko_J4_186_J5 (Rcv.raw hM.1 cl_J5) (sp_J5_newNode hΓ hM.1 hM.2.1 hM.2.2.2.1 hM.2.2.2.2.1 hc) rfl rfl (Nat.le_of_ble_eq_true rfl) (by decide) (by omega) (by omega) (fun r56 I56 L56 hI56 h56 => ?_) (fun _ _ _ _ _ h => h.elim)
      obtain ⟨rfl, q, hq0, hqm, hqa, rfl, hm2, hq2, hE2, ho2⟩ := h56
      have hqt : q ≠ tb := fun e => by rw [e, m1] at hq0; cases hq0
      have htb2 := (ho2 tb hM.2.2.2.2.2.2.2.1 hqt.symm hM.2.2.2.2.2.2.2.2.1).trans m1
      have hF2 : Far L (m :: (rfs tbV ++ ads es)) (m :: tb :: ads (es ++ [(q, c, v)])) L56 := fun z x hz hn => by
        obtain ⟨g1, g2⟩ := hF z x hz hn
        have hzq : z ≠ q := fun e => by rw [e, hq0] at g2; cases g2
        rw [ads_app]
        simp only [List.mem_cons, List.mem_append, List.not_mem_nil, or_false, not_or] at g1 ⊢
        exact ⟨⟨g1.1, g1.2.1, g1.2.2, hzq⟩, (ho2 z g1.1 hzq g1.2.2).trans g2⟩
      refine hG.aast dJ4_putVal_59 htb2 (Rcv.raw hq2 cl_J31) CASTN (vp_in_nI hjl (by omega)) ?_
      rw [nI_clamp (by omega)]
      refine hG.goto (tgt := 259) dJ4_putVal_60 rfl ?_
      have hF3 := hF2.up (b := tb) (by simp) (some (.inl (arQ NODE cap (va_up f (hN c % cap) (some q)))))
      refine hG.lsb [(0, .ref m), (5, .int 1)] ⟨rfl, rfl, trivial⟩ (k259 q tb cap _ _ _ _ _ (by omega) (by omega) (fun _ h12 => ?_) hl (hM.add hc hkey hval hl hqm hqa hqt ((up1_n hM.2.2.2.2.2.2.2.1.symm).trans hm2) ((up1_n hqt).trans hq2) ?_ up1_s (fun j hj => ?_)) hF3)
      · rcases hkn with h | h
        · omega
        · rw [h.1] at h12; simp at h12
      · rw [hB]
        show EntG _ _ _ (set1 none _ _) _ _ _
        rw [set1_none]
        exact hE2.congr (fun x hx => up1_n (fun e => hM.2.2.2.2.2.2.2.2.1 (e ▸ ads_of hx))) (fun _ _ => rfl) (fun _ _ => ⟨rfl, rfl⟩)
      · show (if j = hN c % cap then some q else f j) = _
        rw [bkt_app, bkt_one]
        by_cases e : j = hN c % cap
        · rw [if_pos e, if_pos e.symm, e, hB]; rfl
        · rw [if_neg e, if_neg (fun h => e h.symm), List.append_nil, m2 j hj]
    | cons e post =>
      obtain ⟨x, hx0, rfl, hxj⟩ := bkt_mem (es := es) (cap := cap) (j := hN c % cap) (e := e) (by rw [hB]; simp)
      obtain ⟨hx1, hx2, hx3, hx4⟩ := hM.2.2.2.2.1 x hx0
      have hyes : x.2.1 = c → G 97 [(0, .ref m), (1, .int (nI (hN c))), (2, .ref key), (3, .ref val), (4, .int 0), (5, .int 1), (6, .ref tb), (7, .ref x.1)] [] I L1 k n := fun e9 => by
        refine hG.aload dJ4_putVal_97 rfl ?_
        refine hG.astore dJ4_putVal_99 (by decide) ?_
        refine hG.goto (tgt := 222) dJ4_putVal_101 rfl ?_
        exact hG.lsb [(0, .ref m), (3, .ref val), (4, .int 0), (10, .ref x.1)] ⟨rfl, rfl, rfl, rfl, trivial⟩ (k222 x tb cap L1 k n (by omega) (by omega) hM hcap hF hx0 e9)
      have hno : x.2.1 ≠ c → G 104 [(0, .ref m), (1, .int (nI (hN c))), (2, .ref key), (3, .ref val), (4, .int 0), (5, .int 1), (6, .ref tb), (7, .ref x.1)] [] I L1 k n := fun e9 => by
        refine hG.aload dJ4_putVal_104 rfl ?_
        refine hG.instNo dJ4_putVal_106 q1161 (Rcv.raw hx1 cl_J31) hNT ?_
        refine hG.if_eq (tgt := 131) dJ4_putVal_109 rfl (fun c_109 => ?_) (fun c_109 => absurd rfl c_109)
        refine hG.iconst (v := 0) dJ4_putVal_131 rfl ?_
        refine hG.istore dJ4_putVal_132 (by decide) ?_
        exact hG.lsb [(0, .ref m), (1, .int (nI (hN c))), (2, .ref key), (3, .ref val), (4, .int 0), (5, .int 1), (6, .ref tb), (7, .ref x.1), (12, .int (nI 0))] ⟨rfl, rfl, rfl, rfl, rfl, rfl, rfl, rfl, rfl, trivial⟩ (k134 post [] x tb cap 0 L1 k n hkn0 hM hcap hF hx0 hB rfl (fun y hy hm => by rw [ads_inj hM.2.1 hy hx0 (List.mem_singleton.mp hm)]; exact e9))
      refine hG.aload dJ4_putVal_29 rfl ?_
      refine hG.iload dJ4_putVal_31 rfl ?_
      refine hG.iconst (v := 1) dJ4_putVal_33 rfl ?_
      refine hG.isub dJ4_putVal_34 ?_
      refine hG.iload_n dJ4_putVal_35 rfl ?_
      refine hG.iand dJ4_putVal_36 ?_
      rw [show (nI cap - 1) &&& nI (hN c) = nI (hN c % cap) from hix]
      refine hG.dup dJ4_putVal_37 rfl ?_
      refine hG.istore dJ4_putVal_38 (by decide) ?_
      refine hG.aald dJ4_putVal_40 (Or.inl m1) (vp_in_nI hjl (by omega)) ?_
      rw [nI_clamp (by omega), m2 _ hjl, hB]
      refine hG.dup dJ4_putVal_41 rfl ?_
      refine hG.astore dJ4_putVal_42 (by decide) ?_
      refine hG.ifnonnull (tgt := 63) dJ4_putVal_44 rfl ?_
      refine hG.aload dJ4_putVal_63 rfl ?_
      refine hG.get dJ4_putVal_65 fg_J4_168_J31 (Or.inl hx1) rfl ?_
      refine hG.iload_n dJ4_putVal_68 rfl ?_
      refine hG.icmp_ne (tgt := 104) dJ4_putVal_69 rfl (fun c_69 => ?_) (fun c_69 => ?_)
      · first
        | exact hG.lsb [(0, .ref m), (1, .int (nI (hN c))), (2, .ref key), (3, .ref val), (4, .int 0), (5, .int 1), (6, .ref tb), (7, .ref x.1)] ⟨rfl, rfl, rfl, rfl, rfl, rfl, rfl, rfl, trivial⟩ (hno (fun e9 => c_69 (by rw [e9])))
        | exact hG.lsb [(0, .ref m), (1, .int (nI (hN c))), (2, .ref key), (3, .ref val), (4, .int 0), (5, .int 1), (6, .ref tb), (7, .ref x.1)] ⟨rfl, rfl, rfl, rfl, rfl, rfl, rfl, rfl, trivial⟩ (hno (fun e9 => (by simpa [b2i] using c_94 : ¬ c = x.2.1) e9.symm))
      · refine hG.aload dJ4_putVal_72 rfl ?_
        refine hG.get dJ4_putVal_74 fg_J4_170_J31 (Or.inl hx1) rfl ?_
        refine hG.dup dJ4_putVal_77 rfl ?_
        refine hG.astore dJ4_putVal_78 (by decide) ?_
        refine hG.aload_n dJ4_putVal_80 rfl ?_
        refine hG.acmp_eq (tgt := 97) dJ4_putVal_81 rfl (fun c_81 => ?_) (fun c_81 => ?_)
        · first
          | (refine hG.uniq (Or.inr hx3) (Or.inr (by rw [c_81]; exact hkey)) cl_X9 rfl rfl (fun hgr => ?_)
             exact hG.lsb [(0, .ref m), (1, .int (nI (hN c))), (2, .ref key), (3, .ref val), (4, .int 0), (5, .int 1), (6, .ref tb), (7, .ref x.1)] ⟨rfl, rfl, rfl, rfl, rfl, rfl, rfl, rfl, trivial⟩ (hyes (grp_eq hx2 hc hgr)))
          | exact hG.lsb [(0, .ref m), (1, .int (nI (hN c))), (2, .ref key), (3, .ref val), (4, .int 0), (5, .int 1), (6, .ref tb), (7, .ref x.1)] ⟨rfl, rfl, rfl, rfl, rfl, rfl, rfl, rfl, trivial⟩ (hyes (by simpa [b2i] using c_94 : c = x.2.1).symm)
        · refine hG.aload_n dJ4_putVal_84 rfl ?_
          refine hG.ifnull dJ4_putVal_85 ?_
          refine hG.aload_n dJ4_putVal_88 rfl ?_
          refine hG.aload dJ4_putVal_89 rfl ?_
          refine hG.callU dJ4_putVal_91 ko_J4_173_X9 (Rcv.imm hkey cl_X9) (sp_X9_equals hΓ hc hx2 (Or.inr hkey) (Or.inr hx3)) rfl rfl (Nat.le_of_ble_eq_true rfl) (by decide) (by omega) (by omega) (fun r91 I91 L91 hI91 h91 => ?_) (fun _ _ _ _ _ h => h.elim)
          obtain ⟨rfl, rfl, rfl⟩ := h91
          refine hG.if_eq (tgt := 104) dJ4_putVal_94 rfl (fun c_94 => ?_) (fun c_94 => ?_)
          · first
            | exact hG.lsb [(0, .ref m), (1, .int (nI (hN c))), (2, .ref key), (3, .ref val), (4, .int 0), (5, .int 1), (6, .ref tb), (7, .ref x.1)] ⟨rfl, rfl, rfl, rfl, rfl, rfl, rfl, rfl, trivial⟩ (hno (fun e9 => c_69 (by rw [e9])))
            | exact hG.lsb [(0, .ref m), (1, .int (nI (hN c))), (2, .ref key), (3, .ref val), (4, .int 0), (5, .int 1), (6, .ref tb), (7, .ref x.1)] ⟨rfl, rfl, rfl, rfl, rfl, rfl, rfl, rfl, trivial⟩ (hno (fun e9 => (by simpa [b2i] using c_94 : ¬ c = x.2.1) e9.symm))
          · first
            | (refine hG.uniq (Or.inr hx3) (Or.inr (by rw [c_81]; exact hkey)) cl_X9 rfl rfl (fun hgr => ?_)
               exact hG.lsb [(0, .ref m), (1, .int (nI (hN c))), (2, .ref key), (3, .ref val), (4, .int 0), (5, .int 1), (6, .ref tb), (7, .ref x.1)] ⟨rfl, rfl, rfl, rfl, rfl, rfl, rfl, rfl, trivial⟩ (hyes (grp_eq hx2 hc hgr)))
            | exact hG.lsb [(0, .ref m), (1, .int (nI (hN c))), (2, .ref key), (3, .ref val), (4, .int 0), (5, .int 1), (6, .ref tb), (7, .ref x.1)] ⟨rfl, rfl, rfl, rfl, rfl, rfl, rfl, rfl, trivial⟩ (hyes (by simpa [b2i] using c_94 : c = x.2.1).symm)
  rcases h.2.2.2.2.2.2 with ⟨rfl, rfl, rfl⟩ | ⟨hcap, hlen, tb, f, rfl, htm, hta, hT1, hT2⟩
  · have h1 := h.1
    refine hG.aload_n dJ4_putVal_0 rfl ?_
    refine hG.get dJ4_putVal_1 fg_J4_105_J5 (Or.inl h1) rfl ?_
    refine hG.dup dJ4_putVal_4 rfl ?_
    refine hG.astoreN dJ4_putVal_5 (by decide) ?_
    refine hG.ifnullN (tgt := 19) dJ4_putVal_7 rfl ?_
    refine hG.aload_n dJ4_putVal_19 rfl ?_
    refine hG.callU dJ4_putVal_20 ko_J4_117_J5 (Rcv.raw h1 cl_J5) (sp_J4_resizeA hΓ h1) rfl rfl (Nat.le_of_ble_eq_true rfl) (by decide) (by omega) (by omega) (fun r20 I20 L20 hI20 h20 => ?_) (fun _ _ _ _ _ h => h.elim)
    obtain ⟨rfl, q, hq0, rfl, rfl⟩ := h20
    have hqm : q ≠ m := fun e => by rw [e, h1] at hq0; cases hq0
    refine hG.dup dJ4_putVal_23 rfl ?_
    refine hG.astore dJ4_putVal_24 (by decide) ?_
    refine hG.alen dJ4_putVal_26 (Or.inl ((up1_n hqm).trans up1_s)) ?_
    refine hG.istore dJ4_putVal_27 (by decide) ?_
    refine hG.lsb [(0, .ref m), (1, .int (nI (hN c))), (2, .ref key), (3, .ref val), (4, .int 0), (5, .int 1), (6, .ref q), (8, .int (nI 16))] ⟨rfl, rfl, rfl, rfl, rfl, rfl, rfl, rfl, trivial⟩ (k29 q 16 _ _ _ (Or.inr ⟨rfl, rfl, rfl⟩) ⟨up1_s, by simp [ads], by simp [cods], by simp [ads], fun x hx => (nomatch hx), h.2.2.2.2.2.1, by simp [caps], hqm, by simp [ads], _, (up1_n hqm).trans up1_s, fun j _ => rfl⟩ (by simp) ?_)
    intro z x hz hn
    simp only [List.mem_cons, not_or] at hn ⊢
    have hzq : z ≠ q := fun e => by rw [e, hq0] at hz; cases hz
    exact ⟨⟨hn.1, hzq, by simp [ads]⟩, by rw [up1_n hn.1, up1_n hzq]; exact hz⟩
  · have h1 := h.1
    have hcb := caps_in hcap
    obtain ⟨hM, hcap2⟩ := h.un
    refine hG.aload_n dJ4_putVal_0 rfl ?_
    refine hG.get dJ4_putVal_1 fg_J4_105_J5 (Or.inl h1) rfl ?_
    refine hG.dup dJ4_putVal_4 rfl ?_
    refine hG.astore dJ4_putVal_5 (by decide) ?_
    refine hG.ifnull dJ4_putVal_7 ?_
    refine hG.aload dJ4_putVal_10 rfl ?_
    refine hG.alen dJ4_putVal_12 (Or.inl hT1) ?_
    refine hG.dup dJ4_putVal_13 rfl ?_
    refine hG.istore dJ4_putVal_14 (by decide) ?_
    refine hG.if_ne (tgt := 29) dJ4_putVal_16 rfl (fun c_16 => ?_) (fun c_16 => absurd (show nI cap = 0 from c_16) (nI_ne0 (by omega) (by omega)))
    exact hG.lsb [(0, .ref m), (1, .int (nI (hN c))), (2, .ref key), (3, .ref val), (4, .int 0), (5, .int 1), (6, .ref tb), (8, .int (nI cap))] ⟨rfl, rfl, rfl, rfl, rfl, rfl, rfl, rfl, trivial⟩ (k29 tb cap L 0 0 (Or.inl ⟨rfl, rfl⟩) hM hcap2 (Far.rf.wk (fun z hz => by simpa [rfs] using hz)))
theorem ko_J4_152_J5 : LkU RJ4 152 RJ5 yJ4_putVal yJ4_putVal 5 := ⟨_, q1511, q1513, q1514, q1512, q80, by decide +kernel, by decide +kernel, by decide +kernel, Or.inl rfl⟩
set_option maxHeartbeats 4000000 in
set_option maxRecDepth 100000 in
theorem sp_J4_put {l : Launch} {s0 : State} {D : va_G} {I : AI} {L : AL} {m key val c : Nat} {v mo : Int32} {es : List Ent} (hΓ : Gam l s0 D) (hNT : StN s0) (h0 : L m = some (mpC mo es)) (hb : es.length ≤ 23) (hc : c < 147) (hkey : I key (ob ciX9 (grp c))) (hval : I val (bxE v)) : Spc l s0 D yJ4_put 7 [.ref m, .ref key, .ref val] I L 2 38 (fun r I' L' => I = I' ∧ (∃ o, r = some (va_rf o) ∧ ∀ a, o = some a → ∃ w, I a (bxE w)) ∧ ∃ (q : Nat) (mo' : Int32), L' = up1 L m (some (mpC mo' (mput es q c v)))) noX := by
  refine Spc.of hΓ cJ4_put 3 (some (FieldType.object "java/lang/Object")) q1510 (by decide +kernel) (by decide) (Nat.le_of_ble_eq_true rfl) (fun G GX hG => ?_)
  refine hG.opM h0 (fun tbV esV cap lf kr vr M h hf => ?_)
  have h1 := h.1
  · refine hG.aload_n dJ4_put_0 rfl ?_
    refine hG.aload_n dJ4_put_1 rfl ?_
    refine hG.callS dJ4_put_2 ks_J4_149 (sp_J4_hash hΓ hc (Or.inr hkey)) rfl rfl (Nat.le_of_ble_eq_true rfl) (by decide) (by omega) (by omega) (fun r2 I2 L2 hI2 h2 => ?_) (fun _ _ _ _ _ h => h.elim)
    obtain ⟨rfl, rfl, rfl⟩ := h2
    refine hG.aload_n dJ4_put_5 rfl ?_
    refine hG.aload_n dJ4_put_6 rfl ?_
    refine hG.iconst (v := 0) dJ4_put_7 rfl ?_
    refine hG.iconst (v := 1) dJ4_put_8 rfl ?_
    refine hG.callU dJ4_put_9 ko_J4_152_J5 (Rcv.raw h1 cl_J5) (sp_J4_putVal hΓ hNT h hb hc hkey hval) rfl rfl (Nat.le_of_ble_eq_true rfl) (by decide) (by omega) (by omega) (fun r9 I9 L9 hI9 h9 => ?_) (fun _ _ _ _ _ h => h.elim)
    obtain ⟨rfl, ⟨o, rfl, ho⟩, q, mo', tbV', cap', kr', vr', hM, hF⟩ := h9
    refine hG.clM L hM (hf.far hF) (fun q hq => hq) ?_
    refine hG.aret dJ4_put_12 rfl (by first | exact Or.inl ⟨_, rfl⟩ | exact Or.inr ⟨_, rfl⟩) (rf_or _) ?_ (by omega) (by omega) trivial
    exact ⟨rfl, ⟨o, rfl, ho⟩, q, mo', rfl⟩
