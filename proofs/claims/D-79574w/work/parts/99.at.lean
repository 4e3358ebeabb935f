/-! the parser: the whole text -/
theorem DeedAt.mono {I J : AI} (hI : ile I J) {x : Nat} : ∀ {c : Cm}, DeedAt I x c → DeedAt J x c
  | (0, a, b, c, d), h => hI _ _ h
  | (1, a, b, c, d), h => hI _ _ h
  | (2, a, b, c, d), h => hI _ _ h
  | (3, a, b, c, d), h => hI _ _ h
  | (4, a, b, c, d), h => hI _ _ h
  | (5, a, b, c, d), h => hI _ _ h
  | (_ + 6, a, b, c, d), h => hI _ _ h
theorem DeedAt.elt {s0 : State} {D : va_G} {I : AI} {x : Nat} : ∀ {c : Cm}, DeedAt I x c → Elt s0 D I x
  | (0, a, b, c, d), h => elt_of (ci := ciX24) h cl_X24 q3720
  | (1, a, b, c, d), h => elt_of (ci := ciX25) h cl_X25 q3721
  | (2, a, b, c, d), h => elt_of (ci := ciX21) h cl_X21 q3717
  | (3, a, b, c, d), h => elt_of (ci := ciX19) h cl_X19 q3713
  | (4, a, b, c, d), h => elt_of (ci := ciX20) h cl_X20 q3716
  | (5, a, b, c, d), h => elt_of (ci := ciX16) h cl_X16 q3710
  | (_ + 6, a, b, c, d), h => elt_of (ci := ciX18) h cl_X18 q3711
def DsA (I : AI) : List Nat → List Cm → Prop
  | [], [] => True
  | x :: xs, c :: cs => DeedAt I x c ∧ DsA I xs cs
  | _, _ => False
theorem DsA.len {I : AI} : ∀ {xs : List Nat} {cs : List Cm}, DsA I xs cs → xs.length = cs.length
  | [], [], _ => rfl
  | x :: xs, c :: cs, h => by simp [DsA.len h.2]
  | [], _ :: _, h => h.elim
  | _ :: _, [], h => h.elim
theorem DsA.mono {I J : AI} (hI : ile I J) : ∀ {xs : List Nat} {cs : List Cm}, DsA I xs cs → DsA J xs cs
  | [], [], _ => trivial
  | x :: xs, c :: cs, h => ⟨h.1.mono hI, DsA.mono hI h.2⟩
  | [], _ :: _, h => h.elim
  | _ :: _, [], h => h.elim
theorem DsA.get {I : AI} : ∀ {xs : List Nat} {cs : List Cm} {i : Nat} {c : Cm}, DsA I xs cs → cs[i]? = some c → ∃ x, xs[i]? = some x ∧ DeedAt I x c
  | [], [], i, c, _, hc => by simp at hc
  | x :: xs, c0 :: cs, 0, c, h, hc => by
    cases (Option.some.inj hc)
    exact ⟨x, rfl, h.1⟩
  | x :: xs, c0 :: cs, i + 1, c, h, hc => by
    obtain ⟨y, h1, h2⟩ := DsA.get (xs := xs) (cs := cs) (i := i) (c := c) h.2 (by simpa using hc)
    exact ⟨y, by simpa using h1, h2⟩
  | [], _ :: _, _, _, h, _ => h.elim
  | _ :: _, [], _, _, h, _ => h.elim
theorem DsA.app {I : AI} : ∀ {xs : List Nat} {cs : List Cm} {x : Nat} {c : Cm}, DsA I xs cs → DeedAt I x c → DsA I (xs ++ [x]) (cs ++ [c])
  | [], [], x, c, _, hx => ⟨hx, trivial⟩
  | y :: xs, d :: cs, x, c, h, hx => ⟨h.1, DsA.app h.2 hx⟩
  | [], _ :: _, _, _, h, _ => h.elim
  | _ :: _, [], _, _, h, _ => h.elim
theorem mr_e {t : List Nat} {j p : Nat} {cs : List Cm} (h : t.length ≤ p) : mrF t (j + 1) cs p = .inr cs := if_neg (by omega)
theorem mr_t {t : List Nat} {j p q : Nat} {cs : List Cm} (h : p < t.length) (h2 : tkF t 59 59 p = .inl q) : mrF t (j + 1) cs p = .inl q := by
  unfold mrF
  rw [if_pos h, h2]
theorem mr_c {t : List Nat} {j p q c z : Nat} {cs : List Cm} (h : p < t.length) (h2 : tkF t 59 59 p = .inr (c, q)) (h3 : cmdF t q = .inl z) : mrF t (j + 1) cs p = .inl z := by
  unfold mrF
  rw [if_pos h, h2]
  show (match cmdF t q with
    | Sum.inl q => (Sum.inl q : Nat ⊕ List Cm)
    | Sum.inr (c, q) => mrF t j (cs ++ [c]) q) = _
  rw [h3]
theorem mr_s {t : List Nat} {j p q c z : Nat} {cs : List Cm} {d : Cm} (h : p < t.length) (h2 : tkF t 59 59 p = .inr (c, q)) (h3 : cmdF t q = .inr (d, z)) : mrF t (j + 1) cs p = mrF t j (cs ++ [d]) z := by
  rw [show mrF t (j + 1) cs p = (if p < t.length then (match tkF t 59 59 p with
    | .inl q => .inl q
    | .inr (_, q) => match cmdF t q with
      | .inl q => .inl q
      | .inr (c, q) => mrF t j (cs ++ [c]) q) else .inr cs) from rfl, if_pos h, h2]
  show (match cmdF t q with
    | Sum.inl q => (Sum.inl q : Nat ⊕ List Cm)
    | Sum.inr (c, q) => mrF t j (cs ++ [c]) q) = _
  rw [h3]
theorem tx_f {t : List Nat} {q : Nat} (h : cmdF t 0 = .inl q) : txF t = .inl q := by
  unfold txF
  rw [h]
theorem tx_s {t : List Nat} {q : Nat} {c : Cm} (h : cmdF t 0 = .inr (c, q)) : txF t = mrF t 30 [c] q := by
  unfold txF
  rw [h]
theorem kv_X26_169 : LkV RX26 169 yX26_command 0 := ⟨q2964, q2966, qs22, q141, by decide +kernel, by decide +kernel, by decide +kernel⟩
theorem kf_X26_172_J2 : LkF RX26 172 RJ2 ⟨"java/util/List", "add", "(Ljava/lang/Object;)Z"⟩ yJ2_add 1 := ⟨q3146, q561, q563, q77, ⟨by decide +kernel, by decide +kernel, by decide +kernel⟩, q560, q559, q564, q562, q413⟩
theorem nw_X26_166 : LkN RX26 166 ciJ2 [.int 0, .null, .int 0] 3 := ⟨RJ2, TJ2, tyJ2, cls_J2, q2962, q159, q77, rfl, fun j hj => by
  match j, hj with
  | 0, _ => rfl
  | 1, _ => rfl
  | 2, _ => rfl
  | _ + 3, h => exact absurd h (by omega)⟩
theorem ki_X26_168 : LkI RX26 168 yJ2_init 0 := ⟨q2963, q161, q77, rfl, ⟨by decide +kernel, by decide +kernel, by decide +kernel⟩, by decide +kernel⟩
set_option maxHeartbeats 4000000 in
set_option maxRecDepth 100000 in
theorem sp_X26_text {l : Launch} {s0 : State} {D : va_G} {I : AI} {L : AL} {o : Option Nat} (hΓ : Gam l s0 D) (hT : StX s0 D o) {dE ca : Nat} {ad : Nat → Nat} (hZ : Std s0 D dE ca ad) {pa x inp b k : Nat} {ml : Int32} {t : List Nat} (h : PaS L pa x inp b k ml t 0) (h24 : t.length ≤ 24) : Spc l s0 D yX26_text 15 [.ref pa] I L 2600 112000 (fun r I' L' => ∃ (cs : List Cm) (xs : List Nat) (la : Nat) (mo : Int32) (z : Nat), txF t = .inr cs ∧ r = some (.ref la) ∧ (up1 L pa (some (ppC z x))) la = none ∧ L' = up1 (up1 L pa (some (ppC z x))) la (some (liC dE mo xs)) ∧ DsA I' xs cs ∧ 5 * cs.length ≤ t.length + 1) (fun E q I' L' => E = RX27 ∧ ∃ p' : Nat, txF t = .inl p' ∧ I' q (faE (nI p')) ∧ L' = up1 L pa (some (ppC p' x))) := by
  refine Spc.of hΓ cX26_text 3 (some (FieldType.object "java/util/List")) q2961 (by decide +kernel) (by decide) (Nat.le_of_ble_eq_true rfl) (fun G GX hG => ?_)
  have hX := hT.v
  obtain ⟨hp, -⟩ := id h
  refine hG.new dX26_text_0 nw_X26_166 (by omega) (by omega) (fun la hLla hIla => ?_)
  refine hG.dup dX26_text_3 rfl ?_
  refine hG.callI dX26_text_4 ki_X26_168 (sp_J2_init (mo := 0) (xs := []) hΓ hZ.li up1_s) rfl rfl (Nat.le_of_ble_eq_true rfl) (by decide) (by omega) (by omega) (fun r4 I4 L4 hI4 h4 => ?_) (fun _ _ _ _ _ h => h.elim)
  obtain ⟨rfl, rfl, rfl⟩ := h4
  rw [up1_up1]
  have hla : L la = none := hLla
  have hnl : pa ≠ la := ne_none hp hla
  have hlp : ∀ c : Option Cel, up1 L pa c la = none := fun c => (up1_n hnl.symm).trans hla
  refine hG.astore_n dX26_text_7 (by decide) ?_
  refine hG.aload_n dX26_text_8 rfl ?_
  refine hG.aload_n dX26_text_9 rfl ?_
  refine hG.callV dX26_text_10 kv_X26_169 (Rcv.raw ((up1_n hnl).trans hp) cl_X26) (sp_X26_command hΓ hT (h.nw hla _)) rfl rfl (Nat.le_of_ble_eq_true rfl) (by decide) (by omega) (by omega) (fun r10 I10 L10 hI10 h10 => ?_) (fun E q9 I' L' hI ⟨x1, p', x2, x3, x4⟩ => hG.subX (S := up1 L pa (some (ppC p' x))) (fun w y hw => by
    rw [x4]
    by_cases ew : w = pa
    · subst ew; rw [up1_s] at hw ⊢; exact hw
    · rw [up1_n ew] at hw ⊢
      exact (up1_n (ne_none hw hla)).trans hw) (hG.out (by simp) ⟨x1, p', tx_f x2, x3, rfl⟩ (by omega) (by omega) trivial))
  obtain ⟨cm, y, zz, e10, rfl, hD, rfl⟩ := h10
  rw [show up1 (up1 L la (some (liC dE 0 []))) pa (some (ppC zz x)) = up1 (up1 L pa (some (ppC zz x))) la (some (liC dE 0 [])) from up1_comm hnl.symm]
  have hg := go_cmd (Nat.zero_le _) cm zz e10
  refine hG.callF dX26_text_13 kf_X26_172_J2 (Rcv.li up1_s) cl_J2 (sp_J2_add hΓ hZ.li hD.elt up1_s (by decide)) rfl rfl (Nat.le_of_ble_eq_true rfl) (by decide) (by omega) (by omega) (fun r13 I13 L13 hI13 h13 => ?_) (fun _ _ _ _ _ h => h.elim)
  obtain ⟨rfl, rfl, rfl⟩ := h13
  rw [up1_up1]
  refine hG.pop dX26_text_18 rfl ?_
  have loop : ∀ (j : Nat) (cs : List Cm) (xs : List Nat) (mo : Int32) (z : Nat) (I1 : AI) (L1 : AL), j + cs.length = 31 → L1 = (up1 (up1 L pa (some (ppC z x))) la (some (liC dE mo xs))) → z ≤ t.length → 5 * cs.length ≤ z + 1 → DsA I1 xs cs → txF t = mrF t j cs z → G 19 [(0, .ref pa), (1, .ref la)] [] I1 L1 (502 * cs.length + 4) (22222 * cs.length + 20) := by
    intro j
    induction j with
    | zero =>
      intro cs xs mo z I1 L1 hj hL1 hz h5 hds htx
      omega
    | succ j ih =>
      intro cs xs mo z I1 L1 hj hL1 hz h5 hds htx
      subst hL1
      have hP1 := (h.to hz).nw (hlp _) (some (liC dE mo xs))
      obtain ⟨hp1, ⟨r0, r1, r3, r4, r5, r6, r7, hx1⟩, hin1, -, -, -, -⟩ := id hP1
      have hsb : ∀ w y, w ≠ pa → L w = some y → up1 (up1 L pa (some (ppC z x))) la (some (liC dE mo xs)) w = some y := fun w y ew hw => (up1_n (ne_none hw hla)).trans ((up1_n ew).trans hw)
      refine hG.aload_n dX26_text_19 rfl ?_
      refine hG.get dX26_text_20 fg_X26_13_X26 (Or.inl hp1) rfl ?_
      refine hG.aload_n dX26_text_23 rfl ?_
      refine hG.get dX26_text_24 fg_X26_1_X26 (Or.inl hp1) rfl ?_
      refine hG.get dX26_text_27 fg_X26_17_X1 (Or.inl hx1) rfl ?_
      refine hG.callV dX26_text_30 kv_X26_23 (Rcv.sb hin1) (sp_J8_length hΓ hin1) rfl rfl (Nat.le_of_ble_eq_true rfl) (by decide) (by omega) (by omega) (fun r30 I30 L30 hI30 h30 => ?_) (fun _ _ _ _ _ h => h.elim)
      obtain ⟨rfl, rfl, rfl⟩ := h30
      refine hG.icmp_ge (tgt := 59) dX26_text_33 rfl (fun c_33 => ?_) (fun c_33 => ?_)
      · refine hG.aload_n dX26_text_59 rfl ?_
        refine hG.aret dX26_text_60 rfl (by first | exact Or.inl ⟨_, rfl⟩ | exact Or.inr ⟨_, rfl⟩) (by first | exact Or.inr ⟨_, rfl⟩ | exact Or.inl rfl) ?_ (by omega) (by omega) trivial
        exact ⟨cs, xs, la, mo, z, htx.trans (mr_e ((nI_leI (by omega) (by omega)).mp c_33)), rfl, hlp _, rfl, hds, by omega⟩
      · have hzl : z < t.length := by have := mt (nI_leI (a := t.length) (b := z) (by omega) (by omega)).mpr c_33; omega
        have hn4 : cs.length ≤ 4 := by omega
        refine hG.aload_n dX26_text_36 rfl ?_
        refine hG.bipush (v := 59) dX26_text_37 rfl ?_
        refine hG.bipush (v := 59) dX26_text_39 rfl ?_
        refine hG.callV dX26_text_41 kv_X26_42 (Rcv.raw hp1 cl_X26) (sp_X26_take (lo := 59) (hi := 59) hΓ hX hP1 (by decide) (by decide)) rfl rfl (Nat.le_of_ble_eq_true rfl) (by decide) (by omega) (by omega) (fun r41 I41 L41 hI41 h41 => ?_) (fun E q9 I' L' hI ⟨x1, p', x2, x3, x4⟩ => hG.subX (S := up1 L pa (some (ppC p' x))) (fun w y hw => by
      rw [x4]
      by_cases ew : w = pa
      · subst ew; rw [up1_s] at hw ⊢; exact hw
      · rw [up1_n ew] at hw ⊢
        exact hsb w y ew hw) (hG.out (by simp) ⟨x1, p', htx.trans (mr_t hzl x2), x3, rfl⟩ (by omega) (by omega) trivial))
        obtain ⟨c, q, e41, rfl, rfl, rfl⟩ := h41
        obtain ⟨rfl, -, -, -, j41⟩ := tk_i e41
        rw [up_mid hnl]
        have hP2 := (h.to (q := z + 1) j41).nw (hlp _) (some (liC dE mo xs))
        have hsb : ∀ w y, w ≠ pa → L w = some y → up1 (up1 L pa (some (ppC (z + 1) x))) la (some (liC dE mo xs)) w = some y := fun w y ew hw => (up1_n (ne_none hw hla)).trans ((up1_n ew).trans hw)
        refine hG.istore_n dX26_text_44 (by decide) ?_
        refine hG.aload_n dX26_text_45 rfl ?_
        refine hG.aload_n dX26_text_46 rfl ?_
        refine hG.callV dX26_text_47 kv_X26_169 (Rcv.raw hP2.1 cl_X26) (sp_X26_command hΓ hT hP2) rfl rfl (Nat.le_of_ble_eq_true rfl) (by decide) (by omega) (by omega) (fun r47 I47 L47 hI47 h47 => ?_) (fun E q9 I' L' hI ⟨x1, p', x2, x3, x4⟩ => hG.subX (S := up1 L pa (some (ppC p' x))) (fun w y hw => by
      rw [x4]
      by_cases ew : w = pa
      · subst ew; rw [up1_s] at hw ⊢; exact hw
      · rw [up1_n ew] at hw ⊢
        exact hsb w y ew hw) (hG.out (by simp) ⟨x1, p', htx.trans (mr_c hzl e41 x2), x3, rfl⟩ (by omega) (by omega) trivial))
        obtain ⟨cm, y, zz, e47, rfl, hD, rfl⟩ := h47
        rw [up_mid hnl]
        have hg := go_cmd j41 cm zz e47
        have hds := hds.mono hI47
        refine hG.callF dX26_text_50 kf_X26_172_J2 (Rcv.li up1_s) cl_J2 (sp_J2_add hΓ hZ.li hD.elt up1_s (by rw [hds.len]; omega)) rfl rfl (Nat.le_of_ble_eq_true rfl) (by decide) (by omega) (by omega) (fun r50 I50 L50 hI50 h50 => ?_) (fun _ _ _ _ _ h => h.elim)
        obtain ⟨rfl, rfl, rfl⟩ := h50
        rw [up1_up1]
        refine hG.pop dX26_text_55 rfl ?_
        refine hG.goto (tgt := 19) dX26_text_56 rfl ?_
        exact hG.lsb [(0, .ref pa), (1, .ref la)] ⟨rfl, rfl, trivial⟩ (hG.wid (k' := 502 * (cs ++ [cm]).length + 4) (n' := 22222 * (cs ++ [cm]).length + 20) (by rw [List.length_append, List.length_singleton]; omega) (by rw [List.length_append, List.length_singleton]; omega) (ih (cs ++ [cm]) (xs ++ [y]) (mo + 1) zz _ _ (by rw [List.length_append, List.length_singleton]; omega) rfl hg.2 (by rw [List.length_append, List.length_singleton]; omega) (hds.app hD) (htx.trans (mr_s hzl e41 e47))))
  exact hG.lsb [(0, .ref pa), (1, .ref la)] ⟨rfl, rfl, trivial⟩ (hG.wid (k' := 502 * [cm].length + 4) (n' := 22222 * [cm].length + 20) (by show _ ≤ 502 * 1 + 4; omega) (by show _ ≤ 22222 * 1 + 20; omega) (loop 30 [cm] [y] (0 + 1) zz _ _ rfl rfl hg.2 (by show 5 * 1 ≤ _; omega) ⟨hD, trivial⟩ (tx_s e10)))
