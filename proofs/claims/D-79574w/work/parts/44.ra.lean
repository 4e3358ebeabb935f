/-! what the river tells -/
abbrev minI (a b : Int32) : Int32 := if b < a then b else a
abbrev maxI (a b : Int32) : Int32 := if a < b then b else a
theorem idx_of {n : Int32} {m : Nat} (hm : m < 2 ^ 31) (h : inR n 0 (nI m - 1) = true) : ∃ i, i < m ∧ n = nI i := by
  obtain ⟨h1, h2⟩ := inR_iff.mp h
  cases m with
  | zero => exact absurd (Int32.le_trans h1 h2) (by decide)
  | succ m =>
    rw [nI_pred] at h2
    obtain ⟨i, hi, e⟩ := nI_of2 (x := n) (M := nI m) (n := m) (nI_toInt (by omega)) (fun q => (lt_not.mp q) h1) h2
    exact ⟨i, by omega, e⟩
abbrev rise (f : T3) (h : Int32) : Int32 := if inR h f.1 (f.2.2 - 1) = true then f.2.1 else 0
abbrev flowS (fl : List T3) (at_ acc : Int32) : Int32 := fl.foldl (fun s f => s + rise f at_) acc
abbrev holdsA (a : T3) : Bool := decide (a.2.2 < 50)
abbrev inChan (an : List T3) (c : Int32) (hold : Bool) : Int32 := an.foldl (fun s a => s + (if a.1 = c ∧ (hold = false ∨ holdsA a = true) then 1 else 0)) 0
abbrev holdN (an : List T3) : Int32 := an.foldl (fun s a => s + (if holdsA a = true then 1 else 0)) 0
abbrev ldStep (c : Int32) (s : Int32) (a : T3) : Int32 := if a.1 = c ∧ holdsA a = true ∧ (s = -1 ∨ a.2.2 < s) then a.2.2 else s
abbrev leastD (an : List T3) (c : Int32) : Int32 := an.foldl (ldStep c) (-1)
theorem foldl_take {α β : Type} {f : β → α → β} {b : β} {l : List α} {i : Nat} {x : α} (h : l[i]? = some x) : (l.take (i + 1)).foldl f b = f ((l.take i).foldl f b) x := by
  rw [take_next h, List.foldl_append]
  rfl
theorem cls_X11 : CLs ciX11 RX11 TX11 3 tyX11 := ⟨rfl, in_X11, tyX11_ok, nmX11⟩
theorem fg_X11_7_X11 : LkG RX11 7 ciX11 0 := ⟨RX11, TX11, 3, tyX11, _, cls_X11, by decide, Or.inl rfl, Or.inl q2014⟩
theorem fg_X11_16_X11 : LkG RX11 16 ciX11 2 := ⟨RX11, TX11, 3, tyX11, _, cls_X11, by decide, Or.inl rfl, Or.inl q2017⟩
theorem ks_X11_19 : LkNS RX11 19 yX1_inRange 3 := ⟨⟨_, q1891⟩, q1642, q73, by decide +kernel, by decide +kernel, by decide +kernel⟩
theorem fg_X11_13_X11 : LkG RX11 13 ciX11 1 := ⟨RX11, TX11, 3, tyX11, _, cls_X11, by decide, Or.inl rfl, Or.inl q2016⟩
set_option maxHeartbeats 4000000 in
set_option maxRecDepth 100000 in
theorem sp_X11_riseIn {l : Launch} {s0 : State} {D : va_G} {I : AI} {L : AL} (hΓ : Gam l s0 D) {a : Nat} {f : T3} {h : Int32} (h0 : I a (t3E ciX11 f)) : Spc l s0 D yX11_riseIn 2 [.ref a, .int h] I L 0 0 (pV (.int (rise f h)) I L) noX := by
  refine Spc.of hΓ cX11_riseIn 2 (some FieldType.int) q1890 (by decide +kernel) (by decide) (Nat.le_of_ble_eq_true rfl) (fun G GX hG => ?_)
  refine hG.iload_n dX11_riseIn_0 rfl ?_
  refine hG.aload_n dX11_riseIn_1 rfl ?_
  refine hG.get dX11_riseIn_2 fg_X11_7_X11 (Or.inr h0) rfl ?_
  refine hG.aload_n dX11_riseIn_5 rfl ?_
  refine hG.get dX11_riseIn_6 fg_X11_16_X11 (Or.inr h0) rfl ?_
  refine hG.iconst (v := 1) dX11_riseIn_9 rfl ?_
  refine hG.isub dX11_riseIn_10 ?_
  refine hG.callNS dX11_riseIn_11 ks_X11_19 (sp_X1_inRange hΓ) rfl rfl (Nat.le_of_ble_eq_true rfl) (by decide) (by omega) (by omega) (fun r11 I11 L11 hI11 h11 => ?_) (fun _ _ _ _ _ h => h.elim)
  obtain ⟨rfl, rfl, rfl⟩ := h11
  refine hG.if_eq (tgt := 24) dX11_riseIn_14 rfl (fun c_14 => ?_) (fun c_14 => ?_)
  · refine hG.iconst (v := 0) dX11_riseIn_24 rfl ?_
    refine hG.iret dX11_riseIn_25 rfl ?_ (by omega) (by omega) trivial
    first
    | exact ⟨by rw [rise, if_neg (fun e => by rw [e] at c_14; exact absurd c_14 (by decide))], rfl, rfl⟩
    | exact ⟨by rw [rise, if_pos (by cases e : inR h f.1 (f.2.2 - 1) with
        | true => rfl
        | false => rw [e] at c_14; exact absurd rfl c_14)], rfl, rfl⟩
  · refine hG.aload_n dX11_riseIn_17 rfl ?_
    refine hG.get dX11_riseIn_18 fg_X11_13_X11 (Or.inr h0) rfl ?_
    refine hG.goto (tgt := 25) dX11_riseIn_21 rfl ?_
    refine hG.iret dX11_riseIn_25 rfl ?_ (by omega) (by omega) trivial
    first
    | exact ⟨by rw [rise, if_neg (fun e => by rw [e] at c_14; exact absurd c_14 (by decide))], rfl, rfl⟩
    | exact ⟨by rw [rise, if_pos (by cases e : inR h f.1 (f.2.2 - 1) with
        | true => rfl
        | false => rw [e] at c_14; exact absurd rfl c_14)], rfl, rfl⟩
theorem fp_X11_7_X11 : LkP RX11 "<init>" 7 ciX11 0 (tyX11 0) := ⟨RX11, TX11, 3, tyX11, _, cls_X11, by decide, rfl, Or.inl rfl, Or.inr (Or.inr ⟨rfl, rfl, rfl, q2014⟩)⟩
theorem fp_X11_13_X11 : LkP RX11 "<init>" 13 ciX11 1 (tyX11 1) := ⟨RX11, TX11, 3, tyX11, _, cls_X11, by decide, rfl, Or.inl rfl, Or.inr (Or.inr ⟨rfl, rfl, rfl, q2016⟩)⟩
theorem fp_X11_16_X11 : LkP RX11 "<init>" 16 ciX11 2 (tyX11 2) := ⟨RX11, TX11, 3, tyX11, _, cls_X11, by decide, rfl, Or.inl rfl, Or.inr (Or.inr ⟨rfl, rfl, rfl, q2017⟩)⟩
set_option maxHeartbeats 4000000 in
set_option maxRecDepth 100000 in
theorem sp_X11_init {l : Launch} {s0 : State} {D : va_G} {I : AI} {L : AL} (hΓ : Gam l s0 D) {a : Nat} {x y z : Value} {b rs hs : Int32} (h0 : L a = some (obC ciX11 [x, y, z])) : Spc l s0 D yX11_init 2 [.ref a, .int b, .int rs, .int hs] I L 0 0 (pU I L a (obC ciX11 [.int b, .int rs, .int (b + hs)])) noX := by
  refine Spc.of hΓ cX11_init 4 none q2012 (by decide +kernel) (by decide) (Nat.le_of_ble_eq_true rfl) (fun G GX hG => ?_)
  refine hG.aload_n dX11_init_0 rfl ?_
  refine hG.objI dX11_init_1 q2013 (Nat.le_of_ble_eq_true rfl) (by decide) ?_
  refine hG.aload_n dX11_init_4 rfl ?_
  refine hG.iload_n dX11_init_5 rfl ?_
  refine hG.put dX11_init_6 fp_X11_7_X11 h0 rfl rfl (Nat.le_of_ble_eq_true rfl) ?_
  refine hG.aload_n dX11_init_9 rfl ?_
  refine hG.iload_n dX11_init_10 rfl ?_
  refine hG.put dX11_init_11 fp_X11_13_X11 up1_s rfl rfl (Nat.le_of_ble_eq_true rfl) ?_
  refine hG.aload_n dX11_init_14 rfl ?_
  refine hG.iload_n dX11_init_15 rfl ?_
  refine hG.iload_n dX11_init_16 rfl ?_
  refine hG.iadd dX11_init_17 ?_
  refine hG.put dX11_init_18 fp_X11_16_X11 up1_s rfl rfl (Nat.le_of_ble_eq_true rfl) ?_
  refine hG.vret dX11_init_21 rfl ?_ (by omega) (by omega) trivial
  exact ⟨rfl, rfl, by rw [up1_up1, up1_up1]; rfl⟩
theorem nw_X6_8 : LkN RX6 8 ciX6 [.int 0, .int 0, .int 0] 3 := ⟨RX6, TX6, tyX6, cls_X6, q2111, q2112, q93, rfl, fun j hj => by
  match j, hj with
  | 0, _ => rfl
  | 1, _ => rfl
  | 2, _ => rfl
  | _ + 3, h => exact absurd h (by omega)⟩
theorem fg_X6_13_X6 : LkG RX6 13 ciX6 1 := ⟨RX6, TX6, 3, tyX6, _, cls_X6, by decide, Or.inl rfl, Or.inl q2120⟩
theorem fg_X6_16_X6 : LkG RX6 16 ciX6 2 := ⟨RX6, TX6, 3, tyX6, _, cls_X6, by decide, Or.inl rfl, Or.inl q2123⟩
theorem ki_X6_19 : LkI RX6 19 yX6_init 3 := ⟨q2113, q2114, q93, rfl, ⟨by decide +kernel, by decide +kernel, by decide +kernel⟩, by decide +kernel⟩
set_option maxHeartbeats 4000000 in
set_option maxRecDepth 100000 in
theorem sp_X6_as {l : Launch} {s0 : State} {D : va_G} {I : AI} {L : AL} (hΓ : Gam l s0 D) {a : Nat} {c : T3} {w : Int32} (h0 : I a (t3E ciX6 c)) : Spc l s0 D yX6_as 3 [.ref a, .int w] I L 1 3 (fun r I' L' => L = L' ∧ ∃ q, r = some (.ref q) ∧ I' q (t3E ciX6 (w, c.2))) noX := by
  refine Spc.of hΓ cX6_as 2 (some (FieldType.object "BraidedFerry$Channel")) q2110 (by decide +kernel) (by decide) (Nat.le_of_ble_eq_true rfl) (fun G GX hG => ?_)
  refine hG.new dX6_as_0 nw_X6_8 (by omega) (by omega) (fun q hLq hIq => ?_)
  refine hG.dup dX6_as_3 rfl ?_
  refine hG.iload_n dX6_as_4 rfl ?_
  refine hG.aload_n dX6_as_5 rfl ?_
  refine hG.get dX6_as_6 fg_X6_13_X6 (Or.inr h0) rfl ?_
  refine hG.aload_n dX6_as_9 rfl ?_
  refine hG.get dX6_as_10 fg_X6_16_X6 (Or.inr h0) rfl ?_
  refine hG.callI dX6_as_13 ki_X6_19 (sp_X6_init hΓ up1_s) rfl rfl (Nat.le_of_ble_eq_true rfl) (by decide) (by omega) (by omega) (fun r13 I13 L13 hI13 h13 => ?_) (fun _ _ _ _ _ h => h.elim)
  obtain ⟨rfl, rfl, rfl⟩ := h13
  rw [up1_up1]
  refine hG.fr up1_s ?_
  rw [up1_up1, show up1 L q none = L by rw [← hLq, up1_self]]
  refine hG.aret dX6_as_16 rfl (by first | exact Or.inl ⟨_, rfl⟩ | exact Or.inr ⟨_, rfl⟩) (by first | exact Or.inr ⟨_, rfl⟩ | exact Or.inl rfl) ?_ (by omega) (by omega) trivial
  exact ⟨rfl, q, rfl, frI_s⟩
theorem nw_X8_10 : LkN RX8 10 ciX8 [.int 0, .int 0, .int 0] 3 := ⟨RX8, TX8, tyX8, cls_X8, q1918, q1724, q118, rfl, fun j hj => by
  match j, hj with
  | 0, _ => rfl
  | 1, _ => rfl
  | 2, _ => rfl
  | _ + 3, h => exact absurd h (by omega)⟩
theorem fg_X8_9_X8 : LkG RX8 9 ciX8 0 := ⟨RX8, TX8, 3, tyX8, _, cls_X8, by decide, Or.inl rfl, Or.inl q1729⟩
theorem fg_X8_15_X8 : LkG RX8 15 ciX8 1 := ⟨RX8, TX8, 3, tyX8, _, cls_X8, by decide, Or.inl rfl, Or.inl q1732⟩
theorem ki_X8_27 : LkI RX8 27 yX8_init 3 := ⟨q1920, q1726, q118, rfl, ⟨by decide +kernel, by decide +kernel, by decide +kernel⟩, by decide +kernel⟩
set_option maxHeartbeats 4000000 in
set_option maxRecDepth 100000 in
theorem sp_X8_dragged {l : Launch} {s0 : State} {D : va_G} {I : AI} {L : AL} (hΓ : Gam l s0 D) {a : Nat} {c : T3} {b h : Int32} (h0 : I a (t3E ciX8 c)) : Spc l s0 D yX8_dragged 3 [.ref a, .int b, .int h] I L 1 3 (fun r I' L' => L = L' ∧ ∃ q, r = some (.ref q) ∧ I' q (t3E ciX8 (c.1, c.2.1, minI 99 (c.2.2 + b * h)))) noX := by
  refine Spc.of hΓ cX8_dragged 3 (some (FieldType.object "BraidedFerry$Anchor")) q1917 (by decide +kernel) (by decide) (Nat.le_of_ble_eq_true rfl) (fun G GX hG => ?_)
  refine hG.new dX8_dragged_0 nw_X8_10 (by omega) (by omega) (fun q hLq hIq => ?_)
  refine hG.dup dX8_dragged_3 rfl ?_
  refine hG.aload_n dX8_dragged_4 rfl ?_
  refine hG.get dX8_dragged_5 fg_X8_9_X8 (Or.inr h0) rfl ?_
  refine hG.aload_n dX8_dragged_8 rfl ?_
  refine hG.get dX8_dragged_9 fg_X8_15_X8 (Or.inr h0) rfl ?_
  refine hG.bipush (v := 99) dX8_dragged_12 rfl ?_
  refine hG.aload_n dX8_dragged_14 rfl ?_
  refine hG.get dX8_dragged_15 fg_X8_18_X8 (Or.inr h0) rfl ?_
  refine hG.iload_n dX8_dragged_18 rfl ?_
  refine hG.iload_n dX8_dragged_19 rfl ?_
  refine hG.imul dX8_dragged_20 ?_
  refine hG.iadd dX8_dragged_21 ?_
  refine hG.mmin dX8_dragged_22 q1919 (Nat.le_of_ble_eq_true rfl) (by decide) ?_
  refine hG.callI dX8_dragged_25 ki_X8_27 (sp_X8_init hΓ up1_s) rfl rfl (Nat.le_of_ble_eq_true rfl) (by decide) (by omega) (by omega) (fun r25 I25 L25 hI25 h25 => ?_) (fun _ _ _ _ _ h => h.elim)
  obtain ⟨rfl, rfl, rfl⟩ := h25
  rw [up1_up1]
  refine hG.fr up1_s ?_
  rw [up1_up1, show up1 L q none = L by rw [← hLq, up1_self]]
  refine hG.aret dX8_dragged_28 rfl (by first | exact Or.inl ⟨_, rfl⟩ | exact Or.inr ⟨_, rfl⟩) (by first | exact Or.inr ⟨_, rfl⟩ | exact Or.inl rfl) ?_ (by omega) (by omega) trivial
  exact ⟨rfl, q, rfl, frI_s⟩
set_option maxHeartbeats 4000000 in
set_option maxRecDepth 100000 in
theorem sp_X8_split {l : Launch} {s0 : State} {D : va_G} {I : AI} {L : AL} (hΓ : Gam l s0 D) {a : Nat} {c : T3} {j : Int32} (h0 : I a (t3E ciX8 c)) : Spc l s0 D yX8_split 3 [.ref a, .int j] I L 1 3 (fun r I' L' => L = L' ∧ ∃ q, r = some (.ref q) ∧ I' q (t3E ciX8 (if c.1 ≤ j then c.1 else c.1 + 1, c.2.1, c.2.2))) noX := by
  refine Spc.of hΓ cX8_split 2 (some (FieldType.object "BraidedFerry$Anchor")) q2175 (by decide +kernel) (by decide) (Nat.le_of_ble_eq_true rfl) (fun G GX hG => ?_)
  refine hG.new dX8_split_0 nw_X8_10 (by omega) (by omega) (fun q hLq hIq => ?_)
  refine hG.dup dX8_split_3 rfl ?_
  refine hG.aload_n dX8_split_4 rfl ?_
  refine hG.get dX8_split_5 fg_X8_9_X8 (Or.inr h0) rfl ?_
  refine hG.iload_n dX8_split_8 rfl ?_
  refine hG.icmp_le (tgt := 21) dX8_split_9 rfl (fun c_9 => ?_) (fun c_9 => ?_)
  · refine hG.aload_n dX8_split_21 rfl ?_
    refine hG.get dX8_split_22 fg_X8_9_X8 (Or.inr h0) rfl ?_
    refine hG.aload_n dX8_split_25 rfl ?_
    refine hG.get dX8_split_26 fg_X8_15_X8 (Or.inr h0) rfl ?_
    refine hG.aload_n dX8_split_29 rfl ?_
    refine hG.get dX8_split_30 fg_X8_18_X8 (Or.inr h0) rfl ?_
    refine hG.callI dX8_split_33 ki_X8_27 (sp_X8_init hΓ up1_s) rfl rfl (Nat.le_of_ble_eq_true rfl) (by decide) (by omega) (by omega) (fun r33 I33 L33 hI33 h33 => ?_) (fun _ _ _ _ _ h => h.elim)
    obtain ⟨rfl, rfl, rfl⟩ := h33
    rw [up1_up1]
    refine hG.fr up1_s ?_
    rw [up1_up1, show up1 L q none = L by rw [← hLq, up1_self]]
    refine hG.aret dX8_split_36 rfl (by first | exact Or.inl ⟨_, rfl⟩ | exact Or.inr ⟨_, rfl⟩) (by first | exact Or.inr ⟨_, rfl⟩ | exact Or.inl rfl) ?_ (by omega) (by omega) trivial
    first
    | exact ⟨rfl, q, rfl, by rw [if_neg c_9]; exact frI_s⟩
    | exact ⟨rfl, q, rfl, by rw [if_pos c_9]; exact frI_s⟩
  · refine hG.aload_n dX8_split_12 rfl ?_
    refine hG.get dX8_split_13 fg_X8_9_X8 (Or.inr h0) rfl ?_
    refine hG.iconst (v := 1) dX8_split_16 rfl ?_
    refine hG.iadd dX8_split_17 ?_
    refine hG.goto (tgt := 25) dX8_split_18 rfl ?_
    refine hG.aload_n dX8_split_25 rfl ?_
    refine hG.get dX8_split_26 fg_X8_15_X8 (Or.inr h0) rfl ?_
    refine hG.aload_n dX8_split_29 rfl ?_
    refine hG.get dX8_split_30 fg_X8_18_X8 (Or.inr h0) rfl ?_
    refine hG.callI dX8_split_33 ki_X8_27 (sp_X8_init hΓ up1_s) rfl rfl (Nat.le_of_ble_eq_true rfl) (by decide) (by omega) (by omega) (fun r33 I33 L33 hI33 h33 => ?_) (fun _ _ _ _ _ h => h.elim)
    obtain ⟨rfl, rfl, rfl⟩ := h33
    rw [up1_up1]
    refine hG.fr up1_s ?_
    rw [up1_up1, show up1 L q none = L by rw [← hLq, up1_self]]
    refine hG.aret dX8_split_36 rfl (by first | exact Or.inl ⟨_, rfl⟩ | exact Or.inr ⟨_, rfl⟩) (by first | exact Or.inr ⟨_, rfl⟩ | exact Or.inl rfl) ?_ (by omega) (by omega) trivial
    first
    | exact ⟨rfl, q, rfl, by rw [if_neg c_9]; exact frI_s⟩
    | exact ⟨rfl, q, rfl, by rw [if_pos c_9]; exact frI_s⟩
theorem fg_X2_12_X2 : LkG RX2 12 ciX2 0 := ⟨RX2, TX2, 13, tyX2, _, cls_X2, by decide, Or.inl rfl, Or.inl q253⟩
theorem kf_X2_96_J2 : LkF RX2 96 RJ2 ⟨"java/util/List", "size", "()I"⟩ yJ2_size 0 := ⟨q1633, q1636, q1638, q77, ⟨by decide +kernel, by decide +kernel, by decide +kernel⟩, q1635, q1634, q1639, q1637, q413⟩
theorem ks_X2_100 : LkNS RX2 100 yX1_inRange 3 := ⟨⟨_, q1641⟩, q1642, q73, by decide +kernel, by decide +kernel, by decide +kernel⟩
theorem ks_X2_104 : LkNS RX2 104 yX1_requireIndex 1 := ⟨⟨_, q1644⟩, q1645, q73, by decide +kernel, by decide +kernel, by decide +kernel⟩
theorem kf_X2_108_J2 : LkF RX2 108 RJ2 ⟨"java/util/List", "get", "(I)Ljava/lang/Object;"⟩ yJ2_get 1 := ⟨q1663, q1666, q1668, q77, ⟨by decide +kernel, by decide +kernel, by decide +kernel⟩, q1665, q1664, q1669, q1667, q413⟩
set_option maxHeartbeats 4000000 in
set_option maxRecDepth 100000 in
theorem sp_X2_channel {l : Launch} {s0 : State} {D : va_G} {I : AI} {L : AL} {dE ca : Nat} {ad : Nat → Nat} {r : Nat} {R : Rv} {A : RA} (hΓ : Gam l s0 D) (hZ : Std s0 D dE ca ad) (h : RvO dE I L r R A) {n : Int32} : Spc l s0 D yX2_channel 8 [.ref r, .int n] I L 1 6 (fun q I' L' => I = I' ∧ L = L' ∧ ∃ i c x, n = nI i ∧ R.ch[i]? = some c ∧ q = some (.ref x) ∧ I x (t3E ciX6 c)) (xE RJ33 (inR n 0 (nI R.ch.length - 1) = false) L) := by
  refine Spc.of hΓ cX2_channel 2 (some (FieldType.object "BraidedFerry$Channel")) q1631 (by decide +kernel) (by decide) (Nat.le_of_ble_eq_true rfl) (fun G GX hG => ?_)
  refine hG.peek h.h0 (fun J9 S9 _ hli => ?_)
  have hl10 : A.xs.length ≤ 10 := hli.1
  have hll := h.e0.len
  · refine hG.iload_n dX2_channel_0 rfl ?_
    refine hG.iconst (v := 0) dX2_channel_1 rfl ?_
    refine hG.aload_n dX2_channel_2 rfl ?_
    refine hG.get dX2_channel_3 fg_X2_12_X2 (Or.inl h.h) rfl ?_
    refine hG.callF dX2_channel_6 kf_X2_96_J2 (Rcv.li h.h0) cl_J2 (sp_J2_size hΓ h.h0) rfl rfl (Nat.le_of_ble_eq_true rfl) (by decide) (by omega) (by omega) (fun r6 I6 L6 hI6 h6 => ?_) (fun _ _ _ _ _ h => h.elim)
    obtain ⟨rfl, rfl, rfl⟩ := h6
    refine hG.iconst (v := 1) dX2_channel_11 rfl ?_
    refine hG.isub dX2_channel_12 ?_
    refine hG.callNS dX2_channel_13 ks_X2_100 (sp_X1_inRange hΓ) rfl rfl (Nat.le_of_ble_eq_true rfl) (by decide) (by omega) (by omega) (fun r13 I13 L13 hI13 h13 => ?_) (fun _ _ _ _ _ h => h.elim)
    obtain ⟨rfl, rfl, rfl⟩ := h13
    refine hG.callNS dX2_channel_16 ks_X2_104 (sp_X1_requireIndex hΓ) rfl rfl (Nat.le_of_ble_eq_true rfl) (by decide) (by omega) (by omega) (fun r16 I16 L16 hI16 h16 => ?_) (fun E q I' L' hI ⟨e1, e2, e3⟩ => hG.out (by simp) ⟨e1, by rw [← hll]; exact e2, e3⟩ (by omega) (by omega) trivial)
    obtain ⟨rfl, hb, rfl, rfl⟩ := h16
    rw [hll] at hb
    obtain ⟨i, hi, rfl⟩ := idx_of (by omega) hb
    obtain ⟨c, hc, -⟩ := get_lt hi
    obtain ⟨x, hx, hxc⟩ := h.e0.get hc
    refine hG.aload_n dX2_channel_19 rfl ?_
    refine hG.get dX2_channel_20 fg_X2_12_X2 (Or.inl h.h) rfl ?_
    refine hG.iload_n dX2_channel_23 rfl ?_
    refine hG.callF dX2_channel_24 kf_X2_108_J2 (Rcv.li h.h0) cl_J2 (sp_J2_get hΓ h.h0 hx) rfl rfl (Nat.le_of_ble_eq_true rfl) (by decide) (by omega) (by omega) (fun r24 I24 L24 hI24 h24 => ?_) (fun _ _ _ _ _ h => h.elim)
    obtain ⟨rfl, rfl, rfl⟩ := h24
    refine hG.castS dX2_channel_29 q556 (Rcv.imm hxc cl_X6) cl_X6 ?_
    refine hG.aret dX2_channel_32 rfl (by first | exact Or.inl ⟨_, rfl⟩ | exact Or.inr ⟨_, rfl⟩) (by first | exact Or.inr ⟨_, rfl⟩ | exact Or.inl rfl) ?_ (by omega) (by omega) trivial
    exact ⟨rfl, rfl, i, c, x, rfl, hc, rfl, hxc⟩
theorem fg_X2_21_X2 : LkG RX2 21 ciX2 2 := ⟨RX2, TX2, 13, tyX2, _, cls_X2, by decide, Or.inl rfl, Or.inl q257⟩
set_option maxHeartbeats 4000000 in
set_option maxRecDepth 100000 in
theorem sp_X2_anchor {l : Launch} {s0 : State} {D : va_G} {I : AI} {L : AL} {dE ca : Nat} {ad : Nat → Nat} {r : Nat} {R : Rv} {A : RA} (hΓ : Gam l s0 D) (hZ : Std s0 D dE ca ad) (h : RvO dE I L r R A) {n : Int32} : Spc l s0 D yX2_anchor 8 [.ref r, .int n] I L 1 6 (fun q I' L' => I = I' ∧ L = L' ∧ ∃ i c x, n = nI i ∧ R.an[i]? = some c ∧ q = some (.ref x) ∧ I x (t3E ciX8 c)) (xE RJ33 (inR n 0 (nI R.an.length - 1) = false) L) := by
  refine Spc.of hΓ cX2_anchor 2 (some (FieldType.object "BraidedFerry$Anchor")) q2210 (by decide +kernel) (by decide) (Nat.le_of_ble_eq_true rfl) (fun G GX hG => ?_)
  refine hG.peek h.h2 (fun J9 S9 _ hli => ?_)
  have hl10 : A.zs.length ≤ 10 := hli.1
  have hll := h.e2.len
  · refine hG.iload_n dX2_anchor_0 rfl ?_
    refine hG.iconst (v := 0) dX2_anchor_1 rfl ?_
    refine hG.aload_n dX2_anchor_2 rfl ?_
    refine hG.get dX2_anchor_3 fg_X2_21_X2 (Or.inl h.h) rfl ?_
    refine hG.callF dX2_anchor_6 kf_X2_96_J2 (Rcv.li h.h2) cl_J2 (sp_J2_size hΓ h.h2) rfl rfl (Nat.le_of_ble_eq_true rfl) (by decide) (by omega) (by omega) (fun r6 I6 L6 hI6 h6 => ?_) (fun _ _ _ _ _ h => h.elim)
    obtain ⟨rfl, rfl, rfl⟩ := h6
    refine hG.iconst (v := 1) dX2_anchor_11 rfl ?_
    refine hG.isub dX2_anchor_12 ?_
    refine hG.callNS dX2_anchor_13 ks_X2_100 (sp_X1_inRange hΓ) rfl rfl (Nat.le_of_ble_eq_true rfl) (by decide) (by omega) (by omega) (fun r13 I13 L13 hI13 h13 => ?_) (fun _ _ _ _ _ h => h.elim)
    obtain ⟨rfl, rfl, rfl⟩ := h13
    refine hG.callNS dX2_anchor_16 ks_X2_104 (sp_X1_requireIndex hΓ) rfl rfl (Nat.le_of_ble_eq_true rfl) (by decide) (by omega) (by omega) (fun r16 I16 L16 hI16 h16 => ?_) (fun E q I' L' hI ⟨e1, e2, e3⟩ => hG.out (by simp) ⟨e1, by rw [← hll]; exact e2, e3⟩ (by omega) (by omega) trivial)
    obtain ⟨rfl, hb, rfl, rfl⟩ := h16
    rw [hll] at hb
    obtain ⟨i, hi, rfl⟩ := idx_of (by omega) hb
    obtain ⟨c, hc, -⟩ := get_lt hi
    obtain ⟨x, hx, hxc⟩ := h.e2.get hc
    refine hG.aload_n dX2_anchor_19 rfl ?_
    refine hG.get dX2_anchor_20 fg_X2_21_X2 (Or.inl h.h) rfl ?_
    refine hG.iload_n dX2_anchor_23 rfl ?_
    refine hG.callF dX2_anchor_24 kf_X2_108_J2 (Rcv.li h.h2) cl_J2 (sp_J2_get hΓ h.h2 hx) rfl rfl (Nat.le_of_ble_eq_true rfl) (by decide) (by omega) (by omega) (fun r24 I24 L24 hI24 h24 => ?_) (fun _ _ _ _ _ h => h.elim)
    obtain ⟨rfl, rfl, rfl⟩ := h24
    refine hG.castS dX2_anchor_29 q656 (Rcv.imm hxc cl_X8) cl_X8 ?_
    refine hG.aret dX2_anchor_32 rfl (by first | exact Or.inl ⟨_, rfl⟩ | exact Or.inr ⟨_, rfl⟩) (by first | exact Or.inr ⟨_, rfl⟩ | exact Or.inl rfl) ?_ (by omega) (by omega) trivial
    exact ⟨rfl, rfl, i, c, x, rfl, hc, rfl, hxc⟩
set_option maxHeartbeats 4000000 in
set_option maxRecDepth 100000 in
theorem sp_X2_stop {l : Launch} {s0 : State} {D : va_G} {I : AI} {L : AL} {dE ca : Nat} {ad : Nat → Nat} {r : Nat} {R : Rv} {A : RA} (hΓ : Gam l s0 D) (hZ : Std s0 D dE ca ad) (h : RvO dE I L r R A) {n : Int32} : Spc l s0 D yX2_stop 8 [.ref r, .int n] I L 1 6 (fun q I' L' => I = I' ∧ L = L' ∧ q = some (.int n) ∧ inR n 0 (nI R.ch.length) = true) (xE RJ33 (inR n 0 (nI R.ch.length) = false) L) := by
  refine Spc.of hΓ cX2_stop 2 (some FieldType.int) q1754 (by decide +kernel) (by decide) (Nat.le_of_ble_eq_true rfl) (fun G GX hG => ?_)
  refine hG.peek h.h0 (fun J9 S9 _ hli => ?_)
  have hl10 : A.xs.length ≤ 10 := hli.1
  have hll := h.e0.len
  · refine hG.iload_n dX2_stop_0 rfl ?_
    refine hG.iconst (v := 0) dX2_stop_1 rfl ?_
    refine hG.aload_n dX2_stop_2 rfl ?_
    refine hG.get dX2_stop_3 fg_X2_12_X2 (Or.inl h.h) rfl ?_
    refine hG.callF dX2_stop_6 kf_X2_96_J2 (Rcv.li h.h0) cl_J2 (sp_J2_size hΓ h.h0) rfl rfl (Nat.le_of_ble_eq_true rfl) (by decide) (by omega) (by omega) (fun r6 I6 L6 hI6 h6 => ?_) (fun _ _ _ _ _ h => h.elim)
    obtain ⟨rfl, rfl, rfl⟩ := h6
    refine hG.callNS dX2_stop_11 ks_X2_100 (sp_X1_inRange hΓ) rfl rfl (Nat.le_of_ble_eq_true rfl) (by decide) (by omega) (by omega) (fun r11 I11 L11 hI11 h11 => ?_) (fun _ _ _ _ _ h => h.elim)
    obtain ⟨rfl, rfl, rfl⟩ := h11
    refine hG.callNS dX2_stop_14 ks_X2_104 (sp_X1_requireIndex hΓ) rfl rfl (Nat.le_of_ble_eq_true rfl) (by decide) (by omega) (by omega) (fun r14 I14 L14 hI14 h14 => ?_) (fun E q I' L' hI ⟨e1, e2, e3⟩ => hG.out (by simp) ⟨e1, by rw [← hll]; exact e2, e3⟩ (by omega) (by omega) trivial)
    obtain ⟨rfl, hb, rfl, rfl⟩ := h14
    rw [hll] at hb
    refine hG.iload_n dX2_stop_17 rfl ?_
    refine hG.iret dX2_stop_18 rfl ?_ (by omega) (by omega) trivial
    exact ⟨rfl, rfl, rfl, hb⟩
theorem fg_X2_31_X2 : LkG RX2 31 ciX2 4 := ⟨RX2, TX2, 13, tyX2, _, cls_X2, by decide, Or.inl rfl, Or.inl q261⟩
theorem kv_X2_112 : LkV RX2 112 yX3_weight 0 := ⟨q1788, q1789, q1790, q78, by decide +kernel, by decide +kernel, by decide +kernel⟩
theorem fg_X2_34_X2 : LkG RX2 34 ciX2 5 := ⟨RX2, TX2, 13, tyX2, _, cls_X2, by decide, Or.inl rfl, Or.inl q263⟩
set_option maxHeartbeats 4000000 in
set_option maxRecDepth 100000 in
theorem sp_X2_load {l : Launch} {s0 : State} {D : va_G} {I : AI} {L : AL} {dE ca : Nat} {ad : Nat → Nat} {r : Nat} {R : Rv} {A : RA} (hΓ : Gam l s0 D) (hZ : Std s0 D dE ca ad) (h : RvO dE I L r R A) : Spc l s0 D yX2_load 9 [.ref r] I L 4 14 (fun q I' L' => q = some (.int (tsum true R.fo + tsum true R.af)) ∧ L = L') noX := by
  refine Spc.of hΓ cX2_load 1 (some FieldType.int) q1787 (by decide +kernel) (by decide) (Nat.le_of_ble_eq_true rfl) (fun G GX hG => ?_)
  refine hG.aload_n dX2_load_0 rfl ?_
  refine hG.get dX2_load_1 fg_X2_31_X2 (Or.inl h.h) rfl ?_
  refine hG.callV dX2_load_4 kv_X2_112 (Rcv.ta h.h4) (sp_X3_weight hΓ hZ h.h4) rfl rfl (Nat.le_of_ble_eq_true rfl) (by decide) (by omega) (by omega) (fun r4 I4 L4 hI4 h4 => ?_) (fun _ _ _ _ _ h => h.elim)
  obtain ⟨rfl, rfl⟩ := h4
  refine hG.aload_n dX2_load_7 rfl ?_
  refine hG.get dX2_load_8 fg_X2_34_X2 (Or.inl h.h) rfl ?_
  refine hG.callV dX2_load_11 kv_X2_112 (Rcv.ta h.h5) (sp_X3_weight hΓ hZ h.h5) rfl rfl (Nat.le_of_ble_eq_true rfl) (by decide) (by omega) (by omega) (fun r11 I11 L11 hI11 h11 => ?_) (fun _ _ _ _ _ h => h.elim)
  obtain ⟨rfl, rfl⟩ := h11
  refine hG.iadd dX2_load_14 ?_
  refine hG.iret dX2_load_15 rfl ?_ (by omega) (by omega) trivial
  exact ⟨rfl, rfl⟩
theorem kf_X2_51_J15 : LkF RX2 51 RJ15 ⟨"java/util/Iterator", "hasNext", "()Z"⟩ yJ15_hasNext 0 := ⟨q439, q443, q445, q94, ⟨by decide +kernel, by decide +kernel, by decide +kernel⟩, q441, q440, q446, q444, q442⟩
theorem kf_X2_57_J15 : LkF RX2 57 RJ15 ⟨"java/util/Iterator", "next", "()Ljava/lang/Object;"⟩ yJ15_next 0 := ⟨q455, q458, q460, q94, ⟨by decide +kernel, by decide +kernel, by decide +kernel⟩, q457, q456, q461, q459, q442⟩
theorem kv_X2_118 : LkV RX2 118 yX11_riseIn 1 := ⟨q1887, q1888, q1889, q124, by decide +kernel, by decide +kernel, by decide +kernel⟩
theorem fg_X2_115_X6 : LkG RX2 115 ciX6 1 := ⟨RX6, TX6, 3, tyX6, _, cls_X6, by decide, Or.inl rfl, Or.inr ⟨_, q2121⟩⟩
theorem fg_X2_18_X2 : LkG RX2 18 ciX2 1 := ⟨RX2, TX2, 13, tyX2, _, cls_X2, by decide, Or.inl rfl, Or.inl q255⟩
theorem kf_X2_45_J2 : LkF RX2 45 RJ2 ⟨"java/util/List", "iterator", "()Ljava/util/Iterator;"⟩ yJ2_iterator 0 := ⟨q410, q414, q416, q77, ⟨by decide +kernel, by decide +kernel, by decide +kernel⟩, q412, q411, q417, q415, q413⟩
set_option maxHeartbeats 4000000 in
set_option maxRecDepth 100000 in
theorem sp_X2_flow {l : Launch} {s0 : State} {D : va_G} {I : AI} {L : AL} {dE ca : Nat} {ad : Nat → Nat} {r : Nat} {R : Rv} {A : RA} (hΓ : Gam l s0 D) (hZ : Std s0 D dE ca ad) (h : RvO dE I L r R A) {j : Nat} {c0 : T3} {at_ : Int32} (hj : R.ch[j]? = some c0) : Spc l s0 D yX2_flow 6 [.ref r, .int (nI j), .int at_] I L 1 4 (pV (.int (minI 30 (flowS R.fl at_ c0.2.1))) I L) noX := by
  refine Spc.of hΓ cX2_flow 6 (some FieldType.int) q1886 (by decide +kernel) (by decide) (Nat.le_of_ble_eq_true rfl) (fun G GX hG => ?_)
  refine hG.peek h.h1 (fun J9 S9 _ hli => ?_)
  have hl10 : A.ys.length ≤ 10 := hli.1
  have hll := h.e1.len
  obtain ⟨x0, hx0, hx0c⟩ := h.e0.get hj
  refine hG.aload_n dX2_flow_0 rfl ?_
  refine hG.get dX2_flow_1 fg_X2_12_X2 (Or.inl h.h) rfl ?_
  refine hG.iload_n dX2_flow_4 rfl ?_
  refine hG.callF dX2_flow_5 kf_X2_108_J2 (Rcv.li h.h0) cl_J2 (sp_J2_get hΓ h.h0 hx0) rfl rfl (Nat.le_of_ble_eq_true rfl) (by decide) (by omega) (by omega) (fun r5 I5 L5 hI5 h5 => ?_) (fun _ _ _ _ _ h => h.elim)
  obtain ⟨rfl, rfl, rfl⟩ := h5
  refine hG.castS dX2_flow_10 q556 (Rcv.imm hx0c cl_X6) cl_X6 ?_
  refine hG.get dX2_flow_13 fg_X2_115_X6 (Or.inr hx0c) rfl ?_
  refine hG.istore_n dX2_flow_16 (by decide) ?_
  refine hG.aload_n dX2_flow_17 rfl ?_
  refine hG.get dX2_flow_18 fg_X2_18_X2 (Or.inl h.h) rfl ?_
  refine hG.callF dX2_flow_21 kf_X2_45_J2 (Rcv.li h.h1) cl_J2 (sp_J2_iterator hΓ h.h1) rfl rfl (Nat.le_of_ble_eq_true rfl) (by decide) (by omega) (by omega) (fun r21 I21 L21 hI21 h21 => ?_) (fun _ _ _ _ _ h => h.elim)
  obtain ⟨rfl, it, hita, hit, rfl, rfl⟩ := h21
  refine hG.astore dX2_flow_26 (by decide) ?_
  have loop : ∀ (w i : Nat) (acc lr : Int32), i + w = R.fl.length → acc = flowS (R.fl.take i) at_ c0.2.1 → G 28 [(2, .int at_), (3, .int acc), (4, .ref it)] [] I (up1 L it (some (obC ciJ15 [.int (nI i), .int lr, .int A.m1, .ref A.a1]))) 1 4 := by
    intro w
    induction w with
    | zero =>
      intro i acc lr hiw hacc
      refine hG.aload dX2_flow_28 rfl ?_
      refine hG.callF dX2_flow_30 kf_X2_51_J15 (Rcv.raw up1_s cl_J15) cl_J15 (sp_J15_hasNext hΓ (by omega) ((up1_n hita.symm).trans h.h1) up1_s) rfl rfl (Nat.le_of_ble_eq_true rfl) (by decide) (by omega) (by omega) (fun r30 I30 L30 hI30 h30 => ?_) (fun _ _ _ _ _ h => h.elim)
      obtain ⟨rfl, rfl, rfl⟩ := h30
      refine hG.if_eq (tgt := 62) dX2_flow_35 rfl (fun c_35 => ?_) (fun c_35 => absurd (by rw [decide_eq_false (by omega)]; rfl) c_35)
      refine hG.sub (S := L) (fun q x hq => (up1_n (fun e => by subst e; rw [hit] at hq; cases hq)).trans hq) ?_
      refine hG.bipush (v := 30) dX2_flow_62 rfl ?_
      refine hG.iload_n dX2_flow_64 rfl ?_
      refine hG.mmin dX2_flow_65 q1892 (Nat.le_of_ble_eq_true rfl) (by decide) ?_
      refine hG.iret dX2_flow_68 rfl ?_ (by omega) (by omega) trivial
      exact ⟨by rw [hacc, List.take_of_length_le (by omega)], rfl, rfl⟩
    | succ w ih =>
      intro i acc lr hiw hacc
      obtain ⟨c, hc, -⟩ := get_lt (show i < R.fl.length by omega)
      obtain ⟨x, hx, hxc⟩ := h.e1.get hc
      refine hG.aload dX2_flow_28 rfl ?_
      refine hG.callF dX2_flow_30 kf_X2_51_J15 (Rcv.raw up1_s cl_J15) cl_J15 (sp_J15_hasNext hΓ (by omega) ((up1_n hita.symm).trans h.h1) up1_s) rfl rfl (Nat.le_of_ble_eq_true rfl) (by decide) (by omega) (by omega) (fun r30 I30 L30 hI30 h30 => ?_) (fun _ _ _ _ _ h => h.elim)
      obtain ⟨rfl, rfl, rfl⟩ := h30
      refine hG.if_eq (tgt := 62) dX2_flow_35 rfl (fun c_35 => absurd c_35 (by rw [decide_eq_true (by omega)]; decide)) (fun c_35 => ?_)
      refine hG.aload dX2_flow_38 rfl ?_
      refine hG.callF dX2_flow_40 kf_X2_57_J15 (Rcv.raw up1_s cl_J15) cl_J15 (sp_J15_next hΓ hx ((up1_n hita.symm).trans h.h1) up1_s) rfl rfl (Nat.le_of_ble_eq_true rfl) (by decide) (by omega) (by omega) (fun r40 I40 L40 hI40 h40 => ?_) (fun _ _ _ _ _ h => h.elim)
      obtain ⟨rfl, rfl, rfl⟩ := h40
      rw [up1_up1]
      refine hG.castS dX2_flow_45 q655 (Rcv.imm hxc cl_X11) cl_X11 ?_
      refine hG.astore dX2_flow_48 (by decide) ?_
      refine hG.iload_n dX2_flow_50 rfl ?_
      refine hG.aload dX2_flow_51 rfl ?_
      refine hG.iload_n dX2_flow_53 rfl ?_
      refine hG.callV dX2_flow_54 kv_X2_118 (Rcv.imm hxc cl_X11) (sp_X11_riseIn hΓ hxc) rfl rfl (Nat.le_of_ble_eq_true rfl) (by decide) (by omega) (by omega) (fun r54 I54 L54 hI54 h54 => ?_) (fun _ _ _ _ _ h => h.elim)
      obtain ⟨rfl, rfl, rfl⟩ := h54
      refine hG.iadd dX2_flow_57 ?_
      refine hG.istore_n dX2_flow_58 (by decide) ?_
      refine hG.goto (tgt := 28) dX2_flow_59 rfl ?_
      refine hG.lsb [(2, .int at_), (3, .int (acc + rise c at_)), (4, .ref it)] ⟨rfl, rfl, rfl, trivial⟩ (ih (i + 1) _ _ (by omega) ?_)
      rw [hacc]
      unfold flowS
      rw [foldl_take hc]
  exact hG.lsb [(2, .int at_), (3, .int c0.2.1), (4, .ref it)] ⟨rfl, rfl, rfl, trivial⟩ (loop _ 0 _ _ (Nat.zero_add _) rfl)
