/-! the ferry: made; a character of its line -/
def fyI : Fy := (rv0, [], [], [], -1, 0, 0, none)
theorem nw_X1_82 : LkN RX1 82 ciJ6 [.null, .int 0, .int 0] 3 := ⟨RJ6, TJ6, tyJ6, cls_J6, q307, q308, q82, rfl, fun j hj => by
  match j, hj with
  | 0, _ => rfl
  | 1, _ => rfl
  | 2, _ => rfl
  | _ + 3, h => exact absurd h (by omega)⟩
theorem ki_X1_84 : LkI RX1 84 yJ6_init 0 := ⟨q309, q310, q82, rfl, ⟨by decide +kernel, by decide +kernel, by decide +kernel⟩, by decide +kernel⟩
theorem fp_X1_85_X1 : LkP RX1 "<init>" 85 ciX1 1 (tyX1 1) := ⟨RX1, TX1, 8, tyX1, _, cls_X1, by decide, rfl, Or.inl rfl, Or.inr (Or.inr ⟨rfl, rfl, rfl, q360⟩)⟩
theorem nw_X1_89 : LkN RX1 89 ciJ8 [.null, .int 0, .int 0, .int 0] 4 := ⟨RJ8, TJ8, tyJ8, cls_J8, q325, q326, q84, rfl, fun j hj => by
  match j, hj with
  | 0, _ => rfl
  | 1, _ => rfl
  | 2, _ => rfl
  | 3, _ => rfl
  | _ + 4, h => exact absurd h (by omega)⟩
theorem ki_X1_91 : LkI RX1 91 yJ8_init 0 := ⟨q327, q328, q84, rfl, ⟨by decide +kernel, by decide +kernel, by decide +kernel⟩, by decide +kernel⟩
theorem fp_X1_92_X1 : LkP RX1 "<init>" 92 ciX1 2 (tyX1 2) := ⟨RX1, TX1, 8, tyX1, _, cls_X1, by decide, rfl, Or.inl rfl, Or.inr (Or.inr ⟨rfl, rfl, rfl, q362⟩)⟩
theorem fp_X1_98_X1 {nm : String} : LkP RX1 nm 98 ciX1 3 (tyX1 3) := ⟨RX1, TX1, 8, tyX1, _, cls_X1, by decide, rfl, Or.inl rfl, Or.inl ⟨rfl, q363⟩⟩
set_option maxHeartbeats 4000000 in
set_option maxRecDepth 100000 in
theorem sp_X1_init {l : Launch} {s0 : State} {D : va_G} {I : AI} {L : AL} {dE ca : Nat} {ad : Nat → Nat} {o : Option Nat} (hΓ : Gam l s0 D) (hZ : Std s0 D dE ca ad) (hT : StX s0 D o) {x : Nat} (hx : L x = some (obC ciX1 [.null, .null, .null, .null, .int 0, .int 0, .int 0, .null])) : Spc l s0 D yX1_init 6 [.ref x] I L 20 200 (fun q I' L' => q = none ∧ ∃ A : FA, FeO dE I' L' x fyI A ∧ FrX x L L') noX := by
  refine Spc.of hΓ cX1_init 1 none q148 (by decide +kernel) (by decide) (Nat.le_of_ble_eq_true rfl) (fun G GX hG => ?_)
  have hX := hT.v
  refine hG.aload_n dX1_init_0 rfl ?_
  refine hG.objI dX1_init_1 q149 (Nat.le_of_ble_eq_true rfl) (by decide) ?_
  refine hG.aload_n dX1_init_4 rfl ?_
  refine hG.new dX1_init_5 nw_X1_75 (by omega) (by omega) (fun r2 hLr2 hIr2 => ?_)
  refine hG.dup dX1_init_8 rfl ?_
  refine hG.callNI dX1_init_9 ki_X1_77 (sp_X2_init hΓ hZ up1_s) rfl rfl (Nat.le_of_ble_eq_true rfl) (by decide) (by omega) (by omega) (fun r9 I9 L9 hI9 h9 => ?_) (fun _ _ _ _ _ h => h.elim)
  obtain ⟨rfl, A2, h2, F1⟩ := h9
  have hr2 : L r2 = none := hLr2
  have hF1 : ∀ z y, L z = some y → z ∉ RN r2 A2 ∧ L9 z = some y := fun z y hz => F1 z y ((up1_n (ne_none hz hr2)).trans hz) (by simp [ne_none hz hr2])
  refine hG.clR (cutL L9 (RN r2 A2)) h2 (fun z y hz hza => cutL_i hz) ?_
  have hL3 : ∀ z y, L z = some y → up1 (cutL L9 (RN r2 A2)) r2 (some (rvC dE rv0)) z = some y := fun z y hz => (up1_n (ne_none hz hr2)).trans ((cutL_n (hF1 z y hz).1).trans (hF1 z y hz).2)
  generalize hLL : up1 (cutL L9 (RN r2 A2)) r2 (some (rvC dE rv0)) = L3 at hL3 ⊢
  have hr23 : L3 r2 = some (rvC dE rv0) := by rw [← hLL]; exact up1_s
  have hx3 := hL3 _ _ hx
  refine hG.put dX1_init_12 fp_X1_78_X1 hx3 rfl rfl (Nat.le_of_ble_eq_true rfl) ?_
  refine hG.aload_n dX1_init_15 rfl ?_
  refine hG.new dX1_init_16 nw_X1_82 (by omega) (by omega) (fun pq hLpq hIpq => ?_)
  refine hG.dup dX1_init_19 rfl ?_
  refine hG.callI dX1_init_20 ki_X1_84 (sp_J6_init (xs := []) hΓ up1_s) rfl rfl (Nat.le_of_ble_eq_true rfl) (by decide) (by omega) (by omega) (fun r20 I20 L20 hI20 h20 => ?_) (fun _ _ _ _ _ h => h.elim)
  obtain ⟨rfl, rfl, rfl⟩ := h20
  rw [up1_up1]
  have hxp : x ≠ pq := fun e => by rw [← e, up1_s] at hLpq; cases hLpq
  have hp3 : L3 pq = none := (up1_n hxp.symm).symm.trans hLpq
  refine hG.put dX1_init_23 fp_X1_85_X1 ((up1_n hxp).trans up1_s) rfl rfl (Nat.le_of_ble_eq_true rfl) ?_
  refine hG.aload_n dX1_init_26 rfl ?_
  refine hG.new dX1_init_27 nw_X1_89 (by omega) (by omega) (fun ip hLip hIip => ?_)
  refine hG.dup dX1_init_30 rfl ?_
  refine hG.callI dX1_init_31 ki_X1_91 (sp_J8_init (b := 60) hΓ hX (by decide) up1_s) rfl rfl (Nat.le_of_ble_eq_true rfl) (by decide) (by omega) (by omega) (fun r31 I31 L31 hI31 h31 => ?_) (fun _ _ _ _ _ h => h.elim)
  obtain ⟨rfl, rfl, rfl⟩ := h31
  rw [up1_up1]
  have hxi : x ≠ ip := fun e => by rw [← e, up1_s] at hLip; cases hLip
  have hpi : pq ≠ ip := fun e => by rw [← e, up1_n hxp.symm, up1_s] at hLip; cases hLip
  have hi3 : L3 ip = none := by rw [up1_n hxi.symm, up1_n hpi.symm, up1_n hxi.symm] at hLip; exact hLip
  refine hG.put dX1_init_34 fp_X1_92_X1 ((up1_n hxi).trans up1_s) rfl rfl (Nat.le_of_ble_eq_true rfl) ?_
  refine hG.aload_n dX1_init_37 rfl ?_
  refine hG.ldcT dX1_init_38 (hT.tx 0 rfl) (fun s38 hs38 => ?_)
  refine hG.put dX1_init_40 fp_X1_98_X1 up1_s rfl rfl (Nat.le_of_ble_eq_true rfl) ?_
  rw [up1_up1]
  refine hG.aload_n dX1_init_43 rfl ?_
  refine hG.iconst (v := -1) dX1_init_44 rfl ?_
  refine hG.put dX1_init_45 fp_X1_102_X1 up1_s rfl rfl (Nat.le_of_ble_eq_true rfl) ?_
  rw [up1_up1]
  refine hG.vret dX1_init_48 rfl ?_ (by omega) (by omega) trivial
  have hk : ∀ z y, L3 z = some y → z ≠ x → ∀ c1 c2 c3 c4 c5, up1 (up1 (up1 (up1 (up1 L3 x c1) pq c2) x c3) ip c4) x c5 z = some y := fun z y hz hn c1 c2 c3 c4 c5 => (up1_n hn).trans ((up1_n (ne_none hz hi3)).trans ((up1_n hn).trans ((up1_n (ne_none hz hp3)).trans ((up1_n hn).trans hz))))
  refine ⟨rfl, (r2, pq, ip, s38, [], none), ⟨up1_s, hk _ _ hr23 (ne_val hr23 hx3 (fun e => by cases e)) _ _ _ _ _, (up1_n hxp.symm).trans ((up1_n hpi).trans ((up1_n hxp.symm).trans up1_s)), trivial, ⟨0, 0, [], rfl, by decide, (fun c hc => nomatch hc), by decide, (up1_n hxi.symm).trans up1_s⟩, ⟨[], rfl, (fun c hc => nomatch hc), by decide, Or.inr hs38⟩, trivial, (show [r2].Nodup from by simp)⟩, fun z e hz hn => hk _ _ (hL3 _ _ hz) hn _ _ _ _ _⟩
