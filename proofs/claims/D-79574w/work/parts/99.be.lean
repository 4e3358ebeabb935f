/-! the ferry: undo, snapshots, input, groups told, numbers -/
theorem FeO.put {dE : Nat} {I J : AI} {L L' : AL} {x : Nat} {F F' : Fy} {A : FA} {r' : Nat} {xs' : List Nat} {sv' : Option Nat} (h : FeO dE I L x F A) (hI : ile I J) (h1 : L' x = some (feC r' (FA.pq A) (FA.ip A) (FA.ln A) F'.fa F'.re F'.de sv')) (h2 : L' r' = some (rvC dE F'.rv)) (h3 : L' (FA.pq A) = some (dqC xs')) (h4 : RvL dE L' xs' F'.pa) (h5 : SvO dE L' sv' F'.sv) (hnd : (r' :: (xs' ++ sv'.toList)).Nodup) (hk : ∀ z b k ml cs, L z = some (sbC b k ml cs) → L' z = some (sbC b k ml cs)) (e1 : F'.ip = F.ip) (e2 : F'.li = F.li) : FeO dE J L' x F' (r', FA.pq A, FA.ip A, FA.ln A, xs', sv') := by
  obtain ⟨-, -, -, -, ⟨k, ml, t, g5, g6, g7, g75, g8⟩, ⟨cs, q1, q2, q3, q4⟩, -, -⟩ := h
  refine ⟨h1, h2, h3, h4, ⟨k, ml, t, e1.trans g5, g6, g7, g75, hk _ _ _ _ _ g8⟩, ⟨cs, e2.trans q1, q2, q3, ?_⟩, h5, hnd⟩
  rcases q4 with ⟨q5, ml2, q6⟩ | q5
  · exact Or.inl ⟨q5, ml2, hk _ _ _ _ _ q6⟩
  · exact Or.inr (q5.mono hI)
abbrev pF (dE : Nat) (f : Fy × Int32 × Int32) (x : Nat) (L : AL) : Option Value → AI → AL → Prop := fun q I' L' => f.2.1 = 0 ∧ q = some (.int f.2.2) ∧ ∃ A' : FA, FeO dE I' L' x f.1 A' ∧ FrX x L L'
abbrev xE1 (E1 : String) (c : Int32) (L : AL) : String → Nat → AI → AL → Prop := fun E _ _ L' => L = L' ∧ c = 1 ∧ E = E1
def fauF (F : Fy) : Int32 × Int32 := if F.fa = -1 then (1, 0) else (0, F.fa)
def refF (F : Fy) (w : Bool) : Int32 × Int32 := if F.re = 0 then (1, 0) else (0, match w with | true => F.re | false => F.de)
theorem fg_X1_102_X1 : LkG RX1 102 ciX1 4 := ⟨RX1, TX1, 8, tyX1, _, cls_X1, by decide, Or.inl rfl, Or.inl q364⟩
theorem ks_X1_335 : LkS RX1 335 yX1_requireElement 1 := ⟨q2795, q2796, q73, by decide +kernel, by decide +kernel, by decide +kernel⟩
set_option maxHeartbeats 4000000 in
set_option maxRecDepth 100000 in
theorem sp_X1_faultPosition {l : Launch} {s0 : State} {D : va_G} {I : AI} {L : AL} {dE ca : Nat} {ad : Nat → Nat} (hΓ : Gam l s0 D) (hZ : Std s0 D dE ca ad) {x N : Nat} {F : Fy} {A : FA} (hF : FeO dE I L x F A) (hW : WfF N F) (hN : N ≤ 22) : Spc l s0 D yX1_faultPosition 8 [.ref x] I L 1 6 (pQ (fauF F) L) (xE1 RJ16 ((fauF F).1) L) := by
  refine Spc.of hΓ cX1_faultPosition 1 (some FieldType.int) q3209 (by decide +kernel) (by decide) (Nat.le_of_ble_eq_true rfl) (fun G GX hG => ?_)
  obtain ⟨hx, hr, hpq, hpa, hip, hln, hsv, hnd⟩ := id hF
  by_cases hf : F.fa = -1
  · refine hG.aload_n dX1_faultPosition_0 rfl ?_
    refine hG.get dX1_faultPosition_1 fg_X1_102_X1 (Or.inl hx) rfl ?_
    refine hG.iconst (v := -1) dX1_faultPosition_4 rfl ?_
    refine hG.icmp_eq (tgt := 12) dX1_faultPosition_5 rfl (fun c_5 => ?_) (fun c_5 => absurd hf c_5)
    refine hG.iconst (v := 0) dX1_faultPosition_12 rfl ?_
    refine hG.callS dX1_faultPosition_13 ks_X1_335 (sp_X1_requireElement (b := false) hΓ) rfl rfl (Nat.le_of_ble_eq_true rfl) (by decide) (by omega) (by omega) (fun r13 I13 L13 hI13 h13 => ?_) (fun E q I' L' hI ⟨x1, x2, x3⟩ => hG.out (by simp) ⟨x3, by rw [show fauF F = (1, 0) from if_pos hf], x1⟩ (by omega) (by omega) trivial)
    exact absurd h13.2.1 (by decide)
  · refine hG.aload_n dX1_faultPosition_0 rfl ?_
    refine hG.get dX1_faultPosition_1 fg_X1_102_X1 (Or.inl hx) rfl ?_
    refine hG.iconst (v := -1) dX1_faultPosition_4 rfl ?_
    refine hG.icmp_eq (tgt := 12) dX1_faultPosition_5 rfl (fun c_5 => absurd c_5 hf) (fun c_5 => ?_)
    refine hG.iconst (v := 1) dX1_faultPosition_8 rfl ?_
    refine hG.goto (tgt := 13) dX1_faultPosition_9 rfl ?_
    refine hG.callS dX1_faultPosition_13 ks_X1_335 (sp_X1_requireElement (b := true) hΓ) rfl rfl (Nat.le_of_ble_eq_true rfl) (by decide) (by omega) (by omega) (fun r13 I13 L13 hI13 h13 => ?_) (fun E q I' L' hI ⟨x1, x2, x3⟩ => absurd x2 (by decide))
    obtain ⟨rfl, -, rfl, rfl⟩ := h13
    refine hG.aload_n dX1_faultPosition_16 rfl ?_
    refine hG.get dX1_faultPosition_17 fg_X1_102_X1 (Or.inl hx) rfl ?_
    refine hG.iret dX1_faultPosition_20 rfl ?_ (by omega) (by omega) trivial
    have hv : fauF F = (0, F.fa) := if_neg hf
    exact ⟨(by rw [hv] <;> rfl), (by rw [hv] <;> rfl), rfl⟩
theorem fg_X1_120_X1 : LkG RX1 120 ciX1 5 := ⟨RX1, TX1, 8, tyX1, _, cls_X1, by decide, Or.inl rfl, Or.inl q365⟩
theorem fg_X1_123_X1 : LkG RX1 123 ciX1 6 := ⟨RX1, TX1, 8, tyX1, _, cls_X1, by decide, Or.inl rfl, Or.inl q366⟩
set_option maxHeartbeats 4000000 in
set_option maxRecDepth 100000 in
theorem sp_X1_refusal {l : Launch} {s0 : State} {D : va_G} {I : AI} {L : AL} {dE ca : Nat} {ad : Nat → Nat} (hΓ : Gam l s0 D) (hZ : Std s0 D dE ca ad) {x N : Nat} {F : Fy} {A : FA} (hF : FeO dE I L x F A) (hW : WfF N F) (hN : N ≤ 22) {w : Bool} : Spc l s0 D yX1_refusal 8 [.ref x, .int (b2i w)] I L 1 6 (pQ (refF F w) L) (xE1 RJ16 ((refF F w).1) L) := by
  refine Spc.of hΓ cX1_refusal 2 (some FieldType.int) q3216 (by decide +kernel) (by decide) (Nat.le_of_ble_eq_true rfl) (fun G GX hG => ?_)
  obtain ⟨hx, hr, hpq, hpa, hip, hln, hsv, hnd⟩ := id hF
  by_cases hf : F.re = 0
  · refine hG.aload_n dX1_refusal_0 rfl ?_
    refine hG.get dX1_refusal_1 fg_X1_120_X1 (Or.inl hx) rfl ?_
    refine hG.if_eq (tgt := 11) dX1_refusal_4 rfl (fun c_4 => ?_) (fun c_4 => absurd hf c_4)
    refine hG.iconst (v := 0) dX1_refusal_11 rfl ?_
    refine hG.callS dX1_refusal_12 ks_X1_335 (sp_X1_requireElement (b := false) hΓ) rfl rfl (Nat.le_of_ble_eq_true rfl) (by decide) (by omega) (by omega) (fun r12 I12 L12 hI12 h12 => ?_) (fun E q I' L' hI ⟨x1, x2, x3⟩ => hG.out (by simp) ⟨x3, by rw [show refF F w = (1, 0) from if_pos hf], x1⟩ (by omega) (by omega) trivial)
    exact absurd h12.2.1 (by decide)
  · rcases w with _ | _
    · refine hG.aload_n dX1_refusal_0 rfl ?_
      refine hG.get dX1_refusal_1 fg_X1_120_X1 (Or.inl hx) rfl ?_
      refine hG.if_eq (tgt := 11) dX1_refusal_4 rfl (fun c_4 => absurd c_4 hf) (fun c_4 => ?_)
      refine hG.iconst (v := 1) dX1_refusal_7 rfl ?_
      refine hG.goto (tgt := 12) dX1_refusal_8 rfl ?_
      refine hG.callS dX1_refusal_12 ks_X1_335 (sp_X1_requireElement (b := true) hΓ) rfl rfl (Nat.le_of_ble_eq_true rfl) (by decide) (by omega) (by omega) (fun r12 I12 L12 hI12 h12 => ?_) (fun E q I' L' hI ⟨x1, x2, x3⟩ => absurd x2 (by decide))
      obtain ⟨rfl, -, rfl, rfl⟩ := h12
      refine hG.iload_n dX1_refusal_15 rfl ?_
      refine hG.if_eq (tgt := 26) dX1_refusal_16 rfl (fun c_16 => ?_) (fun c_16 => absurd rfl c_16)
      refine hG.aload_n dX1_refusal_26 rfl ?_
      refine hG.get dX1_refusal_27 fg_X1_123_X1 (Or.inl hx) rfl ?_
      refine hG.iret dX1_refusal_30 rfl ?_ (by omega) (by omega) trivial
      have hv : refF F false = (0, F.de) := if_neg hf
      exact ⟨(by rw [hv] <;> rfl), (by rw [hv] <;> rfl), rfl⟩
    · refine hG.aload_n dX1_refusal_0 rfl ?_
      refine hG.get dX1_refusal_1 fg_X1_120_X1 (Or.inl hx) rfl ?_
      refine hG.if_eq (tgt := 11) dX1_refusal_4 rfl (fun c_4 => absurd c_4 hf) (fun c_4 => ?_)
      refine hG.iconst (v := 1) dX1_refusal_7 rfl ?_
      refine hG.goto (tgt := 12) dX1_refusal_8 rfl ?_
      refine hG.callS dX1_refusal_12 ks_X1_335 (sp_X1_requireElement (b := true) hΓ) rfl rfl (Nat.le_of_ble_eq_true rfl) (by decide) (by omega) (by omega) (fun r12 I12 L12 hI12 h12 => ?_) (fun E q I' L' hI ⟨x1, x2, x3⟩ => absurd x2 (by decide))
      obtain ⟨rfl, -, rfl, rfl⟩ := h12
      refine hG.iload_n dX1_refusal_15 rfl ?_
      refine hG.if_eq (tgt := 26) dX1_refusal_16 rfl (fun c_16 => absurd c_16 (by decide)) (fun c_16 => ?_)
      refine hG.aload_n dX1_refusal_19 rfl ?_
      refine hG.get dX1_refusal_20 fg_X1_120_X1 (Or.inl hx) rfl ?_
      refine hG.goto (tgt := 30) dX1_refusal_23 rfl ?_
      refine hG.iret dX1_refusal_30 rfl ?_ (by omega) (by omega) trivial
      have hv : refF F true = (0, F.re) := if_neg hf
      exact ⟨(by rw [hv] <;> rfl), (by rw [hv] <;> rfl), rfl⟩
theorem SvO.mem {dE : Nat} {L : AL} {o : Option Nat} {S : Option Rv} (h : SvO dE L o S) : ∀ z ∈ o.toList, ∃ R, L z = some (rvC dE R) := fun z hz => by
  cases o with
  | none => exact absurd hz (by simp)
  | some s =>
    cases S with
    | none => exact h.elim
    | some S =>
      have e : z = s := by simpa using hz
      subst e
      exact ⟨S, h⟩
theorem kv_X1_420 : LkV RX1 420 yJ6_isEmpty 0 := ⟨q3224, q3225, q3226, q82, by decide +kernel, by decide +kernel, by decide +kernel⟩
theorem ks_X1_390 : LkS RX1 390 yX1_requireState 1 := ⟨q2915, q2916, q73, by decide +kernel, by decide +kernel, by decide +kernel⟩
theorem kv_X1_423 : LkV RX1 423 yJ6_pop 0 := ⟨q3228, q3229, q3230, q82, by decide +kernel, by decide +kernel, by decide +kernel⟩
set_option maxHeartbeats 4000000 in
set_option maxRecDepth 100000 in
theorem sp_X1_undo {l : Launch} {s0 : State} {D : va_G} {I : AI} {L : AL} {dE ca : Nat} {ad : Nat → Nat} (hΓ : Gam l s0 D) (hZ : Std s0 D dE ca ad) {x N : Nat} {F : Fy} {A : FA} (hF : FeO dE I L x F A) (hW : WfF N F) (hN : N ≤ 22) : Spc l s0 D yX1_undo 8 [.ref x] I L 1 6 (pF dE (undF F) x L) (xE1 RJ36 ((undF F).2.1) L) := by
  refine Spc.of hΓ cX1_undo 1 (some FieldType.int) q3223 (by decide +kernel) (by decide) (Nat.le_of_ble_eq_true rfl) (fun G GX hG => ?_)
  obtain ⟨hx, hr, hpq, hpa, hip, hln, hsv, hnd⟩ := id hF
  cases hp : F.pa with
  | nil =>
    have hxs : FA.xs A = [] := List.eq_nil_of_length_eq_zero (by rw [hpa.len, hp]; rfl)
    refine hG.aload_n dX1_undo_0 rfl ?_
    refine hG.get dX1_undo_1 fg_X1_85_X1 (Or.inl hx) rfl ?_
    refine hG.callV dX1_undo_4 kv_X1_420 (Rcv.dq hpq) (sp_J6_isEmpty hΓ hpq) rfl rfl (Nat.le_of_ble_eq_true rfl) (by decide) (by omega) (by omega) (fun r4 I4 L4 hI4 h4 => ?_) (fun _ _ _ _ _ h => h.elim)
    obtain ⟨rfl, rfl, rfl⟩ := h4
    refine hG.if_ne (tgt := 14) dX1_undo_7 rfl (fun c_7 => ?_) (fun c_7 => absurd c_7 (by rw [decide_eq_true hxs]; decide))
    refine hG.iconst (v := 0) dX1_undo_14 rfl ?_
    refine hG.callS dX1_undo_15 ks_X1_390 (sp_X1_requireState (b := false) hΓ) rfl rfl (Nat.le_of_ble_eq_true rfl) (by decide) (by omega) (by omega) (fun r15 I15 L15 hI15 h15 => ?_) (fun E q I' L' hI ⟨x1, x2, x3⟩ => hG.out (by simp) ⟨x3, by rw [und_n hp], x1⟩ (by omega) (by omega) trivial)
    exact absurd h15.2.1 (by decide)
  | cons P ps =>
    obtain ⟨y, ys, hxs⟩ : ∃ y ys, FA.xs A = y :: ys := by
      cases hq : FA.xs A with
      | nil => have := hpa.len; rw [hq, hp] at this; cases this
      | cons y ys => exact ⟨y, ys, rfl⟩
    have hpa2 : RvL dE L (y :: ys) (P :: ps) := by rw [← hxs, ← hp]; exact hpa
    have hpq9 : L (FA.pq A) = some (dqC (y :: ys)) := by rw [← hxs]; exact hpq
    refine hG.aload_n dX1_undo_0 rfl ?_
    refine hG.get dX1_undo_1 fg_X1_85_X1 (Or.inl hx) rfl ?_
    refine hG.callV dX1_undo_4 kv_X1_420 (Rcv.dq hpq) (sp_J6_isEmpty hΓ hpq) rfl rfl (Nat.le_of_ble_eq_true rfl) (by decide) (by omega) (by omega) (fun r4 I4 L4 hI4 h4 => ?_) (fun _ _ _ _ _ h => h.elim)
    obtain ⟨rfl, rfl, rfl⟩ := h4
    refine hG.if_ne (tgt := 14) dX1_undo_7 rfl (fun c_7 => absurd (by rw [decide_eq_false (by rw [hxs]; simp)]; rfl) c_7) (fun c_7 => ?_)
    refine hG.iconst (v := 1) dX1_undo_10 rfl ?_
    refine hG.goto (tgt := 15) dX1_undo_11 rfl ?_
    refine hG.callS dX1_undo_15 ks_X1_390 (sp_X1_requireState (b := true) hΓ) rfl rfl (Nat.le_of_ble_eq_true rfl) (by decide) (by omega) (by omega) (fun r15 I15 L15 hI15 h15 => ?_) (fun E q I' L' hI ⟨x1, x2, x3⟩ => absurd x2 (by decide))
    obtain ⟨rfl, -, rfl, rfl⟩ := h15
    refine hG.aload_n dX1_undo_18 rfl ?_
    refine hG.aload_n dX1_undo_19 rfl ?_
    refine hG.get dX1_undo_20 fg_X1_85_X1 (Or.inl hx) rfl ?_
    refine hG.callV dX1_undo_23 kv_X1_423 (Rcv.dq hpq) (sp_J6_pop hΓ hpq9) rfl rfl (Nat.le_of_ble_eq_true rfl) (by decide) (by omega) (by omega) (fun r23 I23 L23 hI23 h23 => ?_) (fun _ _ _ _ _ h => h.elim)
    obtain ⟨rfl, rfl, rfl⟩ := h23
    refine hG.castS dX1_undo_26 q152 (Rcv.rv ((up1_n (ne_val hpa2.1 hpq (ne_kind (by decide)))).trans hpa2.1)) cl_X2 ?_
    refine hG.put dX1_undo_29 fp_X1_78_X1 ((up1_n (ne_val hx hpq (fun e => by cases e))).trans hx) rfl rfl (Nat.le_of_ble_eq_true rfl) ?_
    have hpq8 : up1 (up1 L (FA.pq A) (some (dqC ys))) x (some (feC y (FA.pq A) (FA.ip A) (FA.ln A) F.fa F.re F.de (FA.sv A))) (FA.pq A) = some (dqC ys) := (up1_n (ne_val hpq hx (fun e => by cases e))).trans up1_s
    refine hG.aload_n dX1_undo_32 rfl ?_
    refine hG.get dX1_undo_33 fg_X1_85_X1 (Or.inl up1_s) rfl ?_
    refine hG.callV dX1_undo_36 kv_X1_110 (Rcv.dq hpq8) (sp_J6_size hΓ hpq8) rfl rfl (Nat.le_of_ble_eq_true rfl) (by decide) (by omega) (by omega) (fun r36 I36 L36 hI36 h36 => ?_) (fun _ _ _ _ _ h => h.elim)
    obtain ⟨rfl, rfl, rfl⟩ := h36
    refine hG.iret dX1_undo_39 rfl ?_ (by omega) (by omega) trivial
    have hk : ∀ z c, L z = some c → (∀ e, c ≠ .inl e) → (∀ xs, c ≠ dqC xs) → up1 (up1 L (FA.pq A) (some (dqC ys))) x (some (feC y (FA.pq A) (FA.ip A) (FA.ln A) F.fa F.re F.de (FA.sv A))) z = some c := fun z c hz h1 h2 => by
      have n1 : z ≠ x := fun e => by rw [e, hx] at hz; exact h1 _ (Option.some.inj hz).symm
      have n2 : z ≠ FA.pq A := fun e => by rw [e, hpq] at hz; exact h2 _ (Option.some.inj hz).symm
      exact (up1_n n1).trans ((up1_n n2).trans hz)
    have kr : ∀ z R, L z = some (rvC dE R) → up1 (up1 L (FA.pq A) (some (dqC ys))) x (some (feC y (FA.pq A) (FA.ip A) (FA.ln A) F.fa F.re F.de (FA.sv A))) z = some (rvC dE R) := fun z R hz => hk z _ hz (fun e q => by cases q) (fun xs => ne_kind (by decide))
    refine ⟨by rw [und_c hp], by rw [und_c hp, hpa2.2.len], (y, FA.pq A, FA.ip A, FA.ln A, ys, FA.sv A), ?_, fun z e hz hn => (up1_n hn).trans ((up1_n (ne_val hz hpq (fun e => by cases e))).trans hz)⟩
    rw [und_c hp]
    refine hF.put ile_rf up1_s (kr _ _ hpa2.1) hpq8 (hpa2.2.mono (fun z hz c hc => ?_)) (hsv.mono (fun z hz c hc => ?_)) ?_ (fun z b k ml cs hz => hk z _ hz (fun e q => by cases q) (fun xs => ne_kind (by decide))) rfl rfl
    · obtain ⟨R, hR⟩ := hpa2.2.mem z hz
      rw [hR] at hc
      cases hc
      exact kr z R hR
    · obtain ⟨R, hR⟩ := SvO.mem hsv z hz
      rw [hR] at hc
      cases hc
      exact kr z R hR
    · rw [hxs] at hnd
      exact (List.nodup_cons.mp hnd).2
