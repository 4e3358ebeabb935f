/-! the model's line -/
def wyN (k : Nat) : List Nat := if k = 0 then [102, 111, 114, 116, 104] else [98, 97, 99, 107]
def NmA (I : AI) (A : MA) : Prop := (∃ f : Nat → Option Nat, I A.nm (arQ "java/lang/String" 3 f) ∧ ∀ k, k < 3 → ∃ q, f k = some q ∧ StrI I q 0 (nmN k)) ∧ ∃ f : Nat → Option Nat, I A.wy (arQ "java/lang/String" 2 f) ∧ ∀ k, k < 2 → ∃ q, f k = some q ∧ StrI I q 0 (wyN k)
theorem NmA.mono {I J : AI} {A : MA} (h : NmA I A) (hI : ile I J) : NmA J A := by
  obtain ⟨⟨f, h1, h2⟩, g, h3, h4⟩ := h
  exact ⟨⟨f, hI _ _ h1, fun k hk => by obtain ⟨q, a, b⟩ := h2 k hk; exact ⟨q, a, b.mono hI⟩⟩, g, hI _ _ h3, fun k hk => by obtain ⟨q, a, b⟩ := h4 k hk; exact ⟨q, a, b.mono hI⟩⟩
theorem vl_0 {V : MV} : V.wLd 0 = VL V V.ln 0 := rfl
theorem pw_get {α : Type} {R : α → α → Prop} {t : List α} (h : t.Pairwise R) {a b : Nat} {x y : α} (hab : a < b) (hx : t[a]? = some x) (hy : t[b]? = some y) : R x y := by
  obtain ⟨h1, e1⟩ := List.getElem?_eq_some_iff.mp hx
  obtain ⟨h2, e2⟩ := List.getElem?_eq_some_iff.mp hy
  have := List.pairwise_iff_getElem.mp h a b h1 h2 hab
  rw [e1, e2] at this
  exact this
theorem lin_skip {s : Nat} {t : Tal} {i : Nat} : ∀ k, (∀ q x, i ≤ q → q < i + k → t[q]? = some x → ¬ x.1 / 7 % 7 = s) → i + k ≤ t.length → linA s (t.take (i + k)) = linA s (t.take i)
  | 0, _, _ => rfl
  | k + 1, h, hl => by
    have hq : t[i + k]? = some (t[i + k]'(by omega)) := List.getElem?_eq_getElem (by omega)
    rw [← Nat.add_assoc, take_next hq, linA_app, lin_n (h (i + k) _ (by omega) (by omega) hq)]
    exact lin_skip k (fun q x h1 h2 h3 => h q x h1 (by omega) h3) (by omega)
theorem NxI.next {t : Tal} {rk : Nat → Nat} {s b i : Nat} {r : Int32} (h : NxI t rk s b 147 r) (ht : ∀ x ∈ t, x.1 < 147) (hpw : t.Pairwise (fun x y => rk x.1 < rk y.1)) (hi : i ≤ t.length) (h1 : ∀ q x, q < i → t[q]? = some x → rk x.1 ≤ b) (h2 : ∀ q x, i ≤ q → t[q]? = some x → b < rk x.1) : (r = -1 ∧ linA s t = linA s (t.take i)) ∨ ∃ (j : Nat) (x : Nat × Int32), i ≤ j ∧ t[j]? = some x ∧ x ∈ t ∧ r = nI x.1 ∧ x.1 / 7 % 7 = s ∧ linA s (t.take (j + 1)) = linE s (linA s (t.take i)) x ∧ (∀ q y, q < j + 1 → t[q]? = some y → rk y.1 ≤ rk x.1) ∧ ∀ q y, j + 1 ≤ q → t[q]? = some y → rk x.1 < rk y.1 := by
  rcases h with ⟨e, h⟩ | ⟨x, hx, e, hs, hb, hB, hmin⟩
  · refine Or.inl ⟨e, ?_⟩
    have := lin_skip (s := s) (t := t) (i := i) (t.length - i) (fun q x hq1 hq2 hq3 hs => absurd (h x (List.mem_of_getElem? hq3) hs (ht x (List.mem_of_getElem? hq3))) (by have := h2 q x hq1 hq3; omega)) (by omega)
    rw [← this, show i + (t.length - i) = t.length by omega, List.take_length]
  · obtain ⟨j, hj⟩ := List.getElem?_of_mem hx
    have hij : i ≤ j := by
      rcases Nat.lt_or_ge j i with q | q
      · have := h1 j x q hj
        omega
      · exact q
    refine Or.inr ⟨j, x, hij, hj, hx, e, hs, ?_, fun q y hq hy => ?_, fun q y hq hy => pw_get hpw (by omega) hj hy⟩
    · have hjl := (List.getElem?_eq_some_iff.mp hj).1
      have := lin_skip (s := s) (t := t) (i := i) (j - i) (fun q y hq1 hq2 hq3 hs2 => by
        have g1 := h2 q y hq1 hq3
        have g2 := hmin y (List.mem_of_getElem? hq3) hs2 (ht y (List.mem_of_getElem? hq3)) g1
        have g3 : rk y.1 < rk x.1 := pw_get hpw (show q < j by omega) hq3 hj
        omega) (by omega)
      rw [take_next hj, linA_app, ← this, show i + (j - i) = j by omega]
    · rcases Nat.lt_or_ge q j with q1 | q1
      · exact Nat.le_of_lt (pw_get hpw q1 hy hj)
      · rw [show q = j by omega, hj] at hy
        cases hy
        exact Nat.le_refl _
theorem kv_X4_193 : LkV RX4 193 yX4_writes 1 := ⟨q3523, q3525, qs59, q87, by decide +kernel, by decide +kernel, by decide +kernel⟩
theorem fg_X4_17_X4 : LkG RX4 17 ciX4 0 := ⟨RX4, TX4, 21, tyX4, _, cls_X4, by decide, Or.inl rfl, Or.inl q3270⟩
theorem kv_X4_199 : LkV RX4 199 yX4_writesNumber 1 := ⟨q3530, q3532, qs60, q87, by decide +kernel, by decide +kernel, by decide +kernel⟩
theorem kv_X4_188 : LkV RX4 188 yX4_nextGroup 2 := ⟨q3518, q3520, qs58, q87, by decide +kernel, by decide +kernel, by decide +kernel⟩
set_option maxHeartbeats 4000000 in
set_option maxRecDepth 100000 in
theorem sp_X4_line {l : Launch} {s0 : State} {D : va_G} {I : AI} {L : AL} {m : Nat} {A : MA} {V : MV} {N : Nat} {F : Fy} {o : Option Nat} (hΓ : Gam l s0 D) (hA : MOk m A) (hM : Mr N F V) (hW : WfF N F) (hT : StX s0 D o) (hNm : NmA I A) (hN : N ≤ 22) {n : Int32} : Spc l s0 D yX4_line 9 [.ref m, .int n] I (mdL L m A V) 0 0 (pMq N I L m A ((linF F n).1) ((linF F n).2.1) ((linF F n).2.2)) noX := by
  refine Spc.of hΓ cX4_line 3 (some FieldType.int) q3517 (by decide +kernel) (by decide) (Nat.le_of_ble_eq_true rfl) (fun G GX hG => ?_)
  have hX := hT.v
  have hk := hW.1.wa
  have ht : ∀ x ∈ F.rv.wa, x.1 < 147 := fun x hx => (hk.2 x hx).1
  have hln22 := hW.1.ln.1
  obtain ⟨⟨fn, hnmI, hnk⟩, -⟩ := hNm
  refine hG.aload_n dX4_line_0 rfl ?_
  refine hG.iconst (v := 0) dX4_line_1 rfl ?_
  refine hG.put dX4_line_2 fp_X4_58_X4 mdL_m rfl rfl (Nat.le_of_ble_eq_true rfl) ?_
  refine hG.mp_th ?_
  have hM1 : Mr N F (V.wTh 0) := hM.eqv ⟨rfl, rfl, rfl, rfl, rfl⟩ mv_nw_wTh mv_kp_wTh mv_un_wTh mv_le_wTh mv_tx_wTh mv_ld_wTh mv_ln_wTh (mv_fa_wTh.trans hM.efa) (mv_re_wTh.trans hM.ere) (mv_de_wTh.trans hM.ede) mv_is_wTh mv_sv_wTh
  have hth : (V.wTh 0).th = 0 := mv_th_wTh
  generalize V.wTh 0 = V1 at hM1 hth ⊢
  refine hG.aload_n dX4_line_5 rfl ?_
  refine hG.iload_n dX4_line_6 rfl ?_
  refine hG.callV dX4_line_7 kv_X4_158 (Rcv.raw mdL_m cl_X4) (sp_X4_isStop (N := N) (R := F.rv) (V := V1) hΓ hA hM1.1 hW.1) rfl rfl (Nat.le_of_ble_eq_true rfl) (by decide) (by omega) (by omega) (fun r7 I7 L7 hI7 h7 => ?_) (fun _ _ _ _ _ h => h.elim)
  obtain ⟨rfl, rfl, rfl⟩ := h7
  refine hG.if_ne (tgt := 19) dX4_line_10 rfl (fun c_10 => ?_) (fun c_10 => ?_)
  · have hb1 := b2i_1 c_10
    have h6 := hW.1.ch6
    obtain ⟨s, hs6, rfl⟩ := idx_le (by omega) hb1
    have hs : s < 7 := by omega
    obtain ⟨cm, rk, h99, hcm, hpw, ho⟩ := hM1.1.or
    have loop : ∀ (u i b : Nat) (r : Int32) (acc : List Nat) (f2 : Nat → Int32) (d2 : Int32) (V2 : MV), V2 = VL V1 f2 d2 → i + u ≥ F.rv.wa.length + 1 → i ≤ F.rv.wa.length → acc = linA s (F.rv.wa.take i) → NxI F.rv.wa rk s b 147 r → (∀ q x, q < i → F.rv.wa[q]? = some x → rk x.1 ≤ b) → (∀ q x, i ≤ q → F.rv.wa[q]? = some x → b < rk x.1) → LnA acc f2 d2 → acc.length ≤ 17 * i → G 31 [(0, .ref m), (1, .int (nI s)), (2, .int r)] [] I (mdL L m A V2) 0 0 := by
      intro u
      induction u with
      | zero =>
        intro i b r acc f2 d2 V2 hV2 hiu hi
        omega
      | succ u ih =>
        intro i b r acc f2 d2 V2 hV2 hiu hi hacc hNx h1 h2 hL2 hln
        rcases hNx.next ht hpw hi h1 h2 with ⟨rfl, hlr⟩ | ⟨j, x, hij, hj, hxm, rfl, hxs, hlx, hq1, hq2⟩
        · skip
          refine hG.iload_n dX4_line_31 rfl ?_
          refine hG.if_lt (tgt := 113) dX4_line_32 rfl (fun c_32 => ?_) (fun c_32 => absurd (by decide) c_32)
          have hlt : linA s F.rv.wa = acc := hlr.trans hacc.symm
          by_cases hac : acc = []
          · subst hac
            refine hG.aload_n dX4_line_113 rfl ?_
            refine hG.get dX4_line_114 fg_X4_181_X4 (Or.inl mdL_m) rfl ?_
            rw [show V2.ld = d2 from by rw [hV2, vl_ld], hL2.1]
            refine hG.if_ne (tgt := 126) dX4_line_117 rfl (fun c_117 => absurd rfl c_117) (fun c_117 => ?_)
            refine hG.aload_n dX4_line_120 rfl ?_
            refine hG.ldcT dX4_line_121 (hT.tx 27 rfl) (fun s121 hs121 => ?_)
            refine hG.callV dX4_line_123 kv_X4_193 (Rcv.raw mdL_m cl_X4) (sp_X4_writes (V0 := V1) (V := V2) (f := f2) (d := d2) hΓ hX hA hV2 hL2 hs121 (fun c hc => by simp at hc; omega) (by simp only [List.length_append, List.length_cons, List.length_nil] <;> omega)) rfl rfl (Nat.le_of_ble_eq_true rfl) (by decide) (by omega) (by omega) (fun r123 I123 L123 hI123 h123 => ?_) (fun _ _ _ _ _ h => h.elim)
            obtain ⟨rfl, rfl, f123, d123, V123, rfl, hV123, hL123⟩ := h123
            refine hG.aload_n dX4_line_126 rfl ?_
            refine hG.get dX4_line_127 fg_X4_181_X4 (Or.inl mdL_m) rfl ?_
            rw [show V123.ld = d123 from by rw [hV123, vl_ld], hL123.1]
            refine hG.iret dX4_line_130 rfl ?_ (by omega) (by omega) trivial
            have hlt9 : linT s F.rv.wa = [110, 111, 98, 111, 100, 121] := if_pos hlt
            have hv : linF F (nI s) = (F.wLi (List.map nI ([110, 111, 98, 111, 100, 121])), 0, nI ([110, 111, 98, 111, 100, 121]).length) := by
              unfold linF
              rw [if_pos hb1, nI_clamp (by omega), hlt9]
            rw [hv]
            refine pMq.mk (F := F.wLi (List.map nI ([110, 111, 98, 111, 100, 121]))) (by rw [hV123]; exact hM1.vl hL123) (by rw [hV123, vl_th]; exact hth) (fun _ => rfl)
          · skip
            refine hG.aload_n dX4_line_113 rfl ?_
            refine hG.get dX4_line_114 fg_X4_181_X4 (Or.inl mdL_m) rfl ?_
            rw [show V2.ld = d2 from by rw [hV2, vl_ld], hL2.1]
            refine hG.if_ne (tgt := 126) dX4_line_117 rfl (fun c_117 => ?_) (fun c_117 => absurd c_117 (fun e => hac (List.eq_nil_of_length_eq_zero ((nI_eq (b := 0) (by omega) (by decide)).mp e))))
            refine hG.aload_n dX4_line_126 rfl ?_
            refine hG.get dX4_line_127 fg_X4_181_X4 (Or.inl mdL_m) rfl ?_
            rw [show V2.ld = d2 from by rw [hV2, vl_ld], hL2.1]
            refine hG.iret dX4_line_130 rfl ?_ (by omega) (by omega) trivial
            have hlt9 : linT s F.rv.wa = acc := (if_neg (hlt ▸ hac)).trans hlt
            have hv : linF F (nI s) = (F.wLi (List.map nI (acc)), 0, nI (acc).length) := by
              unfold linF
              rw [if_pos hb1, nI_clamp (by omega), hlt9]
            rw [hv]
            refine pMq.mk (F := F.wLi (List.map nI (acc))) (by rw [hV2]; exact hM1.vl hL2) (by rw [hV2, vl_th]; exact hth) (fun _ => rfl)
        · have hx147 := ht x hxm
          have hjl := (List.getElem?_eq_some_iff.mp hj).1
          have hrk := ho x hxm
          obtain ⟨n9, hn91, hx29⟩ : ∃ n9, n9 ≤ 999 ∧ x.2 = nI n9 := by
            have q := hk.ps x hxm
            obtain ⟨j9, hj9, e⟩ := nI_of (fun q9 => lt_not.mp q9 (Int32.le_of_lt q.1))
            exact ⟨j9, (nI_leI hj9 (by decide)).mp (e ▸ q.2), e⟩
          have hnl := nm_len (x.1 / 49)
          have hdl := dec_len n9
          have hd7 : (dec (x.1 % 7)).length = 1 := by rw [dec_1 (by omega)]; rfl
          obtain ⟨qk, hqk, hqs⟩ := hnk (x.1 / 49) (by omega)
          by_cases hac : acc = []
          · subst hac
            refine hG.iload_n dX4_line_31 rfl ?_
            refine hG.if_lt (tgt := 113) dX4_line_32 rfl (fun c_32 => absurd c_32 (fun e => by have := i_lt.mp e; rw [tlt0, nI_toInt (by omega)] at this; omega)) (fun c_32 => ?_)
            refine hG.aload_n dX4_line_35 rfl ?_
            refine hG.get dX4_line_36 fg_X4_181_X4 (Or.inl mdL_m) rfl ?_
            rw [show V2.ld = d2 from by rw [hV2, vl_ld], hL2.1]
            refine hG.if_le (tgt := 48) dX4_line_39 rfl (fun c_39 => ?_) (fun c_39 => absurd (by decide) c_39)
            refine hG.aload_n dX4_line_48 rfl ?_
            refine hG.aload_n dX4_line_49 rfl ?_
            refine hG.get dX4_line_50 fg_X4_17_X4 (Or.inl mdL_m) rfl ?_
            refine hG.iload_n dX4_line_53 rfl ?_
            refine hG.bipush (v := 49) dX4_line_54 rfl ?_
            refine hG.idiv dX4_line_56 (by decide) ?_
            rw [show nI x.1 / 49 = nI (x.1 / 49) from nI_div (b := 49) (by omega) (by decide)]
            refine hG.aald dX4_line_57 (Or.inr hnmI) (vp_in_nI (by omega) (by decide)) ?_
            rw [nI_clamp (by omega), hqk]
            refine hG.callV dX4_line_58 kv_X4_193 (Rcv.raw mdL_m cl_X4) (sp_X4_writes (V0 := V1) (V := V2) (f := f2) (d := d2) hΓ hX hA hV2 hL2 hqs (nm_c _) (by simp only [List.length_append, List.length_cons, List.length_nil] <;> omega)) rfl rfl (Nat.le_of_ble_eq_true rfl) (by decide) (by omega) (by omega) (fun r58 I58 L58 hI58 h58 => ?_) (fun _ _ _ _ _ h => h.elim)
            obtain ⟨rfl, rfl, f58, d58, V58, rfl, hV58, hL58⟩ := h58
            refine hG.aload_n dX4_line_61 rfl ?_
            refine hG.ldcT dX4_line_62 (hT.tx 25 rfl) (fun s62 hs62 => ?_)
            refine hG.callV dX4_line_64 kv_X4_193 (Rcv.raw mdL_m cl_X4) (sp_X4_writes (V0 := V1) (V := V58) (f := f58) (d := d58) hΓ hX hA hV58 hL58 hs62 (fun c hc => by simp at hc; omega) (by simp only [List.length_append, List.length_cons, List.length_nil] <;> omega)) rfl rfl (Nat.le_of_ble_eq_true rfl) (by decide) (by omega) (by omega) (fun r64 I64 L64 hI64 h64 => ?_) (fun _ _ _ _ _ h => h.elim)
            obtain ⟨rfl, rfl, f64, d64, V64, rfl, hV64, hL64⟩ := h64
            refine hG.aload_n dX4_line_67 rfl ?_
            refine hG.iload_n dX4_line_68 rfl ?_
            refine hG.bipush (v := 7) dX4_line_69 rfl ?_
            refine hG.irem dX4_line_71 (by decide) ?_
            rw [show nI x.1 - nI x.1 / 7 * 7 = nI (x.1 % 7) from nI_mod (b := 7) (by omega) (by decide)]
            refine hG.callV dX4_line_72 kv_X4_199 (Rcv.raw mdL_m cl_X4) (sp_X4_writesNumber (V0 := V1) (V := V64) (f := f64) (d := d64) (n := x.1 % 7) hΓ hA hV64 hL64 (by omega) (by simp only [List.length_append, List.length_cons, List.length_nil] <;> omega)) rfl rfl (Nat.le_of_ble_eq_true rfl) (by decide) (by omega) (by omega) (fun r72 I72 L72 hI72 h72 => ?_) (fun _ _ _ _ _ h => h.elim)
            obtain ⟨rfl, rfl, f72, d72, V72, rfl, hV72, hL72⟩ := h72
            refine hG.aload_n dX4_line_75 rfl ?_
            refine hG.ldcT dX4_line_76 (hT.tx 26 rfl) (fun s76 hs76 => ?_)
            refine hG.callV dX4_line_78 kv_X4_193 (Rcv.raw mdL_m cl_X4) (sp_X4_writes (V0 := V1) (V := V72) (f := f72) (d := d72) hΓ hX hA hV72 hL72 hs76 (fun c hc => by simp at hc; omega) (by simp only [List.length_append, List.length_cons, List.length_nil] <;> omega)) rfl rfl (Nat.le_of_ble_eq_true rfl) (by decide) (by omega) (by omega) (fun r78 I78 L78 hI78 h78 => ?_) (fun _ _ _ _ _ h => h.elim)
            obtain ⟨rfl, rfl, f78, d78, V78, rfl, hV78, hL78⟩ := h78
            have hR78 : Rep N F.rv V78.nw := by rw [hV78, vl_nw]; exact hM1.1
            refine hG.aload_n dX4_line_81 rfl ?_
            refine hG.aload_n dX4_line_82 rfl ?_
            refine hG.get dX4_line_83 fg_X4_21_X4 (Or.inl mdL_m) rfl ?_
            refine hG.bipush (v := 64) dX4_line_86 rfl ?_
            refine hG.iload_n dX4_line_88 rfl ?_
            refine hG.iadd dX4_line_89 ?_
            rw [show (64 : Int32) + nI (x.1) = nI (64 + (x.1)) from ix1 64 _]
            refine hG.nld hA (64 + x.1) dX4_line_90 rfl (by omega) (v := nI n9) ((hR78.w hx147).trans ((tof_m hk hxm).trans hx29)) ?_
            refine hG.callV dX4_line_91 kv_X4_199 (Rcv.raw mdL_m cl_X4) (sp_X4_writesNumber (V0 := V1) (V := V78) (f := f78) (d := d78) (n := n9) hΓ hA hV78 hL78 (by omega) (by simp only [List.length_append, List.length_cons, List.length_nil] <;> omega)) rfl rfl (Nat.le_of_ble_eq_true rfl) (by decide) (by omega) (by omega) (fun r91 I91 L91 hI91 h91 => ?_) (fun _ _ _ _ _ h => h.elim)
            obtain ⟨rfl, rfl, f91, d91, V91, rfl, hV91, hL91⟩ := h91
            have hR91 : Rep N F.rv V91.nw := by rw [hV91, vl_nw]; exact hM1.1
            have ho91 : ∀ x ∈ F.rv.wa, 0 < rk x.1 ∧ rk x.1 ≤ cm ∧ V91.nw (211 + x.1) = nI (rk x.1) := by rw [hV91, vl_nw]; exact ho
            refine hG.aload_n dX4_line_94 rfl ?_
            refine hG.iload_n dX4_line_95 rfl ?_
            refine hG.aload_n dX4_line_96 rfl ?_
            refine hG.get dX4_line_97 fg_X4_21_X4 (Or.inl mdL_m) rfl ?_
            refine hG.sipush (v := 211) dX4_line_100 rfl ?_
            refine hG.iload_n dX4_line_103 rfl ?_
            refine hG.iadd dX4_line_104 ?_
            rw [show (211 : Int32) + nI (x.1) = nI (211 + (x.1)) from ix1 211 _]
            refine hG.nld hA (211 + x.1) dX4_line_105 rfl (by omega) (v := nI (rk x.1)) ((ho91 x hxm).2.2) ?_
            refine hG.callV dX4_line_106 kv_X4_188 (Rcv.raw mdL_m cl_X4) (sp_X4_nextGroup (N := N) (R := F.rv) (V := V91) (rk := rk) (cm := cm) hΓ hA hR91 hW.1 hs (b := rk x.1) (by omega) (by omega) ho91) rfl rfl (Nat.le_of_ble_eq_true rfl) (by decide) (by omega) (by omega) (fun r106 I106 L106 hI106 h106 => ?_) (fun _ _ _ _ _ h => h.elim)
            obtain ⟨r2, rfl, hNx2, rfl, rfl⟩ := h106
            refine hG.istore_n dX4_line_109 (by decide) ?_
            refine hG.goto (tgt := 31) dX4_line_110 rfl ?_
            refine hG.lsb [(0, .ref m), (1, .int (nI s)), (2, .int r2)] ⟨rfl, rfl, rfl, trivial⟩ (ih (j + 1) (rk x.1) r2 (linE s [] x) f91 d91 V91 hV91 (by omega) (by omega) ?_ hNx2 hq1 hq2 ?_ (by have := lin_len (s := s) (a := []) (x := x); omega))
            · rw [hlx, ← hacc]
            · rw [lin_0 hxs]
              unfold entT
              rw [show x.2.toNatClampNeg = n9 from by rw [hx29, nI_clamp (by omega)]]
              simp only [List.nil_append, List.append_assoc] at hL91 ⊢
              exact hL91
          · skip
            refine hG.iload_n dX4_line_31 rfl ?_
            refine hG.if_lt (tgt := 113) dX4_line_32 rfl (fun c_32 => absurd c_32 (fun e => by have := i_lt.mp e; rw [tlt0, nI_toInt (by omega)] at this; omega)) (fun c_32 => ?_)
            refine hG.aload_n dX4_line_35 rfl ?_
            refine hG.get dX4_line_36 fg_X4_181_X4 (Or.inl mdL_m) rfl ?_
            rw [show V2.ld = d2 from by rw [hV2, vl_ld], hL2.1]
            refine hG.if_le (tgt := 48) dX4_line_39 rfl (fun c_39 => absurd c_39 (fun e => by have q1 := (nI_leI (a := acc.length) (b := 0) (by omega) (by decide)).mp e; have q2 := List.length_pos_iff.mpr hac; omega)) (fun c_39 => ?_)
            refine hG.aload_n dX4_line_42 rfl ?_
            refine hG.ldcT dX4_line_43 (hT.tx 24 rfl) (fun s43 hs43 => ?_)
            refine hG.callV dX4_line_45 kv_X4_193 (Rcv.raw mdL_m cl_X4) (sp_X4_writes (V0 := V1) (V := V2) (f := f2) (d := d2) hΓ hX hA hV2 hL2 hs43 (fun c hc => by simp at hc; omega) (by simp only [List.length_append, List.length_cons, List.length_nil] <;> omega)) rfl rfl (Nat.le_of_ble_eq_true rfl) (by decide) (by omega) (by omega) (fun r45 I45 L45 hI45 h45 => ?_) (fun _ _ _ _ _ h => h.elim)
            obtain ⟨rfl, rfl, f45, d45, V45, rfl, hV45, hL45⟩ := h45
            refine hG.aload_n dX4_line_48 rfl ?_
            refine hG.aload_n dX4_line_49 rfl ?_
            refine hG.get dX4_line_50 fg_X4_17_X4 (Or.inl mdL_m) rfl ?_
            refine hG.iload_n dX4_line_53 rfl ?_
            refine hG.bipush (v := 49) dX4_line_54 rfl ?_
            refine hG.idiv dX4_line_56 (by decide) ?_
            rw [show nI x.1 / 49 = nI (x.1 / 49) from nI_div (b := 49) (by omega) (by decide)]
            refine hG.aald dX4_line_57 (Or.inr hnmI) (vp_in_nI (by omega) (by decide)) ?_
            rw [nI_clamp (by omega), hqk]
            refine hG.callV dX4_line_58 kv_X4_193 (Rcv.raw mdL_m cl_X4) (sp_X4_writes (V0 := V1) (V := V45) (f := f45) (d := d45) hΓ hX hA hV45 hL45 hqs (nm_c _) (by simp only [List.length_append, List.length_cons, List.length_nil] <;> omega)) rfl rfl (Nat.le_of_ble_eq_true rfl) (by decide) (by omega) (by omega) (fun r58 I58 L58 hI58 h58 => ?_) (fun _ _ _ _ _ h => h.elim)
            obtain ⟨rfl, rfl, f58, d58, V58, rfl, hV58, hL58⟩ := h58
            refine hG.aload_n dX4_line_61 rfl ?_
            refine hG.ldcT dX4_line_62 (hT.tx 25 rfl) (fun s62 hs62 => ?_)
            refine hG.callV dX4_line_64 kv_X4_193 (Rcv.raw mdL_m cl_X4) (sp_X4_writes (V0 := V1) (V := V58) (f := f58) (d := d58) hΓ hX hA hV58 hL58 hs62 (fun c hc => by simp at hc; omega) (by simp only [List.length_append, List.length_cons, List.length_nil] <;> omega)) rfl rfl (Nat.le_of_ble_eq_true rfl) (by decide) (by omega) (by omega) (fun r64 I64 L64 hI64 h64 => ?_) (fun _ _ _ _ _ h => h.elim)
            obtain ⟨rfl, rfl, f64, d64, V64, rfl, hV64, hL64⟩ := h64
            refine hG.aload_n dX4_line_67 rfl ?_
            refine hG.iload_n dX4_line_68 rfl ?_
            refine hG.bipush (v := 7) dX4_line_69 rfl ?_
            refine hG.irem dX4_line_71 (by decide) ?_
            rw [show nI x.1 - nI x.1 / 7 * 7 = nI (x.1 % 7) from nI_mod (b := 7) (by omega) (by decide)]
            refine hG.callV dX4_line_72 kv_X4_199 (Rcv.raw mdL_m cl_X4) (sp_X4_writesNumber (V0 := V1) (V := V64) (f := f64) (d := d64) (n := x.1 % 7) hΓ hA hV64 hL64 (by omega) (by simp only [List.length_append, List.length_cons, List.length_nil] <;> omega)) rfl rfl (Nat.le_of_ble_eq_true rfl) (by decide) (by omega) (by omega) (fun r72 I72 L72 hI72 h72 => ?_) (fun _ _ _ _ _ h => h.elim)
            obtain ⟨rfl, rfl, f72, d72, V72, rfl, hV72, hL72⟩ := h72
            refine hG.aload_n dX4_line_75 rfl ?_
            refine hG.ldcT dX4_line_76 (hT.tx 26 rfl) (fun s76 hs76 => ?_)
            refine hG.callV dX4_line_78 kv_X4_193 (Rcv.raw mdL_m cl_X4) (sp_X4_writes (V0 := V1) (V := V72) (f := f72) (d := d72) hΓ hX hA hV72 hL72 hs76 (fun c hc => by simp at hc; omega) (by simp only [List.length_append, List.length_cons, List.length_nil] <;> omega)) rfl rfl (Nat.le_of_ble_eq_true rfl) (by decide) (by omega) (by omega) (fun r78 I78 L78 hI78 h78 => ?_) (fun _ _ _ _ _ h => h.elim)
            obtain ⟨rfl, rfl, f78, d78, V78, rfl, hV78, hL78⟩ := h78
            have hR78 : Rep N F.rv V78.nw := by rw [hV78, vl_nw]; exact hM1.1
            refine hG.aload_n dX4_line_81 rfl ?_
            refine hG.aload_n dX4_line_82 rfl ?_
            refine hG.get dX4_line_83 fg_X4_21_X4 (Or.inl mdL_m) rfl ?_
            refine hG.bipush (v := 64) dX4_line_86 rfl ?_
            refine hG.iload_n dX4_line_88 rfl ?_
            refine hG.iadd dX4_line_89 ?_
            rw [show (64 : Int32) + nI (x.1) = nI (64 + (x.1)) from ix1 64 _]
            refine hG.nld hA (64 + x.1) dX4_line_90 rfl (by omega) (v := nI n9) ((hR78.w hx147).trans ((tof_m hk hxm).trans hx29)) ?_
            refine hG.callV dX4_line_91 kv_X4_199 (Rcv.raw mdL_m cl_X4) (sp_X4_writesNumber (V0 := V1) (V := V78) (f := f78) (d := d78) (n := n9) hΓ hA hV78 hL78 (by omega) (by simp only [List.length_append, List.length_cons, List.length_nil] <;> omega)) rfl rfl (Nat.le_of_ble_eq_true rfl) (by decide) (by omega) (by omega) (fun r91 I91 L91 hI91 h91 => ?_) (fun _ _ _ _ _ h => h.elim)
            obtain ⟨rfl, rfl, f91, d91, V91, rfl, hV91, hL91⟩ := h91
            have hR91 : Rep N F.rv V91.nw := by rw [hV91, vl_nw]; exact hM1.1
            have ho91 : ∀ x ∈ F.rv.wa, 0 < rk x.1 ∧ rk x.1 ≤ cm ∧ V91.nw (211 + x.1) = nI (rk x.1) := by rw [hV91, vl_nw]; exact ho
            refine hG.aload_n dX4_line_94 rfl ?_
            refine hG.iload_n dX4_line_95 rfl ?_
            refine hG.aload_n dX4_line_96 rfl ?_
            refine hG.get dX4_line_97 fg_X4_21_X4 (Or.inl mdL_m) rfl ?_
            refine hG.sipush (v := 211) dX4_line_100 rfl ?_
            refine hG.iload_n dX4_line_103 rfl ?_
            refine hG.iadd dX4_line_104 ?_
            rw [show (211 : Int32) + nI (x.1) = nI (211 + (x.1)) from ix1 211 _]
            refine hG.nld hA (211 + x.1) dX4_line_105 rfl (by omega) (v := nI (rk x.1)) ((ho91 x hxm).2.2) ?_
            refine hG.callV dX4_line_106 kv_X4_188 (Rcv.raw mdL_m cl_X4) (sp_X4_nextGroup (N := N) (R := F.rv) (V := V91) (rk := rk) (cm := cm) hΓ hA hR91 hW.1 hs (b := rk x.1) (by omega) (by omega) ho91) rfl rfl (Nat.le_of_ble_eq_true rfl) (by decide) (by omega) (by omega) (fun r106 I106 L106 hI106 h106 => ?_) (fun _ _ _ _ _ h => h.elim)
            obtain ⟨r2, rfl, hNx2, rfl, rfl⟩ := h106
            refine hG.istore_n dX4_line_109 (by decide) ?_
            refine hG.goto (tgt := 31) dX4_line_110 rfl ?_
            refine hG.lsb [(0, .ref m), (1, .int (nI s)), (2, .int r2)] ⟨rfl, rfl, rfl, trivial⟩ (ih (j + 1) (rk x.1) r2 (linE s acc x) f91 d91 V91 hV91 (by omega) (by omega) ?_ hNx2 hq1 hq2 ?_ (by have := lin_len (s := s) (a := acc) (x := x); omega))
            · rw [hlx, ← hacc]
            · rw [lin_1 hxs hac]
              unfold entT
              rw [show x.2.toNatClampNeg = n9 from by rw [hx29, nI_clamp (by omega)]]
              simp only [List.nil_append, List.append_assoc] at hL91 ⊢
              exact hL91
    refine hG.aload_n dX4_line_19 rfl ?_
    refine hG.iconst (v := 0) dX4_line_20 rfl ?_
    refine hG.put dX4_line_21 fp_X4_181_X4 mdL_m rfl rfl (Nat.le_of_ble_eq_true rfl) ?_
    refine hG.mp_ld ?_
    obtain ⟨V2, hV2⟩ : ∃ V2, V2 = V1.wLd 0 := ⟨_, rfl⟩
    rw [← hV2]
    have hV2 : V2 = VL V1 V1.ln 0 := hV2.trans vl_0
    have hR2 : Rep N F.rv V2.nw := by rw [hV2, vl_nw]; exact hM1.1
    have ho2 : ∀ x ∈ F.rv.wa, 0 < rk x.1 ∧ rk x.1 ≤ cm ∧ V2.nw (211 + x.1) = nI (rk x.1) := by rw [hV2, vl_nw]; exact ho
    refine hG.aload_n dX4_line_24 rfl ?_
    refine hG.iload_n dX4_line_25 rfl ?_
    refine hG.iconst (v := 0) dX4_line_26 rfl ?_
    refine hG.callV dX4_line_27 kv_X4_188 (Rcv.raw mdL_m cl_X4) (sp_X4_nextGroup (N := N) (R := F.rv) (V := V2) (rk := rk) (cm := cm) hΓ hA hR2 hW.1 hs (b := 0) (by omega) (by omega) ho2) rfl rfl (Nat.le_of_ble_eq_true rfl) (by decide) (by omega) (by omega) (fun r27 I27 L27 hI27 h27 => ?_) (fun _ _ _ _ _ h => h.elim)
    obtain ⟨r0, rfl, hNx0, rfl, rfl⟩ := h27
    refine hG.istore_n dX4_line_30 (by decide) ?_
    exact hG.lsb [(0, .ref m), (1, .int (nI s)), (2, .int r0)] ⟨rfl, rfl, rfl, trivial⟩ (loop (F.rv.wa.length + 1) 0 0 r0 [] V1.ln 0 V2 hV2 (by omega) (by omega) rfl hNx0 (fun q x hq => absurd hq (by omega)) (fun q x _ hx => (ho x (List.mem_of_getElem? hx)).1) ⟨rfl, fun i c hc => by simp at hc⟩ (by simp))
  · rw [show linF F n = (F, 1, 0) from if_neg (bFT (b2i_0 c_10))] at hG
    refine hG.aload_n dX4_line_13 rfl ?_
    refine hG.iconst (v := 1) dX4_line_14 rfl ?_
    refine hG.callV dX4_line_15 kv_X4_77 (Rcv.raw mdL_m cl_X4) (sp_X4_raises hΓ) rfl rfl (Nat.le_of_ble_eq_true rfl) (by decide) (by omega) (by omega) (fun r15 I15 L15 hI15 h15 => ?_) (fun _ _ _ _ _ h => h.elim)
    obtain ⟨rfl, rfl, rfl⟩ := h15
    refine hG.iret dX4_line_18 rfl ?_ (by omega) (by omega) trivial
    exact pMq.mk (hM1.eqv ⟨rfl, rfl, rfl, rfl, rfl⟩ mv_nw_wTh mv_kp_wTh mv_un_wTh mv_le_wTh mv_tx_wTh mv_ld_wTh mv_ln_wTh (mv_fa_wTh.trans hM1.efa) (mv_re_wTh.trans hM1.ere) (mv_de_wTh.trans hM1.ede) mv_is_wTh mv_sv_wTh) mv_th_wTh (fun e => absurd (show (1 : Int32) = 0 from e) (by decide))
