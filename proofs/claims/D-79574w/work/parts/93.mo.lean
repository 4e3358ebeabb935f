/-! the model splits: its code -/
theorem set_same {l : List T3} {a : Nat} {x : T3} (h : l[a]? = some x) : l.set a x = l := by
  apply List.ext_getElem?
  intro k
  by_cases e : a = k
  · subst e
    rw [List.getElem?_set_self (List.getElem?_eq_some_iff.mp h).1, h]
  · rw [List.getElem?_set_ne e]
theorem kv_X4_102 : LkV RX4 102 yX4_renumbers 2 := ⟨q3374, q3376, qs40, q87, by decide +kernel, by decide +kernel, by decide +kernel⟩
set_option maxHeartbeats 4000000 in
set_option maxRecDepth 100000 in
theorem sp_X4_split {l : Launch} {s0 : State} {D : va_G} {I : AI} {L : AL} {m : Nat} {A : MA} {V : MV} {N : Nat} {F : Fy} (hΓ : Gam l s0 D) (hA : MOk m A) (hM : Mr N F V) (hW : WfF N F) {n w : Int32} : Spc l s0 D yX4_split 9 [.ref m, .int n, .int w] I (mdL L m A V) 0 0 (pMo N I L m A F (fun _ => 1) 2 (splO F.rv n w)) noX := by
  refine Spc.of hΓ cX4_split 6 (some FieldType.int) q3369 (by decide +kernel) (by decide) (Nat.le_of_ble_eq_true rfl) (fun G GX hG => ?_)
  refine hG.aload_n dX4_split_0 rfl ?_
  refine hG.callV dX4_split_1 kv_X4_84 (Rcv.raw mdL_m cl_X4) (sp_X4_tries hΓ hA) rfl rfl (Nat.le_of_ble_eq_true rfl) (by decide) (by omega) (by omega) (fun r1 I1 L1 hI1 h1 => ?_) (fun _ _ _ _ _ h => h.elim)
  obtain ⟨rfl, rfl, t, ht, rfl⟩ := h1
  have hT : Rep N F.rv t := hM.1.cg hW.1 ht
  have hM1 : Mr N F ((V.wTh 0).wTr t) := hM.eqv ⟨rfl, rfl, rfl, rfl, rfl⟩ (mv_nw_wTr.trans mv_nw_wTh) (mv_kp_wTr.trans mv_kp_wTh) (mv_un_wTr.trans mv_un_wTh) (mv_le_wTr.trans mv_le_wTh) (mv_tx_wTr.trans mv_tx_wTh) (mv_ld_wTr.trans mv_ld_wTh) (mv_ln_wTr.trans mv_ln_wTh) (mv_fa_wTr.trans (mv_fa_wTh.trans hM.efa)) (mv_re_wTr.trans (mv_re_wTh.trans hM.ere)) (mv_de_wTr.trans (mv_de_wTh.trans hM.ede)) (mv_is_wTr.trans mv_is_wTh) (mv_sv_wTr.trans mv_sv_wTh)
  have hth : ((V.wTh 0).wTr t).th = 0 := mv_th_wTr.trans mv_th_wTh
  have htr : ((V.wTh 0).wTr t).tr = t := mv_tr_wTr
  generalize (V.wTh 0).wTr t = V1 at hM1 hth htr ⊢
  have hl6 := hW.1.ch6
  have ha6 := hW.1.an6
  refine hG.aload_n dX4_split_4 rfl ?_
  refine hG.iload_n dX4_split_5 rfl ?_
  refine hG.callV dX4_split_6 kv_X4_98 (Rcv.raw mdL_m cl_X4) (sp_X4_isChannel (N := N) (R := F.rv) (V := V1) hΓ hA hM1.1 hW.1) rfl rfl (Nat.le_of_ble_eq_true rfl) (by decide) (by omega) (by omega) (fun r6 I6 L6 hI6 h6 => ?_) (fun _ _ _ _ _ h => h.elim)
  obtain ⟨rfl, rfl, rfl⟩ := h6
  refine hG.if_ne (tgt := 18) dX4_split_9 rfl (fun c_9 => ?_) (fun c_9 => ?_)
  · obtain ⟨i, hi, rfl⟩ := idx_of (by omega) (b2i_1 c_9)
    obtain ⟨c, hc, -⟩ := get_lt hi
    have ho := spl_b (w := w) (by omega) (b2i_1 c_9) hc
    refine hG.aload_n dX4_split_18 rfl ?_
    refine hG.get dX4_split_19 fg_X4_21_X4 (Or.inl mdL_m) rfl ?_
    refine hG.iconst (v := 0) dX4_split_22 rfl ?_
    refine hG.nld hA (0) dX4_split_23 rfl (by omega) (v := nI F.rv.ch.length) (hM1.1.k0) ?_
    refine hG.bipush (v := 6) dX4_split_24 rfl ?_
    refine hG.icmp_ne (tgt := 42) dX4_split_26 rfl (fun c_26 => ?_) (fun c_26 => ?_)
    · have hl5 : F.rv.ch.length ≤ 5 := Nat.le_of_lt_succ (Nat.lt_of_le_of_ne hl6 (fun e => c_26 (by rw [e]; rfl)))
      rw [if_pos (show F.rv.ch.length < 6 by omega)] at ho
      refine hG.bipush (v := 13) dX4_split_42 rfl ?_
      refine hG.iconst (v := 3) dX4_split_44 rfl ?_
      refine hG.iload_n dX4_split_45 rfl ?_
      refine hG.imul dX4_split_46 ?_
      refine hG.iadd dX4_split_47 ?_
      rw [show (13 : Int32) + 3 * nI i = nI (13 + 3 * i) from ix3 13 i]
      refine hG.istore_n dX4_split_48 (by decide) ?_
      refine hG.iload_n dX4_split_49 rfl ?_
      refine hG.bipush (v := 10) dX4_split_50 rfl ?_
      refine hG.bipush (v := 99) dX4_split_52 rfl ?_
      refine hG.callS dX4_split_54 ks_X4_80 (sp_X4_in hΓ) rfl rfl (Nat.le_of_ble_eq_true rfl) (by decide) (by omega) (by omega) (fun r54 I54 L54 hI54 h54 => ?_) (fun _ _ _ _ _ h => h.elim)
      obtain ⟨rfl, rfl, rfl⟩ := h54
      refine hG.if_ne (tgt := 72) dX4_split_57 rfl (fun c_57 => ?_) (fun c_57 => ?_)
      · rw [if_pos (b2i_1 c_57)] at ho
        refine hG.aload_n dX4_split_72 rfl ?_
        refine hG.get dX4_split_73 fg_X4_21_X4 (Or.inl mdL_m) rfl ?_
        refine hG.iload_n dX4_split_76 rfl ?_
        refine hG.nld hA (13 + 3 * i) dX4_split_77 rfl (by omega) (v := c.1) ((hM1.1.c hc).1) ?_
        refine hG.iload_n dX4_split_78 rfl ?_
        refine hG.isub dX4_split_79 ?_
        refine hG.istore dX4_split_80 (by decide) ?_
        refine hG.iload dX4_split_82 rfl ?_
        refine hG.bipush (v := 10) dX4_split_84 rfl ?_
        refine hG.bipush (v := 99) dX4_split_86 rfl ?_
        refine hG.callS dX4_split_88 ks_X4_80 (sp_X4_in hΓ) rfl rfl (Nat.le_of_ble_eq_true rfl) (by decide) (by omega) (by omega) (fun r88 I88 L88 hI88 h88 => ?_) (fun _ _ _ _ _ h => h.elim)
        obtain ⟨rfl, rfl, rfl⟩ := h88
        refine hG.if_ne (tgt := 107) dX4_split_91 rfl (fun c_91 => ?_) (fun c_91 => ?_)
        · rw [if_pos (b2i_1 c_91)] at ho
          refine hG.bipush (v := 13) dX4_split_107 rfl ?_
          refine hG.iconst (v := 3) dX4_split_109 rfl ?_
          refine hG.aload_n dX4_split_110 rfl ?_
          refine hG.get dX4_split_111 fg_X4_21_X4 (Or.inl mdL_m) rfl ?_
          refine hG.iconst (v := 0) dX4_split_114 rfl ?_
          refine hG.nld hA (0) dX4_split_115 rfl (by omega) (v := nI F.rv.ch.length) (hM1.1.k0) ?_
          refine hG.imul dX4_split_116 ?_
          refine hG.iadd dX4_split_117 ?_
          rw [show (13 : Int32) + 3 * nI F.rv.ch.length = nI (13 + 3 * F.rv.ch.length) from ix3 13 _]
          refine hG.iconst (v := 2) dX4_split_118 rfl ?_
          refine hG.iadd dX4_split_119 ?_
          rw [show nI (13 + 3 * F.rv.ch.length) + 2 = nI (13 + 3 * F.rv.ch.length + 2) from ix1 _ 2]
          refine hG.istore dX4_split_120 (by decide) ?_
          have k251 : ∀ (n1 n2 n3 : Nat → Int32), SpC1 F.rv i c w V1.nw n1 → RpE 46 (F.rv.an.map (aSp (nI i))) n2 → (∀ q, (q < 46 ∨ 64 ≤ q) → n2 q = n1 q) → n3 4 = F.rv.st + b2i (!decide (F.rv.st ≤ nI i)) → (∀ q, q ≠ 4 → n3 q = n2 q) → G 251 [(0, .ref m), (1, .int (nI i)), (2, .int w), (3, .int (nI (13 + 3 * i))), (4, .int (c.1 - w))] [] I (mdL L m A (V1.wNw n3)) 0 0 := by
            intro n1 n2 n3 h1 h2 h2o h3 h3o
            refine hG.aload_n dX4_split_251 rfl ?_
            refine hG.bipush (v := 64) dX4_split_252 rfl ?_
            refine hG.iload_n dX4_split_254 rfl ?_
            refine hG.callV dX4_split_255 kv_X4_102 (Rcv.raw mdL_m cl_X4) (sp_X4_renumbers (row := 64) (j := i) (V := V1.wNw n3) hΓ hA (by decide) (by omega)) rfl rfl (Nat.le_of_ble_eq_true rfl) (by decide) (by omega) (by omega) (fun r255 I255 L255 hI255 h255 => ?_) (fun _ _ _ _ _ h => h.elim)
            obtain ⟨rfl, rfl, mv255, n4, hr255, rfl⟩ := h255
            rw [wmn_a]
            rw [nw_w] at hr255
            refine hG.aload_n dX4_split_258 rfl ?_
            refine hG.sipush (v := 211) dX4_split_259 rfl ?_
            refine hG.iload_n dX4_split_262 rfl ?_
            refine hG.callV dX4_split_263 kv_X4_102 (Rcv.raw mdL_m cl_X4) (sp_X4_renumbers (row := 211) (j := i) (V := (V1.wMv mv255).wNw n4) hΓ hA (by decide) (by omega)) rfl rfl (Nat.le_of_ble_eq_true rfl) (by decide) (by omega) (by omega) (fun r263 I263 L263 hI263 h263 => ?_) (fun _ _ _ _ _ h => h.elim)
            obtain ⟨rfl, rfl, mv263, n5, hr263, rfl⟩ := h263
            rw [wmn_b]
            rw [nw_w] at hr263
            refine hG.aload_n dX4_split_266 rfl ?_
            refine hG.sipush (v := 358) dX4_split_267 rfl ?_
            refine hG.iload_n dX4_split_270 rfl ?_
            refine hG.callV dX4_split_271 kv_X4_102 (Rcv.raw mdL_m cl_X4) (sp_X4_renumbers (row := 358) (j := i) (V := (V1.wMv mv263).wNw n5) hΓ hA (by decide) (by omega)) rfl rfl (Nat.le_of_ble_eq_true rfl) (by decide) (by omega) (by omega) (fun r271 I271 L271 hI271 h271 => ?_) (fun _ _ _ _ _ h => h.elim)
            obtain ⟨rfl, rfl, mv271, n6, hr271, rfl⟩ := h271
            rw [wmn_b]
            rw [nw_w] at hr271
            refine hG.aload_n dX4_split_274 rfl ?_
            refine hG.sipush (v := 505) dX4_split_275 rfl ?_
            refine hG.iload_n dX4_split_278 rfl ?_
            refine hG.callV dX4_split_279 kv_X4_102 (Rcv.raw mdL_m cl_X4) (sp_X4_renumbers (row := 505) (j := i) (V := (V1.wMv mv271).wNw n6) hΓ hA (by decide) (by omega)) rfl rfl (Nat.le_of_ble_eq_true rfl) (by decide) (by omega) (by omega) (fun r279 I279 L279 hI279 h279 => ?_) (fun _ _ _ _ _ h => h.elim)
            obtain ⟨rfl, rfl, mv279, n7, hr279, rfl⟩ := h279
            rw [wmn_b]
            rw [nw_w] at hr279
            refine hG.aload_n dX4_split_282 rfl ?_
            refine hG.iload dX4_split_283 rfl ?_
            refine hG.callV dX4_split_285 kv_X4_73 (Rcv.raw mdL_m cl_X4) (sp_X4_keeps (N := N) (past := F.pa) (P0 := F.rv) (V := (V1.wMv _).wNw _) hΓ hA (by rw [wmn_f.1]; exact hM1.2.1) (by rw [wmn_f.2.1]; exact hM1.2.2.1) hW.2.2.1 hW.2.1 (by rw [wmn_f.2.2, htr]; exact hT) hW.1) rfl rfl (Nat.le_of_ble_eq_true rfl) (by decide) (by omega) (by omega) (fun r285 I285 L285 hI285 h285 => ?_) (fun _ _ _ _ _ h => h.elim)
            obtain ⟨rfl, rfl, kp, hkp, rfl⟩ := h285
            refine hG.iret dX4_split_288 rfl ?_ (by omega) (by omega) trivial
            exact pMo.d ho (Mr.don3 hM1 ((Rep.spl hM1.1 hW.1 hc hl5 h1 h2 h2o h3 h3o hr255 hr263 hr271 hr279).mono (Nat.le_succ N)) (hkp.mono (Nat.le_succ N))) ((mv_th_wUn.trans (mv_th_wKp.trans (mv_th_wNw.trans (mv_th_wMv.trans hth)))))
          have lpA : ∀ (n1 : Nat → Int32), SpC1 F.rv i c w V1.nw n1 → ∀ (u a : Nat) (n : Nat → Int32), a + u = F.rv.an.length → RpE 46 (mpK (aSp (nI i)) F.rv.an a) n → (∀ q, (q < 46 ∨ 64 ≤ q) → n q = n1 q) → G 182 [(0, .ref m), (1, .int (nI i)), (2, .int w), (3, .int (nI (13 + 3 * i))), (4, .int (c.1 - w)), (5, .int (nI a))] [] I (mdL L m A (V1.wNw n)) 0 0 := by
            intro n1 h1 u
            induction u with
            | zero =>
              intro a n hau hE ho2
              have hae : a = F.rv.an.length := by omega
              subst hae
              have hk2 : n 2 = nI F.rv.an.length := (ho2 2 (by decide)).trans ((h1.2.2 2 (by decide) (by decide)).trans hM1.1.k2)
              have hst : n 4 = F.rv.st := (ho2 4 (by decide)).trans ((h1.2.2 4 (by decide) (by decide)).trans hM1.1.k4)
              rw [mpK_end (Nat.le_refl _)] at hE
              refine hG.iload dX4_split_182 rfl ?_
              refine hG.aload_n dX4_split_184 rfl ?_
              refine hG.get dX4_split_185 fg_X4_21_X4 (Or.inl mdL_m) rfl ?_
              refine hG.iconst (v := 2) dX4_split_188 rfl ?_
              refine hG.nld hA (2) dX4_split_189 rfl (by omega) (v := nI F.rv.an.length) (hk2) ?_
              refine hG.icmp_ge (tgt := 231) dX4_split_190 rfl (fun c_190 => ?_) (fun c_190 => absurd (nI_le (by omega) (by omega)) c_190)
              refine hG.aload_n dX4_split_231 rfl ?_
              refine hG.get dX4_split_232 fg_X4_21_X4 (Or.inl mdL_m) rfl ?_
              refine hG.iconst (v := 4) dX4_split_235 rfl ?_
              refine hG.nld hA (4) dX4_split_236 rfl (by omega) (v := F.rv.st) (hst) ?_
              refine hG.iload_n dX4_split_237 rfl ?_
              refine hG.icmp_le (tgt := 251) dX4_split_238 rfl (fun c_238 => ?_) (fun c_238 => ?_)
              · refine hG.lsb [(0, .ref m), (1, .int (nI i)), (2, .int w), (3, .int (nI (13 + 3 * i))), (4, .int (c.1 - w))] ⟨rfl, rfl, rfl, rfl, rfl, trivial⟩ (k251 n1 n n h1 hE ho2 ?_ (fun _ _ => rfl))
                rw [hst, decide_eq_true c_238]
                exact (Int32.add_zero _).symm
              · refine hG.aload_n dX4_split_241 rfl ?_
                refine hG.get dX4_split_242 fg_X4_21_X4 (Or.inl mdL_m) rfl ?_
                refine hG.iconst (v := 4) dX4_split_245 rfl ?_
                refine hG.dup2 dX4_split_246 rfl rfl ?_
                refine hG.nld hA (4) dX4_split_247 rfl (by omega) (v := F.rv.st) (hst) ?_
                refine hG.iconst (v := 1) dX4_split_248 rfl ?_
                refine hG.iadd dX4_split_249 ?_
                refine hG.nst hA (4) dX4_split_250 rfl (by omega) ?_
                rw [wNN, nw_w]
                refine hG.lsb [(0, .ref m), (1, .int (nI i)), (2, .int w), (3, .int (nI (13 + 3 * i))), (4, .int (c.1 - w))] ⟨rfl, rfl, rfl, rfl, rfl, trivial⟩ (k251 n1 n _ h1 hE ho2 ?_ (fun q hq => va_ne hq))
                rw [va_eq rfl, decide_eq_false c_238]
                rfl
            | succ u ih =>
              intro a n hau hE ho2
              have hk2 : n 2 = nI F.rv.an.length := (ho2 2 (by decide)).trans ((h1.2.2 2 (by decide) (by decide)).trans hM1.1.k2)
              obtain ⟨x, hx, -⟩ := get_lt (show a < F.rv.an.length by omega)
              have hg := mpK_at (f := aSp (nI i)) hx
              obtain ⟨y1, y2, y3⟩ := hE a x hg
              refine hG.iload dX4_split_182 rfl ?_
              refine hG.aload_n dX4_split_184 rfl ?_
              refine hG.get dX4_split_185 fg_X4_21_X4 (Or.inl mdL_m) rfl ?_
              refine hG.iconst (v := 2) dX4_split_188 rfl ?_
              refine hG.nld hA (2) dX4_split_189 rfl (by omega) (v := nI F.rv.an.length) (hk2) ?_
              refine hG.icmp_ge (tgt := 231) dX4_split_190 rfl (fun c_190 => absurd c_190 (nI_ge (by omega) (by omega))) (fun c_190 => ?_)
              refine hG.aload_n dX4_split_193 rfl ?_
              refine hG.get dX4_split_194 fg_X4_21_X4 (Or.inl mdL_m) rfl ?_
              refine hG.bipush (v := 46) dX4_split_197 rfl ?_
              refine hG.iconst (v := 3) dX4_split_199 rfl ?_
              refine hG.iload dX4_split_200 rfl ?_
              refine hG.imul dX4_split_202 ?_
              refine hG.iadd dX4_split_203 ?_
              refine hG.nld hA (46 + 3 * a) dX4_split_204 (ix3 46 a) (by omega) (v := x.1) (y1) ?_
              refine hG.iload_n dX4_split_205 rfl ?_
              refine hG.icmp_le (tgt := 225) dX4_split_206 rfl (fun c_206 => ?_) (fun c_206 => ?_)
              · refine hG.iinc dX4_split_225 rfl (by decide) ?_
                refine hG.goto (tgt := 182) dX4_split_228 rfl ?_
                refine hG.lsb [(0, .ref m), (1, .int (nI i)), (2, .int w), (3, .int (nI (13 + 3 * i))), (4, .int (c.1 - w)), (5, .int (nI a + Int32.ofInt 1))] ⟨rfl, rfl, rfl, rfl, rfl, rfl, trivial⟩ ?_
                rw [show nI a + Int32.ofInt 1 = nI (a + 1) from nI_add a 1]
                have e9 : mpK (aSp (nI i)) F.rv.an (a + 1) = mpK (aSp (nI i)) F.rv.an a := by
                  rw [← mpK_set hx, show aSp (nI i) x = x by unfold aSp; rw [if_pos c_206]]
                  exact set_same hg
                exact ih (a + 1) n (by omega) (by rw [e9]; exact hE) ho2
              · refine hG.aload_n dX4_split_209 rfl ?_
                refine hG.get dX4_split_210 fg_X4_21_X4 (Or.inl mdL_m) rfl ?_
                refine hG.bipush (v := 46) dX4_split_213 rfl ?_
                refine hG.iconst (v := 3) dX4_split_215 rfl ?_
                refine hG.iload dX4_split_216 rfl ?_
                refine hG.imul dX4_split_218 ?_
                refine hG.iadd dX4_split_219 ?_
                refine hG.dup2 dX4_split_220 rfl rfl ?_
                refine hG.nld hA (46 + 3 * a) dX4_split_221 (ix3 46 a) (by omega) (v := x.1) (y1) ?_
                refine hG.iconst (v := 1) dX4_split_222 rfl ?_
                refine hG.iadd dX4_split_223 ?_
                refine hG.nst hA (46 + 3 * a) dX4_split_224 (ix3 46 a) (by omega) ?_
                rw [wNN, nw_w]
                refine hG.iinc dX4_split_225 rfl (by decide) ?_
                refine hG.goto (tgt := 182) dX4_split_228 rfl ?_
                refine hG.lsb [(0, .ref m), (1, .int (nI i)), (2, .int w), (3, .int (nI (13 + 3 * i))), (4, .int (c.1 - w)), (5, .int (nI a + Int32.ofInt 1))] ⟨rfl, rfl, rfl, rfl, rfl, rfl, trivial⟩ ?_
                rw [show nI a + Int32.ofInt 1 = nI (a + 1) from nI_add a 1]
                refine ih (a + 1) _ (by omega) ?_ (fun q hq => (va_ne (by omega)).trans (ho2 q hq))
                rw [← mpK_set hx]
                exact hE.set (fun k hk => va_ne (by omega)) ((va_eq rfl).trans (show x.1 + 1 = (if x.1 ≤ nI i then x.1 else x.1 + 1) from (if_neg c_206).symm)) ((va_ne (by omega)).trans y2) ((va_ne (by omega)).trans y3)
          have lpC : ∀ (u q : Nat) (n : Nat → Int32), q = 13 + 3 * i + 2 + u → q ≤ 13 + 3 * F.rv.ch.length + 2 → ChI F.rv.ch.length V1.nw n q → G 122 [(0, .ref m), (1, .int (nI i)), (2, .int w), (3, .int (nI (13 + 3 * i))), (4, .int (c.1 - w)), (5, .int (nI q))] [] I (mdL L m A (V1.wNw n)) 0 0 := by
            intro u
            induction u with
            | zero =>
              intro q n hq hql hI
              have hqe : q = 13 + 3 * i + 2 := by omega
              subst hqe
              have hn0 : n 0 = nI F.rv.ch.length := (hI.1 0 (by omega)).trans hM1.1.k0
              refine hG.iload dX4_split_122 rfl ?_
              refine hG.iload_n dX4_split_124 rfl ?_
              refine hG.iconst (v := 2) dX4_split_125 rfl ?_
              refine hG.iadd dX4_split_126 ?_
              rw [show nI (13 + 3 * i) + 2 = nI (13 + 3 * i + 2) from ix1 _ 2]
              refine hG.icmp_le (tgt := 152) dX4_split_127 rfl (fun c_127 => ?_) (fun c_127 => absurd (nI_le (by omega) (by omega)) c_127)
              refine hG.aload_n dX4_split_152 rfl ?_
              refine hG.get dX4_split_153 fg_X4_21_X4 (Or.inl mdL_m) rfl ?_
              refine hG.iconst (v := 0) dX4_split_156 rfl ?_
              refine hG.dup2 dX4_split_157 rfl rfl ?_
              refine hG.nld hA (0) dX4_split_158 rfl (by omega) (v := nI F.rv.ch.length) (hn0) ?_
              refine hG.iconst (v := 1) dX4_split_159 rfl ?_
              refine hG.iadd dX4_split_160 ?_
              rw [nI_1]
              refine hG.nst hA (0) dX4_split_161 rfl (by omega) ?_
              rw [wNN, nw_w]
              refine hG.aload_n dX4_split_162 rfl ?_
              refine hG.get dX4_split_163 fg_X4_21_X4 (Or.inl mdL_m) rfl ?_
              refine hG.iload_n dX4_split_166 rfl ?_
              refine hG.iload_n dX4_split_167 rfl ?_
              refine hG.nst hA (13 + 3 * i) dX4_split_168 rfl (by omega) ?_
              rw [wNN, nw_w]
              refine hG.aload_n dX4_split_169 rfl ?_
              refine hG.get dX4_split_170 fg_X4_21_X4 (Or.inl mdL_m) rfl ?_
              refine hG.iload_n dX4_split_173 rfl ?_
              refine hG.iconst (v := 3) dX4_split_174 rfl ?_
              refine hG.iadd dX4_split_175 ?_
              rw [show nI (13 + 3 * i) + 3 = nI (13 + 3 * i + 3) from ix1 _ 3]
              refine hG.iload dX4_split_176 rfl ?_
              refine hG.nst hA (13 + 3 * i + 3) dX4_split_178 rfl (by omega) ?_
              rw [wNN, nw_w]
              refine hG.iconst (v := 0) dX4_split_179 rfl ?_
              refine hG.istore dX4_split_180 (by decide) ?_
              have h1 := SpC1.mk (w := w) hc hl5 hM1.1.cE hI
              exact hG.lsb [(0, .ref m), (1, .int (nI i)), (2, .int w), (3, .int (nI (13 + 3 * i))), (4, .int (c.1 - w)), (5, .int (nI 0))] ⟨rfl, rfl, rfl, rfl, rfl, rfl, trivial⟩ (lpA _ h1 F.rv.an.length 0 _ (by omega) (hM1.1.aE.cg (m := 6) ha6 (fun k a b => h1.2.2 k (by omega) (by omega))) (fun _ _ => rfl))
            | succ u ih =>
              intro q0 n hq hql hI
              obtain ⟨q, rfl⟩ : ∃ q, q0 = q + 1 := ⟨q0 - 1, by omega⟩
              refine hG.iload dX4_split_122 rfl ?_
              refine hG.iload_n dX4_split_124 rfl ?_
              refine hG.iconst (v := 2) dX4_split_125 rfl ?_
              refine hG.iadd dX4_split_126 ?_
              rw [show nI (13 + 3 * i) + 2 = nI (13 + 3 * i + 2) from ix1 _ 2]
              refine hG.icmp_le (tgt := 152) dX4_split_127 rfl (fun c_127 => absurd c_127 (nI_ge (by omega) (by omega))) (fun c_127 => ?_)
              refine hG.aload_n dX4_split_130 rfl ?_
              refine hG.get dX4_split_131 fg_X4_21_X4 (Or.inl mdL_m) rfl ?_
              refine hG.iload dX4_split_134 rfl ?_
              refine hG.aload_n dX4_split_136 rfl ?_
              refine hG.get dX4_split_137 fg_X4_21_X4 (Or.inl mdL_m) rfl ?_
              refine hG.iload dX4_split_140 rfl ?_
              refine hG.iconst (v := 3) dX4_split_142 rfl ?_
              refine hG.isub dX4_split_143 ?_
              rw [show nI (q + 1) - 3 = nI (q + 1 - 3) from pk_sub (show 3 ≤ q + 1 by omega)]
              refine hG.nld hA (q + 1 - 3) dX4_split_144 rfl (by omega) (v := V1.nw (q + 1 - 3)) (hI.1 _ (by omega)) ?_
              refine hG.nst hA (q + 1) dX4_split_145 rfl (by omega) ?_
              rw [wNN, nw_w]
              refine hG.iinc dX4_split_146 rfl (by decide) ?_
              refine hG.goto (tgt := 122) dX4_split_149 rfl ?_
              refine hG.lsb [(0, .ref m), (1, .int (nI i)), (2, .int w), (3, .int (nI (13 + 3 * i))), (4, .int (c.1 - w)), (5, .int (nI (q + 1) + Int32.ofInt (-1)))] ⟨rfl, rfl, rfl, rfl, rfl, rfl, trivial⟩ ?_
              rw [show nI (q + 1) + Int32.ofInt (-1) = nI q from pk_m1 q]
              exact ih q _ (by omega) (by omega) (hI.next (by omega) (by omega))
          have hb : V1 = V1.wNw V1.nw := rfl
          rw [hb]
          exact hG.lsb [(0, .ref m), (1, .int (nI i)), (2, .int w), (3, .int (nI (13 + 3 * i))), (4, .int (c.1 - w)), (5, .int (nI (13 + 3 * F.rv.ch.length + 2)))] ⟨rfl, rfl, rfl, rfl, rfl, rfl, trivial⟩ (lpC (3 * F.rv.ch.length - 3 * i) (13 + 3 * F.rv.ch.length + 2) V1.nw (by omega) (Nat.le_refl _) ⟨fun _ _ => rfl, fun p a b => absurd a (by omega), fun _ _ => rfl⟩)
        · rw [if_neg (bFT (b2i_0 c_91))] at ho
          refine hG.aload_n dX4_split_94 rfl ?_
          refine hG.aload_n dX4_split_95 rfl ?_
          refine hG.iconst (v := 2) dX4_split_96 rfl ?_
          refine hG.iload dX4_split_97 rfl ?_
          refine hG.callV dX4_split_99 kv_X4_87 (Rcv.raw mdL_m cl_X4) (sp_X4_why hΓ) rfl rfl (Nat.le_of_ble_eq_true rfl) (by decide) (by omega) (by omega) (fun r99 I99 L99 hI99 h99 => ?_) (fun _ _ _ _ _ h => h.elim)
          obtain ⟨rfl, rfl, rfl⟩ := h99
          refine hG.iconst (v := 2) dX4_split_102 rfl ?_
          refine hG.callV dX4_split_103 kv_X4_91 (Rcv.raw mdL_m cl_X4) (sp_X4_endsN (c := 2) hΓ (by decide) rfl) rfl rfl (Nat.le_of_ble_eq_true rfl) (by decide) (by omega) (by omega) (fun r103 I103 L103 hI103 h103 => ?_) (fun _ _ _ _ _ h => h.elim)
          obtain ⟨rfl, rfl, rfl⟩ := h103
          refine hG.iret dX4_split_106 rfl ?_ (by omega) (by omega) trivial
          exact pMo.r2 ho hM1.ref2 mv_th_wTh
      · rw [if_neg (bFT (b2i_0 c_57))] at ho
        refine hG.aload_n dX4_split_60 rfl ?_
        refine hG.aload_n dX4_split_61 rfl ?_
        refine hG.iconst (v := 2) dX4_split_62 rfl ?_
        refine hG.iload_n dX4_split_63 rfl ?_
        refine hG.callV dX4_split_64 kv_X4_87 (Rcv.raw mdL_m cl_X4) (sp_X4_why hΓ) rfl rfl (Nat.le_of_ble_eq_true rfl) (by decide) (by omega) (by omega) (fun r64 I64 L64 hI64 h64 => ?_) (fun _ _ _ _ _ h => h.elim)
        obtain ⟨rfl, rfl, rfl⟩ := h64
        refine hG.iconst (v := 2) dX4_split_67 rfl ?_
        refine hG.callV dX4_split_68 kv_X4_91 (Rcv.raw mdL_m cl_X4) (sp_X4_endsN (c := 2) hΓ (by decide) rfl) rfl rfl (Nat.le_of_ble_eq_true rfl) (by decide) (by omega) (by omega) (fun r68 I68 L68 hI68 h68 => ?_) (fun _ _ _ _ _ h => h.elim)
        obtain ⟨rfl, rfl, rfl⟩ := h68
        refine hG.iret dX4_split_71 rfl ?_ (by omega) (by omega) trivial
        exact pMo.r2 ho hM1.ref2 mv_th_wTh
    · rw [if_neg (fun q => absurd ((nI_eq (by omega) (by decide)).mp (show nI F.rv.ch.length = nI 6 from c_26)) (by omega))] at ho
      refine hG.aload_n dX4_split_29 rfl ?_
      refine hG.aload_n dX4_split_30 rfl ?_
      refine hG.iconst (v := 1) dX4_split_31 rfl ?_
      refine hG.bipush (v := 6) dX4_split_32 rfl ?_
      refine hG.callV dX4_split_34 kv_X4_87 (Rcv.raw mdL_m cl_X4) (sp_X4_why hΓ) rfl rfl (Nat.le_of_ble_eq_true rfl) (by decide) (by omega) (by omega) (fun r34 I34 L34 hI34 h34 => ?_) (fun _ _ _ _ _ h => h.elim)
      obtain ⟨rfl, rfl, rfl⟩ := h34
      refine hG.iconst (v := 2) dX4_split_37 rfl ?_
      refine hG.callV dX4_split_38 kv_X4_91 (Rcv.raw mdL_m cl_X4) (sp_X4_endsN (c := 2) hΓ (by decide) rfl) rfl rfl (Nat.le_of_ble_eq_true rfl) (by decide) (by omega) (by omega) (fun r38 I38 L38 hI38 h38 => ?_) (fun _ _ _ _ _ h => h.elim)
      obtain ⟨rfl, rfl, rfl⟩ := h38
      refine hG.iret dX4_split_41 rfl ?_ (by omega) (by omega) trivial
      exact pMo.r2 ho hM1.ref2 mv_th_wTh
  · have ho : splO F.rv n w = .inr (.inl false) := spl_a (b2i_0 c_9)
    refine hG.aload_n dX4_split_12 rfl ?_
    refine hG.iconst (v := 1) dX4_split_13 rfl ?_
    refine hG.callV dX4_split_14 kv_X4_77 (Rcv.raw mdL_m cl_X4) (sp_X4_raises hΓ) rfl rfl (Nat.le_of_ble_eq_true rfl) (by decide) (by omega) (by omega) (fun r14 I14 L14 hI14 h14 => ?_) (fun _ _ _ _ _ h => h.elim)
    obtain ⟨rfl, rfl, rfl⟩ := h14
    refine hG.iret dX4_split_17 rfl ?_ (by omega) (by omega) trivial
    exact pMo.e2 ho ((hM1.mono (Nat.le_succ N)).eqv ⟨rfl, rfl, rfl, rfl, rfl⟩ mv_nw_wTh mv_kp_wTh mv_un_wTh mv_le_wTh mv_tx_wTh mv_ld_wTh mv_ln_wTh (mv_fa_wTh.trans hM1.efa) (mv_re_wTh.trans hM1.ere) (mv_de_wTh.trans hM1.ede) mv_is_wTh mv_sv_wTh) mv_th_wTh
