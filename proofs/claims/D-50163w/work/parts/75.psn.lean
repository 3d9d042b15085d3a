section PSN
variable {E : En_} {σ : As_} {t : Nat} {M : Nat → Nat → Int32}
theorem ct_po {M' : Nat → Nat → Int32} {r : Nat → Int32} {n s : Nat} (hC : Ct_ M r n s) (h : po_ M M') : Ct_ M' r n s := by
  obtain ⟨h1, h2, h3, h4, h5⟩ := hC
  have e1 : M' 1 = M 1 := h 1 (by decide) (by decide)
  refine ⟨by rw [e1]; exact h1, h2, ?_, ?_, ?_⟩
  · unfold Ed_
    rw [e1, h 10 (by decide) (by decide), h 11 (by decide) (by decide), h 12 (by decide) (by decide), h 13 (by decide) (by decide)]
    exact h3
  · rw [e1, h 15 (by decide) (by decide)]
    exact h4
  · rw [e1, h 14 (by decide) (by decide)]
    exact h5
theorem out_sw {M' : Nat → Nat → Int32} {l : List Nat} (h : Out_ M l) (hs : sW_ M M') : Out_ M' l := by
  unfold Out_
  rw [hs 31 (by decide) (by decide), hs 30 (by decide) (by decide)]
  exact h
/-- the text of a loop -/
def pl1_ (r : Nat → Int32) (w : List Nat) (k : Nat) (l : List Nat) : List Nat := (l ++ [47]) ++ lts_ 5 (nmk_ r (w.getD k 0))
noncomputable def plq_ (r : Nat → Int32) (n s i : Nat) : List Nat :=
  ((fo_ (pl1_ r (lpw_ r n s i)) ((lpw_ r n s i).length - 1) 0 (lts_ 5 (nmk_ r (lpe_ r n s i / 12))) ++ [32]) ++ nmo_ (mis_ r n s i)) ++ (if cls_ r n s i = true then [] else [33])
theorem pl_lp {r : Nat → Int32} {n s : Nat} {w : List Nat} {x : Int32} (hW : Wr_ r n s) (hz : ∀ z ∈ w, z < n) (h12w : w.length ≤ 12) (h0 : 0 < w.length) : ∀ (d k : Nat) (l : List Nat) (M : Nat → Nat → Int32), k + d = w.length - 1 → M 1 = r → Rw_ (M 16) w → M 17 0 = nI w.length → Out_ M l → l.length ≤ 7 * (k + 1) →
    ∃ M', R_ E 244 (B_ E 244 2) [some (.ref t), some (.int x), some (.int (nI k))] [] (tw σ t M) = R_ E 244 (B_ E 244 3) [some (.ref t), some (.int x), some (.int (nI (w.length - 1)))] [] (tw σ t M') ∧ Out_ M' (fo_ (pl1_ r w) d k l) ∧ po_ M M' ∧ (fo_ (pl1_ r w) d k l).length ≤ 84 := by
  have h12 := wr_n12 hW
  intro d
  induction d with
  | zero =>
    intro k l M hk hM hw hc h hl
    obtain rfl : k = w.length - 1 := by omega
    have e1 : nI w.length - nI 1 = nI (w.length - 1) := nI_sub (by omega)
    refine ⟨M, ?_, h, po_rfl, by show l.length ≤ 84; omega⟩
    conv => lhs; rw [b244_2]
    simp (disch := omega) only [K244_2, R_cons, go_nx, go_jp, go_rt, go_th, go_ca, go_no, go_ite, rr_v, rr_n, rr_x, hx_n, hx_p, hx_b, I_push, I_pushl, I_fc0, I_fc1, I_dc0, I_null, I_mask, I_iload, I_lload, I_dload, I_fload, I_aload, I_istore, I_lstore, I_dstore, I_fstore, I_astore, I_iinc, I_iadd, I_isub, I_imul, I_iand, I_ior, I_ixor, I_ishl, I_ishr, I_iushr, I_ineg, I_ladd, I_lsub, I_lmul, I_lxor, I_i2l, I_l2i, I_i2b, I_i2c, I_i2f, I_i2d, I_lcmp, I_fdiv, I_ddiv, I_f2d, I_dcmp, I_dup, I_pop, I_dup_x1, I_dup2, I_icne, I_iceq, I_iclt, I_icge, I_icgt, I_icle, I_ifnull, I_ifnonnull, I_ane, I_aeq, I_goto, I_lsw, I_iret, I_lret, I_fret, I_dret, I_vret, I_nret, I_aret, I_iald, I_bald, I_lald, I_aald, I_iast, I_bast, I_last, I_aast, I_alen, I_new, I_val, I_cast, I_inst, I_obj, I_throw, I_mkx, I_getf, I_putf, I_call, I_calli, I_callv, I_acopy, I_clone, I_getc, i_ifeq, i_ifne, i_iflt, i_ifge, i_ifgt, i_ifle, i_idiv, i_irem, i_newa, i_newo, i_abs, i_max, i_min, i_ldiv, en_, es_i, es_r, es_0, es_n, es_l, List.length_cons, List.length_nil, List.cons_append, List.nil_append, Nat.reduceAdd, Nat.reduceSub, List.replicate, lg_, st1_, st2_, cn_, nl_, mk_, pk_, kd_, sl_, la_, ft_a, ft_i, ft_l, ft_o, ft_n, ft_b0, ft_b1, ft_bI, nr_0, nr_1, nr_bI, ro_, no_, if_true, if_false, ite_true, ite_false, reduceIte, Nat.reduceMod, Nat.reduceEqDiff, Nat.zero_add, Nat.add_zero, lk_, tw_t, tw_1, tw_2, tw_3, tw_4, tw_5, tw_6, tw_9, tw_11, tw_12, tw_13, tw_14, tw_15, tw_16, tw_18, tw_19, tw_30, tg_0, tg_1, tg_2, tg_3, tg_4, tg_5, tg_6, tg_7, tg_8, tg_9, tg_10, tg_11, tg_12, tg_13, tg_14, tg_15, tg_16, tg_17, tg_18, tg_19, tg_20, tg_21, tg_22, tg_23, tg_24, tg_25, tg_26, tg_27, tg_28, tg_29, tg_30, tg_31, ts_0, ts_1, ts_2, ts_3, ts_4, ts_5, ts_6, ts_7, ts_8, ts_9, ts_10, ts_11, ts_12, ts_13, ts_14, ts_15, ts_16, ts_17, ts_18, ts_19, ts_20, ts_21, ts_22, ts_23, ts_24, ts_25, ts_26, ts_27, ts_28, ts_29, ts_30, ts_31, lit_, nI_add, nI_mul, ix_nI, hc, e1, nI_leI, Nat.le_refl]
  | succ d ih =>
    intro k l M hk hM hw hc h hl
    have e1 : nI w.length - nI 1 = nI (w.length - 1) := nI_sub (by omega)
    have hlt : ¬ w.length - 1 ≤ k := by omega
    have hkw : k < w.length := by omega
    have gk := Rw_get hw hkw
    have hzk := hz _ (List.getElem_mem hkw)
    have eg : w.getD k 0 = w[k] := by rw [List.getD_eq_getElem?_getD, List.getElem?_eq_getElem hkw]; rfl
    have hnm := nmk_in hW hzk
    have h6 := lts_len 5 (nmk_ r w[k])
    obtain ⟨M1, a1, a2, a3⟩ := T_says (E := E) (σ := σ) (t := t) (c := 47) h (by omega) (by decide)
    have m1 : M1 1 = r := by rw [a3 1 (by decide) (by decide)]; exact hM
    have m16 : M1 16 = M 16 := a3 16 (by decide) (by decide)
    obtain ⟨M2, b1, b2, b3⟩ := T_saysL (E := E) (σ := σ) (t := t) hnm.2.1 a2 (by rw [List.length_append]; simp; omega)
    have hO := T_of (E := E) (σ := σ) (t := t) (M := M1) (a := w[k]) (w := 0) (by omega)
    rw [Nat.add_zero, m1, hnm.1] at hO
    have hp := po_trans a3 b3
    rw [fo_]
    have ep : pl1_ r w k l = (l ++ [47]) ++ lts_ 5 (nmk_ r w[k]) := by unfold pl1_; rw [eg]
    rw [← ep] at b2
    obtain ⟨M3, c1, c2, c3, c4⟩ := ih (k + 1) (pl1_ r w k l) M2 (by omega) (by rw [hp 1 (by decide) (by decide)]; exact hM) (by rw [hp 16 (by decide) (by decide)]; exact hw) (by rw [hp 17 (by decide) (by decide)]; exact hc) b2 (by rw [ep, List.length_append, List.length_append]; simp; omega)
    refine ⟨M3, ?_, c2, po_trans hp c3, c4⟩
    rw [← c1]
    conv => lhs; rw [b244_2]
    simp (disch := omega) only [K244_2, R_cons, go_nx, go_jp, go_rt, go_th, go_ca, go_no, go_ite, rr_v, rr_n, rr_x, hx_n, hx_p, hx_b, I_push, I_pushl, I_fc0, I_fc1, I_dc0, I_null, I_mask, I_iload, I_lload, I_dload, I_fload, I_aload, I_istore, I_lstore, I_dstore, I_fstore, I_astore, I_iinc, I_iadd, I_isub, I_imul, I_iand, I_ior, I_ixor, I_ishl, I_ishr, I_iushr, I_ineg, I_ladd, I_lsub, I_lmul, I_lxor, I_i2l, I_l2i, I_i2b, I_i2c, I_i2f, I_i2d, I_lcmp, I_fdiv, I_ddiv, I_f2d, I_dcmp, I_dup, I_pop, I_dup_x1, I_dup2, I_icne, I_iceq, I_iclt, I_icge, I_icgt, I_icle, I_ifnull, I_ifnonnull, I_ane, I_aeq, I_goto, I_lsw, I_iret, I_lret, I_fret, I_dret, I_vret, I_nret, I_aret, I_iald, I_bald, I_lald, I_aald, I_iast, I_bast, I_last, I_aast, I_alen, I_new, I_val, I_cast, I_inst, I_obj, I_throw, I_mkx, I_getf, I_putf, I_call, I_calli, I_callv, I_acopy, I_clone, I_getc, i_ifeq, i_ifne, i_iflt, i_ifge, i_ifgt, i_ifle, i_idiv, i_irem, i_newa, i_newo, i_abs, i_max, i_min, i_ldiv, en_, es_i, es_r, es_0, es_n, es_l, List.length_cons, List.length_nil, List.cons_append, List.nil_append, Nat.reduceAdd, Nat.reduceSub, List.replicate, lg_, st1_, st2_, cn_, nl_, mk_, pk_, kd_, sl_, la_, ft_a, ft_i, ft_l, ft_o, ft_n, ft_b0, ft_b1, ft_bI, nr_0, nr_1, nr_bI, ro_, no_, if_true, if_false, ite_true, ite_false, reduceIte, Nat.reduceMod, Nat.reduceEqDiff, Nat.zero_add, Nat.add_zero, lk_, tw_t, tw_1, tw_2, tw_3, tw_4, tw_5, tw_6, tw_9, tw_11, tw_12, tw_13, tw_14, tw_15, tw_16, tw_18, tw_19, tw_30, tg_0, tg_1, tg_2, tg_3, tg_4, tg_5, tg_6, tg_7, tg_8, tg_9, tg_10, tg_11, tg_12, tg_13, tg_14, tg_15, tg_16, tg_17, tg_18, tg_19, tg_20, tg_21, tg_22, tg_23, tg_24, tg_25, tg_26, tg_27, tg_28, tg_29, tg_30, tg_31, ts_0, ts_1, ts_2, ts_3, ts_4, ts_5, ts_6, ts_7, ts_8, ts_9, ts_10, ts_11, ts_12, ts_13, ts_14, ts_15, ts_16, ts_17, ts_18, ts_19, ts_20, ts_21, ts_22, ts_23, ts_24, ts_25, ts_26, ts_27, ts_28, ts_29, ts_30, ts_31, lit_, nI_add, nI_mul, ix_nI, fgk_0, fgk_1, fgk_2, fgk_3, fgk_4, fgk_5, fgk_6, fgk_7, fgk_8, fgk_9, fgk_10, fgk_11, fgk_12, fgk_13, fsk_0, fsk_1, fsk_2, fsk_3, fsk_4, fsk_5, fsk_6, fsk_7, fsk_8, fsk_9, fsk_10, fsk_11, fsk_12, fsk_13, ca_i, ca_r, ca_n, Nat.reduceLT, true_or, or_true, if_true, false_or, or_false, hc, e1, nI_leI, hlt, a1, m16, gk, hO, b1, nI_1]
theorem T_printLoop {n s : Nat} {x : Int32} (hW : Wr_ (M 1) n s) (hm : ∀ i, i < (lps_ (M 1) n s).length → okn_ (mis_ (M 1) n s i)) : ∃ M' v, D_ E 244 [.ref t, .int x] (tw σ t M) = some (.inl (some (.int v)), tw σ t M') ∧ M' 0 0 = bI (¬ inN_ x (lps_ (M 1) n s).length) ∧ (∀ i, i ≠ 0 → i ≠ 30 → i ≠ 31 → ¬ (9 ≤ i ∧ i ≤ 18) → M' i = M i) ∧
    (inN_ x (lps_ (M 1) n s).length → v = nI (plq_ (M 1) n s x.toNatClampNeg).length ∧ Out_ M' (plq_ (M 1) n s x.toNatClampNeg)) ∧ (¬ inN_ x (lps_ (M 1) n s).length → M' 30 = M 30 ∧ M' 31 = M 31) := by
  have h12 := wr_n12 hW
  have hle := lps_le (r := M 1) (s := s) h12
  obtain ⟨M1, h1, h2, hC⟩ := T_isLoop (E := E) (σ := σ) (t := t) (M := M) (x := x) hW
  by_cases c : inN_ x (lps_ (M 1) n s).length
  · rw [bI_t c] at h1
    rw [bI_f (fun h => h c)]
    obtain ⟨i, hi, rfl⟩ := inN_nI c
    rw [nI_clamp (by omega)]
    obtain ⟨B, hB⟩ : ∃ B, B = um (um M1 0 (fun _ => nI 0)) 31 (fun _ => nI 0) := ⟨_, rfl⟩
    have hCB : Ct_ B (M 1) n s := by rw [hB]; exact hC
    have hOB : Out_ B [] := by rw [hB]; exact Out_0 rfl
    have hB0 : B 0 0 = nI 0 := by rw [hB]; rfl
    have hBf : ∀ j, j ≠ 0 → j ≠ 30 → j ≠ 31 → ¬ (9 ≤ j ∧ j ≤ 18) → B j = M j := fun j j0 j1 j2 j3 => by
      rw [hB, um_n j2, um_n j0]
      exact h2 j (by omega)
    have hL := lpw_spec hW hi
    obtain ⟨M2, g1, g2, g3, g4⟩ := T_goesLoop (E := E) (σ := σ) (t := t) hCB hi
    have hC2 := ct_sw hCB g2
    have hO2 := out_sw hOB g2
    have hEd := T_loopEdge' (E := E) (σ := σ) (t := t) hC2 hi
    have hpe : lpe_ (M 1) n s i / 12 < n := by omega
    have hnm := nmk_in hW hpe
    have h6 := lts_len 5 (nmk_ (M 1) (lpe_ (M 1) n s i / 12))
    have hO := T_of (E := E) (σ := σ) (t := t) (M := M2) (a := lpe_ (M 1) n s i / 12) (w := 0) (by omega)
    rw [Nat.add_zero, hC2.1, hnm.1] at hO
    obtain ⟨M3, a1, a2, a3⟩ := T_saysL (E := E) (σ := σ) (t := t) hnm.2.1 hO2 (by simp)
    rw [List.nil_append] at a2
    obtain ⟨M4, b1, b2, b3, b4⟩ := pl_lp (E := E) (σ := σ) (t := t) (x := nI i) hW hL.2.2.2.2.1 hL.2.2.2.2.2.2.1 hL.2.2.2.2.2.1 ((lpw_ (M 1) n s i).length - 1) 0 (lts_ 5 (nmk_ (M 1) (lpe_ (M 1) n s i / 12))) M3 (by omega) (by rw [a3 1 (by decide) (by decide)]; exact hC2.1) (by rw [a3 16 (by decide) (by decide)]; exact g3) (by rw [a3 17 (by decide) (by decide)]; exact g4) a2 (by omega)
    have hC4 := ct_po (ct_po hC2 a3) b3
    generalize hL4 : fo_ (pl1_ (M 1) (lpw_ (M 1) n s i)) ((lpw_ (M 1) n s i).length - 1) 0 (lts_ 5 (nmk_ (M 1) (lpe_ (M 1) n s i / 12))) = L4 at b1 b2 b4
    obtain ⟨M5, c1, c2, c3⟩ := T_says (E := E) (σ := σ) (t := t) (c := 32) b2 (by omega) (by decide)
    have hC5 := ct_po hC4 c3
    obtain ⟨M6, d1, d2⟩ := T_misclosure (E := E) (σ := σ) (t := t) hC5 hi
    have hC6 := ct_sw hC5 d2
    have hO6 := out_sw c2 d2
    have hno := nmo_len (v := mis_ (M 1) n s i)
    have l5 : (L4 ++ [32]).length ≤ 85 := by rw [List.length_append]; simp; omega
    obtain ⟨M7, e1, e2, e3⟩ := T_saysN (E := E) (σ := σ) (t := t) (hm i hi) hO6 (by omega)
    have hC7 := ct_po hC6 e3
    obtain ⟨M8, f1, f2⟩ := T_closes (E := E) (σ := σ) (t := t) hC7 hi
    have hO8 := out_sw e2 f2
    have l7 : ((L4 ++ [32]) ++ nmo_ (mis_ (M 1) n s i)).length ≤ 96 := by rw [List.length_append]; omega
    have hfr : ∀ j, j ≠ 30 → j ≠ 31 → ¬ (9 ≤ j ∧ j ≤ 18) → M8 j = B j := fun j j1 j2 j3 => by
      rw [f2 j (by omega) (by omega), e3 j j1 j2, d2 j (by omega) (by omega), c3 j j1 j2, b3 j j1 j2, a3 j j1 j2, g2 j (by omega) (by omega)]
    have start : D_ E 244 [.ref t, .int (nI i)] (tw σ t M) = R_ E 244 (B_ E 244 3) [some (.ref t), some (.int (nI i)), some (.int (nI ((lpw_ (M 1) n s i).length - 1)))] [] (tw σ t M4) := by
      rw [← b1, D_run]
      simp (disch := first | omega | decide) only [b244_0, K244_0, b244_1, K244_1, l244, R_cons, go_nx, go_jp, go_rt, go_th, go_ca, go_no, go_ite, rr_v, rr_n, rr_x, hx_n, hx_p, hx_b, I_push, I_pushl, I_fc0, I_fc1, I_dc0, I_null, I_mask, I_iload, I_lload, I_dload, I_fload, I_aload, I_istore, I_lstore, I_dstore, I_fstore, I_astore, I_iinc, I_iadd, I_isub, I_imul, I_iand, I_ior, I_ixor, I_ishl, I_ishr, I_iushr, I_ineg, I_ladd, I_lsub, I_lmul, I_lxor, I_i2l, I_l2i, I_i2b, I_i2c, I_i2f, I_i2d, I_lcmp, I_fdiv, I_ddiv, I_f2d, I_dcmp, I_dup, I_pop, I_dup_x1, I_dup2, I_icne, I_iceq, I_iclt, I_icge, I_icgt, I_icle, I_ifnull, I_ifnonnull, I_ane, I_aeq, I_goto, I_lsw, I_iret, I_lret, I_fret, I_dret, I_vret, I_nret, I_aret, I_iald, I_bald, I_lald, I_aald, I_iast, I_bast, I_last, I_aast, I_alen, I_new, I_val, I_cast, I_inst, I_obj, I_throw, I_mkx, I_getf, I_putf, I_call, I_calli, I_callv, I_acopy, I_clone, I_getc, i_ifeq, i_ifne, i_iflt, i_ifge, i_ifgt, i_ifle, i_idiv, i_irem, i_newa, i_newo, i_abs, i_max, i_min, i_ldiv, en_, es_i, es_r, es_0, es_n, es_l, List.length_cons, List.length_nil, List.cons_append, List.nil_append, Nat.reduceAdd, Nat.reduceSub, List.replicate, lg_, st1_, st2_, cn_, nl_, mk_, pk_, kd_, sl_, la_, ft_a, ft_i, ft_l, ft_o, ft_n, ft_b0, ft_b1, ft_bI, nr_0, nr_1, nr_bI, ro_, no_, if_true, if_false, ite_true, ite_false, reduceIte, Nat.reduceMod, Nat.reduceEqDiff, Nat.zero_add, Nat.add_zero, lk_, tw_t, tw_1, tw_2, tw_3, tw_4, tw_5, tw_6, tw_9, tw_11, tw_12, tw_13, tw_14, tw_15, tw_16, tw_18, tw_19, tw_30, tg_0, tg_1, tg_2, tg_3, tg_4, tg_5, tg_6, tg_7, tg_8, tg_9, tg_10, tg_11, tg_12, tg_13, tg_14, tg_15, tg_16, tg_17, tg_18, tg_19, tg_20, tg_21, tg_22, tg_23, tg_24, tg_25, tg_26, tg_27, tg_28, tg_29, tg_30, tg_31, ts_0, ts_1, ts_2, ts_3, ts_4, ts_5, ts_6, ts_7, ts_8, ts_9, ts_10, ts_11, ts_12, ts_13, ts_14, ts_15, ts_16, ts_17, ts_18, ts_19, ts_20, ts_21, ts_22, ts_23, ts_24, ts_25, ts_26, ts_27, ts_28, ts_29, ts_30, ts_31, lit_, nI_add, nI_mul, ix_nI, um_s, um_n, um_um, um_co, um_id, id_eq, fgk_0, fgk_1, fgk_2, fgk_3, fgk_4, fgk_5, fgk_6, fgk_7, fgk_8, fgk_9, fgk_10, fgk_11, fgk_12, fgk_13, fsk_0, fsk_1, fsk_2, fsk_3, fsk_4, fsk_5, fsk_6, fsk_7, fsk_8, fsk_9, fsk_10, fsk_11, fsk_12, fsk_13, ca_i, ca_r, ca_n, Nat.reduceLT, true_or, or_true, if_true, false_or, or_false, h1, T_is1, n10_, ← hB, g1, hEd, pk_div, hO, a1]
    have hpq : plq_ (M 1) n s i = ((L4 ++ [32]) ++ nmo_ (mis_ (M 1) n s i)) ++ (if cls_ (M 1) n s i = true then [] else [33]) := by rw [← hL4]; rfl
    rw [hpq, start]
    by_cases cc : cls_ (M 1) n s i = true
    · rw [bI_t cc] at f1
      rw [if_pos cc, List.append_nil]
      refine ⟨M8, _, ?_, by rw [hfr 0 (by decide) (by decide) (by decide)]; exact hB0, fun j j0 j1 j2 j3 => (hfr j j1 j2 j3).trans (hBf j j0 j1 j2 j3), fun _ => ⟨rfl, hO8⟩, fun q => absurd c q⟩
      rw [b244_3]
      simp (disch := omega) only [K244_3, b244_4, K244_4, R_cons, go_nx, go_jp, go_rt, go_th, go_ca, go_no, go_ite, rr_v, rr_n, rr_x, hx_n, hx_p, hx_b, I_push, I_pushl, I_fc0, I_fc1, I_dc0, I_null, I_mask, I_iload, I_lload, I_dload, I_fload, I_aload, I_istore, I_lstore, I_dstore, I_fstore, I_astore, I_iinc, I_iadd, I_isub, I_imul, I_iand, I_ior, I_ixor, I_ishl, I_ishr, I_iushr, I_ineg, I_ladd, I_lsub, I_lmul, I_lxor, I_i2l, I_l2i, I_i2b, I_i2c, I_i2f, I_i2d, I_lcmp, I_fdiv, I_ddiv, I_f2d, I_dcmp, I_dup, I_pop, I_dup_x1, I_dup2, I_icne, I_iceq, I_iclt, I_icge, I_icgt, I_icle, I_ifnull, I_ifnonnull, I_ane, I_aeq, I_goto, I_lsw, I_iret, I_lret, I_fret, I_dret, I_vret, I_nret, I_aret, I_iald, I_bald, I_lald, I_aald, I_iast, I_bast, I_last, I_aast, I_alen, I_new, I_val, I_cast, I_inst, I_obj, I_throw, I_mkx, I_getf, I_putf, I_call, I_calli, I_callv, I_acopy, I_clone, I_getc, i_ifeq, i_ifne, i_iflt, i_ifge, i_ifgt, i_ifle, i_idiv, i_irem, i_newa, i_newo, i_abs, i_max, i_min, i_ldiv, en_, es_i, es_r, es_0, es_n, es_l, List.length_cons, List.length_nil, List.cons_append, List.nil_append, Nat.reduceAdd, Nat.reduceSub, List.replicate, lg_, st1_, st2_, cn_, nl_, mk_, pk_, kd_, sl_, la_, ft_a, ft_i, ft_l, ft_o, ft_n, ft_b0, ft_b1, ft_bI, nr_0, nr_1, nr_bI, ro_, no_, if_true, if_false, ite_true, ite_false, reduceIte, Nat.reduceMod, Nat.reduceEqDiff, Nat.zero_add, Nat.add_zero, lk_, tw_t, tw_1, tw_2, tw_3, tw_4, tw_5, tw_6, tw_9, tw_11, tw_12, tw_13, tw_14, tw_15, tw_16, tw_18, tw_19, tw_30, tg_0, tg_1, tg_2, tg_3, tg_4, tg_5, tg_6, tg_7, tg_8, tg_9, tg_10, tg_11, tg_12, tg_13, tg_14, tg_15, tg_16, tg_17, tg_18, tg_19, tg_20, tg_21, tg_22, tg_23, tg_24, tg_25, tg_26, tg_27, tg_28, tg_29, tg_30, tg_31, ts_0, ts_1, ts_2, ts_3, ts_4, ts_5, ts_6, ts_7, ts_8, ts_9, ts_10, ts_11, ts_12, ts_13, ts_14, ts_15, ts_16, ts_17, ts_18, ts_19, ts_20, ts_21, ts_22, ts_23, ts_24, ts_25, ts_26, ts_27, ts_28, ts_29, ts_30, ts_31, lit_, nI_add, nI_mul, ix_nI, fgk_0, fgk_1, fgk_2, fgk_3, fgk_4, fgk_5, fgk_6, fgk_7, fgk_8, fgk_9, fgk_10, fgk_11, fgk_12, fgk_13, fsk_0, fsk_1, fsk_2, fsk_3, fsk_4, fsk_5, fsk_6, fsk_7, fsk_8, fsk_9, fsk_10, fsk_11, fsk_12, fsk_13, ca_i, ca_r, ca_n, Nat.reduceLT, true_or, or_true, if_true, false_or, or_false, c1, d1, e1, f1, n10_, hO8.1]
    · rw [bI_f cc] at f1
      rw [if_neg cc]
      obtain ⟨M9, k1, k2, k3⟩ := T_says (E := E) (σ := σ) (t := t) (c := 33) hO8 (by omega) (by decide)
      refine ⟨M9, _, ?_, by rw [k3 0 (by decide) (by decide), hfr 0 (by decide) (by decide) (by decide)]; exact hB0, fun j j0 j1 j2 j3 => (k3 j j1 j2).trans ((hfr j j1 j2 j3).trans (hBf j j0 j1 j2 j3)), fun _ => ⟨rfl, k2⟩, fun q => absurd c q⟩
      rw [b244_3]
      simp (disch := omega) only [K244_3, b244_4, K244_4, R_cons, go_nx, go_jp, go_rt, go_th, go_ca, go_no, go_ite, rr_v, rr_n, rr_x, hx_n, hx_p, hx_b, I_push, I_pushl, I_fc0, I_fc1, I_dc0, I_null, I_mask, I_iload, I_lload, I_dload, I_fload, I_aload, I_istore, I_lstore, I_dstore, I_fstore, I_astore, I_iinc, I_iadd, I_isub, I_imul, I_iand, I_ior, I_ixor, I_ishl, I_ishr, I_iushr, I_ineg, I_ladd, I_lsub, I_lmul, I_lxor, I_i2l, I_l2i, I_i2b, I_i2c, I_i2f, I_i2d, I_lcmp, I_fdiv, I_ddiv, I_f2d, I_dcmp, I_dup, I_pop, I_dup_x1, I_dup2, I_icne, I_iceq, I_iclt, I_icge, I_icgt, I_icle, I_ifnull, I_ifnonnull, I_ane, I_aeq, I_goto, I_lsw, I_iret, I_lret, I_fret, I_dret, I_vret, I_nret, I_aret, I_iald, I_bald, I_lald, I_aald, I_iast, I_bast, I_last, I_aast, I_alen, I_new, I_val, I_cast, I_inst, I_obj, I_throw, I_mkx, I_getf, I_putf, I_call, I_calli, I_callv, I_acopy, I_clone, I_getc, i_ifeq, i_ifne, i_iflt, i_ifge, i_ifgt, i_ifle, i_idiv, i_irem, i_newa, i_newo, i_abs, i_max, i_min, i_ldiv, en_, es_i, es_r, es_0, es_n, es_l, List.length_cons, List.length_nil, List.cons_append, List.nil_append, Nat.reduceAdd, Nat.reduceSub, List.replicate, lg_, st1_, st2_, cn_, nl_, mk_, pk_, kd_, sl_, la_, ft_a, ft_i, ft_l, ft_o, ft_n, ft_b0, ft_b1, ft_bI, nr_0, nr_1, nr_bI, ro_, no_, if_true, if_false, ite_true, ite_false, reduceIte, Nat.reduceMod, Nat.reduceEqDiff, Nat.zero_add, Nat.add_zero, lk_, tw_t, tw_1, tw_2, tw_3, tw_4, tw_5, tw_6, tw_9, tw_11, tw_12, tw_13, tw_14, tw_15, tw_16, tw_18, tw_19, tw_30, tg_0, tg_1, tg_2, tg_3, tg_4, tg_5, tg_6, tg_7, tg_8, tg_9, tg_10, tg_11, tg_12, tg_13, tg_14, tg_15, tg_16, tg_17, tg_18, tg_19, tg_20, tg_21, tg_22, tg_23, tg_24, tg_25, tg_26, tg_27, tg_28, tg_29, tg_30, tg_31, ts_0, ts_1, ts_2, ts_3, ts_4, ts_5, ts_6, ts_7, ts_8, ts_9, ts_10, ts_11, ts_12, ts_13, ts_14, ts_15, ts_16, ts_17, ts_18, ts_19, ts_20, ts_21, ts_22, ts_23, ts_24, ts_25, ts_26, ts_27, ts_28, ts_29, ts_30, ts_31, lit_, nI_add, nI_mul, ix_nI, fgk_0, fgk_1, fgk_2, fgk_3, fgk_4, fgk_5, fgk_6, fgk_7, fgk_8, fgk_9, fgk_10, fgk_11, fgk_12, fgk_13, fsk_0, fsk_1, fsk_2, fsk_3, fsk_4, fsk_5, fsk_6, fsk_7, fsk_8, fsk_9, fsk_10, fsk_11, fsk_12, fsk_13, ca_i, ca_r, ca_n, Nat.reduceLT, true_or, or_true, if_true, false_or, or_false, c1, d1, e1, f1, k1, k2.1]
  · rw [bI_f c] at h1
    rw [bI_t c]
    refine ⟨um M1 0 (fun _ => nI 1), nI 0, ?_, rfl, fun j j0 j1 j2 j3 => by rw [um_n j0]; exact h2 j (by omega), fun q => absurd q c, fun _ => ⟨by rw [um_n (by decide)]; exact h2 30 (by decide), by rw [um_n (by decide)]; exact h2 31 (by decide)⟩⟩
    rw [D_run]
    simp (disch := omega) only [b244_0, K244_0, l244, R_cons, go_nx, go_jp, go_rt, go_th, go_ca, go_no, go_ite, rr_v, rr_n, rr_x, hx_n, hx_p, hx_b, I_push, I_pushl, I_fc0, I_fc1, I_dc0, I_null, I_mask, I_iload, I_lload, I_dload, I_fload, I_aload, I_istore, I_lstore, I_dstore, I_fstore, I_astore, I_iinc, I_iadd, I_isub, I_imul, I_iand, I_ior, I_ixor, I_ishl, I_ishr, I_iushr, I_ineg, I_ladd, I_lsub, I_lmul, I_lxor, I_i2l, I_l2i, I_i2b, I_i2c, I_i2f, I_i2d, I_lcmp, I_fdiv, I_ddiv, I_f2d, I_dcmp, I_dup, I_pop, I_dup_x1, I_dup2, I_icne, I_iceq, I_iclt, I_icge, I_icgt, I_icle, I_ifnull, I_ifnonnull, I_ane, I_aeq, I_goto, I_lsw, I_iret, I_lret, I_fret, I_dret, I_vret, I_nret, I_aret, I_iald, I_bald, I_lald, I_aald, I_iast, I_bast, I_last, I_aast, I_alen, I_new, I_val, I_cast, I_inst, I_obj, I_throw, I_mkx, I_getf, I_putf, I_call, I_calli, I_callv, I_acopy, I_clone, I_getc, i_ifeq, i_ifne, i_iflt, i_ifge, i_ifgt, i_ifle, i_idiv, i_irem, i_newa, i_newo, i_abs, i_max, i_min, i_ldiv, en_, es_i, es_r, es_0, es_n, es_l, List.length_cons, List.length_nil, List.cons_append, List.nil_append, Nat.reduceAdd, Nat.reduceSub, List.replicate, lg_, st1_, st2_, cn_, nl_, mk_, pk_, kd_, sl_, la_, ft_a, ft_i, ft_l, ft_o, ft_n, ft_b0, ft_b1, ft_bI, nr_0, nr_1, nr_bI, ro_, no_, if_true, if_false, ite_true, ite_false, reduceIte, Nat.reduceMod, Nat.reduceEqDiff, Nat.zero_add, Nat.add_zero, lk_, tw_t, tw_1, tw_2, tw_3, tw_4, tw_5, tw_6, tw_9, tw_11, tw_12, tw_13, tw_14, tw_15, tw_16, tw_18, tw_19, tw_30, tg_0, tg_1, tg_2, tg_3, tg_4, tg_5, tg_6, tg_7, tg_8, tg_9, tg_10, tg_11, tg_12, tg_13, tg_14, tg_15, tg_16, tg_17, tg_18, tg_19, tg_20, tg_21, tg_22, tg_23, tg_24, tg_25, tg_26, tg_27, tg_28, tg_29, tg_30, tg_31, ts_0, ts_1, ts_2, ts_3, ts_4, ts_5, ts_6, ts_7, ts_8, ts_9, ts_10, ts_11, ts_12, ts_13, ts_14, ts_15, ts_16, ts_17, ts_18, ts_19, ts_20, ts_21, ts_22, ts_23, ts_24, ts_25, ts_26, ts_27, ts_28, ts_29, ts_30, ts_31, lit_, nI_add, nI_mul, ix_nI, h1, T_is0]
/-- the text of a sight -/
def psq_ (r : Nat → Int32) (i : Nat) : List Nat :=
  ((((((((if r (68 + 6 * i + 5) = nI 0 then [] else [45, 32]) ++ [115, 105, 103, 104, 116, 32]) ++ lts_ 5 (nmk_ r (fr_ r i))) ++ [32]) ++ lts_ 5 (nmk_ r (to_ r i))) ++ (if r (68 + 6 * i + 2) = nI 0 then [32, 102, 111, 114, 101, 32] else [32, 98, 97, 99, 107, 32])) ++ nmo_ (r (68 + 6 * i + 3))) ++ [32, 104, 101, 97, 116, 32]) ++ nmo_ (r (68 + 6 * i + 4))
/-- the words of a sight's text -/
def Sw_ (E : En_) (h : Nat → Option Ac_) : Prop := Str_ h (E.2.2.2.2.1 18) ([45, 32].map nI) ∧ Str_ h (E.2.2.2.2.1 19) ([115, 105, 103, 104, 116, 32].map nI) ∧ Str_ h (E.2.2.2.2.1 20) ([32, 102, 111, 114, 101, 32].map nI) ∧ Str_ h (E.2.2.2.2.1 21) ([32, 98, 97, 99, 107, 32].map nI) ∧ Str_ h (E.2.2.2.2.1 22) ([32, 104, 101, 97, 116, 32].map nI)
theorem T_printSight {n s : Nat} {x : Int32} (hE : Ev_ E) (hS : ∀ M, Sw_ E (tw σ t M).2.2) (hW : Wr_ (M 1) n s) : ∃ M' v, D_ E 245 [.ref t, .int x] (tw σ t M) = some (.inl (some (.int v)), tw σ t M') ∧ M' 0 0 = bI (¬ inN_ x s) ∧ (∀ i, i ≠ 0 → i ≠ 30 → i ≠ 31 → M' i = M i) ∧
    (inN_ x s → v = nI (psq_ (M 1) x.toNatClampNeg).length ∧ Out_ M' (psq_ (M 1) x.toNatClampNeg)) ∧ (¬ inN_ x s → M' 30 = M 30 ∧ M' 31 = M 31) := by
  have h12 := wr_n12 hW
  have h40 := wr_s40 hW
  have hA := T_isSight (E := E) (σ := σ) (t := t) (M := M) (x := x) hW
  by_cases c : inN_ x s
  · rw [bI_t c] at hA
    rw [bI_f (fun h => h c)]
    obtain ⟨i, hi, rfl⟩ := inN_nI c
    rw [nI_clamp (by omega)]
    obtain ⟨B, hB⟩ : ∃ B, B = um (um M 0 (fun _ => nI 0)) 31 (fun _ => nI 0) := ⟨_, rfl⟩
    have hOB : Out_ B [] := by rw [hB]; exact Out_0 rfl
    have hB0 : B 0 0 = nI 0 := by rw [hB]; rfl
    have hB1 : B 1 = M 1 := by rw [hB]; rfl
    have hBf : ∀ j, j ≠ 0 → j ≠ 30 → j ≠ 31 → B j = M j := fun j j0 j1 j2 => by rw [hB, um_n j2, um_n j0]
    have hf := wr_fr hW hi
    have ht := wr_to hW hi
    have hb := wr_sb hW hi
    have nf := nmk_in hW hf.2
    have nt := nmk_in hW ht.2
    have lf := lts_len 5 (nmk_ (M 1) (fr_ (M 1) i))
    have lt := lts_len 5 (nmk_ (M 1) (to_ (M 1) i))
    have ln3 := nmo_len (v := M 1 (68 + 6 * i + 3))
    have ln4 := nmo_len (v := M 1 (68 + 6 * i + 4))
    have hc := T_counts (E := E) (σ := σ) (t := t) (M := B) (i := i) (by omega)
    rw [hB1] at hc
    -- struck
    obtain ⟨M1, a1, a2, a3⟩ : ∃ M1, D_ E 245 [.ref t, .int (nI i)] (tw σ t M) = R_ E 245 (B_ E 245 2) [some (.ref t), some (.int (nI i))] [] (tw σ t M1) ∧ Out_ M1 (if M 1 (68 + 6 * i + 5) = nI 0 then [] else [45, 32]) ∧ po_ B M1 := by
      by_cases cs : M 1 (68 + 6 * i + 5) = nI 0
      · rw [bI_t cs] at hc
        refine ⟨B, ?_, by rw [if_pos cs]; exact hOB, po_rfl⟩
        rw [D_run]
        simp (disch := omega) only [b245_0, K245_0, b245_1, K245_1, l245, R_cons, go_nx, go_jp, go_rt, go_th, go_ca, go_no, go_ite, rr_v, rr_n, rr_x, hx_n, hx_p, hx_b, I_push, I_pushl, I_fc0, I_fc1, I_dc0, I_null, I_mask, I_iload, I_lload, I_dload, I_fload, I_aload, I_istore, I_lstore, I_dstore, I_fstore, I_astore, I_iinc, I_iadd, I_isub, I_imul, I_iand, I_ior, I_ixor, I_ishl, I_ishr, I_iushr, I_ineg, I_ladd, I_lsub, I_lmul, I_lxor, I_i2l, I_l2i, I_i2b, I_i2c, I_i2f, I_i2d, I_lcmp, I_fdiv, I_ddiv, I_f2d, I_dcmp, I_dup, I_pop, I_dup_x1, I_dup2, I_icne, I_iceq, I_iclt, I_icge, I_icgt, I_icle, I_ifnull, I_ifnonnull, I_ane, I_aeq, I_goto, I_lsw, I_iret, I_lret, I_fret, I_dret, I_vret, I_nret, I_aret, I_iald, I_bald, I_lald, I_aald, I_iast, I_bast, I_last, I_aast, I_alen, I_new, I_val, I_cast, I_inst, I_obj, I_throw, I_mkx, I_getf, I_putf, I_call, I_calli, I_callv, I_acopy, I_clone, I_getc, i_ifeq, i_ifne, i_iflt, i_ifge, i_ifgt, i_ifle, i_idiv, i_irem, i_newa, i_newo, i_abs, i_max, i_min, i_ldiv, en_, es_i, es_r, es_0, es_n, es_l, List.length_cons, List.length_nil, List.cons_append, List.nil_append, Nat.reduceAdd, Nat.reduceSub, List.replicate, lg_, st1_, st2_, cn_, nl_, mk_, pk_, kd_, sl_, la_, ft_a, ft_i, ft_l, ft_o, ft_n, ft_b0, ft_b1, ft_bI, nr_0, nr_1, nr_bI, ro_, no_, if_true, if_false, ite_true, ite_false, reduceIte, Nat.reduceMod, Nat.reduceEqDiff, Nat.zero_add, Nat.add_zero, lk_, tw_t, tw_1, tw_2, tw_3, tw_4, tw_5, tw_6, tw_9, tw_11, tw_12, tw_13, tw_14, tw_15, tw_16, tw_18, tw_19, tw_30, tg_0, tg_1, tg_2, tg_3, tg_4, tg_5, tg_6, tg_7, tg_8, tg_9, tg_10, tg_11, tg_12, tg_13, tg_14, tg_15, tg_16, tg_17, tg_18, tg_19, tg_20, tg_21, tg_22, tg_23, tg_24, tg_25, tg_26, tg_27, tg_28, tg_29, tg_30, tg_31, ts_0, ts_1, ts_2, ts_3, ts_4, ts_5, ts_6, ts_7, ts_8, ts_9, ts_10, ts_11, ts_12, ts_13, ts_14, ts_15, ts_16, ts_17, ts_18, ts_19, ts_20, ts_21, ts_22, ts_23, ts_24, ts_25, ts_26, ts_27, ts_28, ts_29, ts_30, ts_31, lit_, nI_add, nI_mul, ix_nI, um_s, um_n, um_um, um_co, um_id, id_eq, fgk_0, fgk_1, fgk_2, fgk_3, fgk_4, fgk_5, fgk_6, fgk_7, fgk_8, fgk_9, fgk_10, fgk_11, fgk_12, fgk_13, fsk_0, fsk_1, fsk_2, fsk_3, fsk_4, fsk_5, fsk_6, fsk_7, fsk_8, fsk_9, fsk_10, fsk_11, fsk_12, fsk_13, ca_i, ca_r, ca_n, Nat.reduceLT, true_or, or_true, if_true, false_or, or_false, hA, T_is1, n10_, ← hB, hc]
      · rw [bI_f cs] at hc
        obtain ⟨M1, g1, g2, g3⟩ := T_saysW (E := E) (σ := σ) (t := t) (cs := [45, 32]) hE (fun M => (hS M).1) (by decide) hOB (by decide)
        refine ⟨M1, ?_, by rw [if_neg cs]; exact g2, g3⟩
        rw [D_run]
        simp (disch := omega) only [b245_0, K245_0, b245_1, K245_1, l245, R_cons, go_nx, go_jp, go_rt, go_th, go_ca, go_no, go_ite, rr_v, rr_n, rr_x, hx_n, hx_p, hx_b, I_push, I_pushl, I_fc0, I_fc1, I_dc0, I_null, I_mask, I_iload, I_lload, I_dload, I_fload, I_aload, I_istore, I_lstore, I_dstore, I_fstore, I_astore, I_iinc, I_iadd, I_isub, I_imul, I_iand, I_ior, I_ixor, I_ishl, I_ishr, I_iushr, I_ineg, I_ladd, I_lsub, I_lmul, I_lxor, I_i2l, I_l2i, I_i2b, I_i2c, I_i2f, I_i2d, I_lcmp, I_fdiv, I_ddiv, I_f2d, I_dcmp, I_dup, I_pop, I_dup_x1, I_dup2, I_icne, I_iceq, I_iclt, I_icge, I_icgt, I_icle, I_ifnull, I_ifnonnull, I_ane, I_aeq, I_goto, I_lsw, I_iret, I_lret, I_fret, I_dret, I_vret, I_nret, I_aret, I_iald, I_bald, I_lald, I_aald, I_iast, I_bast, I_last, I_aast, I_alen, I_new, I_val, I_cast, I_inst, I_obj, I_throw, I_mkx, I_getf, I_putf, I_call, I_calli, I_callv, I_acopy, I_clone, I_getc, i_ifeq, i_ifne, i_iflt, i_ifge, i_ifgt, i_ifle, i_idiv, i_irem, i_newa, i_newo, i_abs, i_max, i_min, i_ldiv, en_, es_i, es_r, es_0, es_n, es_l, List.length_cons, List.length_nil, List.cons_append, List.nil_append, Nat.reduceAdd, Nat.reduceSub, List.replicate, lg_, st1_, st2_, cn_, nl_, mk_, pk_, kd_, sl_, la_, ft_a, ft_i, ft_l, ft_o, ft_n, ft_b0, ft_b1, ft_bI, nr_0, nr_1, nr_bI, ro_, no_, if_true, if_false, ite_true, ite_false, reduceIte, Nat.reduceMod, Nat.reduceEqDiff, Nat.zero_add, Nat.add_zero, lk_, tw_t, tw_1, tw_2, tw_3, tw_4, tw_5, tw_6, tw_9, tw_11, tw_12, tw_13, tw_14, tw_15, tw_16, tw_18, tw_19, tw_30, tg_0, tg_1, tg_2, tg_3, tg_4, tg_5, tg_6, tg_7, tg_8, tg_9, tg_10, tg_11, tg_12, tg_13, tg_14, tg_15, tg_16, tg_17, tg_18, tg_19, tg_20, tg_21, tg_22, tg_23, tg_24, tg_25, tg_26, tg_27, tg_28, tg_29, tg_30, tg_31, ts_0, ts_1, ts_2, ts_3, ts_4, ts_5, ts_6, ts_7, ts_8, ts_9, ts_10, ts_11, ts_12, ts_13, ts_14, ts_15, ts_16, ts_17, ts_18, ts_19, ts_20, ts_21, ts_22, ts_23, ts_24, ts_25, ts_26, ts_27, ts_28, ts_29, ts_30, ts_31, lit_, nI_add, nI_mul, ix_nI, um_s, um_n, um_um, um_co, um_id, id_eq, fgk_0, fgk_1, fgk_2, fgk_3, fgk_4, fgk_5, fgk_6, fgk_7, fgk_8, fgk_9, fgk_10, fgk_11, fgk_12, fgk_13, fsk_0, fsk_1, fsk_2, fsk_3, fsk_4, fsk_5, fsk_6, fsk_7, fsk_8, fsk_9, fsk_10, fsk_11, fsk_12, fsk_13, ca_i, ca_r, ca_n, Nat.reduceLT, true_or, or_true, if_true, false_or, or_false, hA, T_is1, n10_, ← hB, hc, g1]
    have l1 : (if M 1 (68 + 6 * i + 5) = nI 0 then ([] : List Nat) else [45, 32]).length ≤ 2 := by split <;> simp
    obtain ⟨M2, b1, b2, b3⟩ := T_saysW (E := E) (σ := σ) (t := t) (cs := [115, 105, 103, 104, 116, 32]) hE (fun M => (hS M).2.1) (by decide) a2 (by show _ + 6 ≤ 400; omega)
    have l2 : ((if M 1 (68 + 6 * i + 5) = nI 0 then ([] : List Nat) else [45, 32]) ++ [115, 105, 103, 104, 116, 32]).length ≤ 8 := by rw [List.length_append]; show _ + 6 ≤ 8; omega
    have hp2 := po_trans a3 b3
    have m2 : M2 1 = M 1 := by rw [hp2 1 (by decide) (by decide)]; exact hB1
    obtain ⟨M3, c1, c2, c3⟩ := T_saysL (E := E) (σ := σ) (t := t) nf.2.1 b2 (by omega)
    have hp3 := po_trans hp2 c3
    have m3 : M3 1 = M 1 := by rw [hp3 1 (by decide) (by decide)]; exact hB1
    generalize hA3 : ((if M 1 (68 + 6 * i + 5) = nI 0 then ([] : List Nat) else [45, 32]) ++ [115, 105, 103, 104, 116, 32]) ++ lts_ 5 (nmk_ (M 1) (fr_ (M 1) i)) = A3 at c2
    have l3 : A3.length ≤ 14 := by rw [← hA3, List.length_append]; omega
    obtain ⟨M4, d1, d2, d3⟩ := T_says (E := E) (σ := σ) (t := t) (c := 32) c2 (by omega) (by decide)
    have hp4 := po_trans hp3 d3
    have m4 : M4 1 = M 1 := by rw [hp4 1 (by decide) (by decide)]; exact hB1
    have l4 : (A3 ++ [32]).length ≤ 15 := by rw [List.length_append]; show _ + 1 ≤ 15; omega
    obtain ⟨M5, e1, e2, e3⟩ := T_saysL (E := E) (σ := σ) (t := t) nt.2.1 d2 (by omega)
    have hp5 := po_trans hp4 e3
    have m5 : M5 1 = M 1 := by rw [hp5 1 (by decide) (by decide)]; exact hB1
    have l5 : ((A3 ++ [32]) ++ lts_ 5 (nmk_ (M 1) (to_ (M 1) i))).length ≤ 21 := by rw [List.length_append]; omega
    generalize hA5 : (A3 ++ [32]) ++ lts_ 5 (nmk_ (M 1) (to_ (M 1) i)) = A5 at e2 l5
    have qO : ∀ (M9 : Nat → Nat → Int32) (k : Nat), M9 1 = M 1 → k < 6 → D_ E 114 [.ref t, .int (nI i), .int (nI k)] (tw σ t M9) = some (.inl (some (.int (M 1 (68 + 6 * i + k)))), tw σ t M9) := fun M9 k h9 hk => by
      rw [T_ofSight (by omega), h9]
    have q20 := qO M2 0 m2 (by decide)
    rw [Nat.add_zero, hf.1] at q20
    have q41 := qO M4 1 m4 (by decide)
    rw [ht.1] at q41
    have q52 := qO M5 2 m5 (by decide)
    have qf := T_of (E := E) (σ := σ) (t := t) (M := M2) (a := fr_ (M 1) i) (w := 0) (by omega)
    rw [Nat.add_zero, m2, nf.1] at qf
    have qt := T_of (E := E) (σ := σ) (t := t) (M := M4) (a := to_ (M 1) i) (w := 0) (by omega)
    rw [Nat.add_zero, m4, nt.1] at qt
    -- fore or back
    obtain ⟨M6, f1, f2, f3⟩ : ∃ M6, R_ E 245 (B_ E 245 2) [some (.ref t), some (.int (nI i))] [] (tw σ t M1) = R_ E 245 [I_aload 0, I_aload 0, I_iload 1, I_push 3, I_callv [(10, 114)] [0, 0, 1] no_, I_callv [(10, 243)] [0, 1] no_, I_aload 0, I_val (.ref (E.2.2.2.2.1 22)), I_callv [(10, 246)] [1, 1] no_, I_aload 0, I_aload 0, I_iload 1, I_push 4, I_callv [(10, 114)] [0, 0, 1] no_, I_callv [(10, 243)] [0, 1] no_, I_aload 0, I_getf [(10, 31)], I_iret] [some (.ref t), some (.int (nI i))] [] (tw σ t M6) ∧ Out_ M6 (A5 ++ (if M 1 (68 + 6 * i + 2) = nI 0 then [32, 102, 111, 114, 101, 32] else [32, 98, 97, 99, 107, 32])) ∧ po_ M5 M6 := by
      by_cases cs : M 1 (68 + 6 * i + 2) = nI 0
      · rw [if_pos cs]
        rw [cs] at q52
        obtain ⟨M6, g1, g2, g3⟩ := T_saysW (E := E) (σ := σ) (t := t) (cs := [32, 102, 111, 114, 101, 32]) hE (fun M => (hS M).2.2.1) (by decide) e2 (by show _ + 6 ≤ 400; omega)
        refine ⟨M6, ?_, g2, g3⟩
        conv => lhs; rw [b245_2]
        simp (disch := omega) only [K245_2, b245_4, K245_4, R_cons, go_nx, go_jp, go_rt, go_th, go_ca, go_no, go_ite, rr_v, rr_n, rr_x, hx_n, hx_p, hx_b, I_push, I_pushl, I_fc0, I_fc1, I_dc0, I_null, I_mask, I_iload, I_lload, I_dload, I_fload, I_aload, I_istore, I_lstore, I_dstore, I_fstore, I_astore, I_iinc, I_iadd, I_isub, I_imul, I_iand, I_ior, I_ixor, I_ishl, I_ishr, I_iushr, I_ineg, I_ladd, I_lsub, I_lmul, I_lxor, I_i2l, I_l2i, I_i2b, I_i2c, I_i2f, I_i2d, I_lcmp, I_fdiv, I_ddiv, I_f2d, I_dcmp, I_dup, I_pop, I_dup_x1, I_dup2, I_icne, I_iceq, I_iclt, I_icge, I_icgt, I_icle, I_ifnull, I_ifnonnull, I_ane, I_aeq, I_goto, I_lsw, I_iret, I_lret, I_fret, I_dret, I_vret, I_nret, I_aret, I_iald, I_bald, I_lald, I_aald, I_iast, I_bast, I_last, I_aast, I_alen, I_new, I_val, I_cast, I_inst, I_obj, I_throw, I_mkx, I_getf, I_putf, I_call, I_calli, I_callv, I_acopy, I_clone, I_getc, i_ifeq, i_ifne, i_iflt, i_ifge, i_ifgt, i_ifle, i_idiv, i_irem, i_newa, i_newo, i_abs, i_max, i_min, i_ldiv, en_, es_i, es_r, es_0, es_n, es_l, List.length_cons, List.length_nil, List.cons_append, List.nil_append, Nat.reduceAdd, Nat.reduceSub, List.replicate, lg_, st1_, st2_, cn_, nl_, mk_, pk_, kd_, sl_, la_, ft_a, ft_i, ft_l, ft_o, ft_n, ft_b0, ft_b1, ft_bI, nr_0, nr_1, nr_bI, ro_, no_, if_true, if_false, ite_true, ite_false, reduceIte, Nat.reduceMod, Nat.reduceEqDiff, Nat.zero_add, Nat.add_zero, lk_, tw_t, tw_1, tw_2, tw_3, tw_4, tw_5, tw_6, tw_9, tw_11, tw_12, tw_13, tw_14, tw_15, tw_16, tw_18, tw_19, tw_30, tg_0, tg_1, tg_2, tg_3, tg_4, tg_5, tg_6, tg_7, tg_8, tg_9, tg_10, tg_11, tg_12, tg_13, tg_14, tg_15, tg_16, tg_17, tg_18, tg_19, tg_20, tg_21, tg_22, tg_23, tg_24, tg_25, tg_26, tg_27, tg_28, tg_29, tg_30, tg_31, ts_0, ts_1, ts_2, ts_3, ts_4, ts_5, ts_6, ts_7, ts_8, ts_9, ts_10, ts_11, ts_12, ts_13, ts_14, ts_15, ts_16, ts_17, ts_18, ts_19, ts_20, ts_21, ts_22, ts_23, ts_24, ts_25, ts_26, ts_27, ts_28, ts_29, ts_30, ts_31, lit_, nI_add, nI_mul, ix_nI, fgk_0, fgk_1, fgk_2, fgk_3, fgk_4, fgk_5, fgk_6, fgk_7, fgk_8, fgk_9, fgk_10, fgk_11, fgk_12, fgk_13, fsk_0, fsk_1, fsk_2, fsk_3, fsk_4, fsk_5, fsk_6, fsk_7, fsk_8, fsk_9, fsk_10, fsk_11, fsk_12, fsk_13, ca_i, ca_r, ca_n, Nat.reduceLT, true_or, or_true, if_true, false_or, or_false, b1, q20, qf, c1, d1, q41, qt, e1, q52, g1]
      · rw [if_neg cs]
        obtain ⟨M6, g1, g2, g3⟩ := T_saysW (E := E) (σ := σ) (t := t) (cs := [32, 98, 97, 99, 107, 32]) hE (fun M => (hS M).2.2.2.1) (by decide) e2 (by show _ + 6 ≤ 400; omega)
        refine ⟨M6, ?_, g2, g3⟩
        conv => lhs; rw [b245_2]
        simp (disch := omega) only [K245_2, b245_3, K245_3, b245_4, K245_4, R_cons, go_nx, go_jp, go_rt, go_th, go_ca, go_no, go_ite, rr_v, rr_n, rr_x, hx_n, hx_p, hx_b, I_push, I_pushl, I_fc0, I_fc1, I_dc0, I_null, I_mask, I_iload, I_lload, I_dload, I_fload, I_aload, I_istore, I_lstore, I_dstore, I_fstore, I_astore, I_iinc, I_iadd, I_isub, I_imul, I_iand, I_ior, I_ixor, I_ishl, I_ishr, I_iushr, I_ineg, I_ladd, I_lsub, I_lmul, I_lxor, I_i2l, I_l2i, I_i2b, I_i2c, I_i2f, I_i2d, I_lcmp, I_fdiv, I_ddiv, I_f2d, I_dcmp, I_dup, I_pop, I_dup_x1, I_dup2, I_icne, I_iceq, I_iclt, I_icge, I_icgt, I_icle, I_ifnull, I_ifnonnull, I_ane, I_aeq, I_goto, I_lsw, I_iret, I_lret, I_fret, I_dret, I_vret, I_nret, I_aret, I_iald, I_bald, I_lald, I_aald, I_iast, I_bast, I_last, I_aast, I_alen, I_new, I_val, I_cast, I_inst, I_obj, I_throw, I_mkx, I_getf, I_putf, I_call, I_calli, I_callv, I_acopy, I_clone, I_getc, i_ifeq, i_ifne, i_iflt, i_ifge, i_ifgt, i_ifle, i_idiv, i_irem, i_newa, i_newo, i_abs, i_max, i_min, i_ldiv, en_, es_i, es_r, es_0, es_n, es_l, List.length_cons, List.length_nil, List.cons_append, List.nil_append, Nat.reduceAdd, Nat.reduceSub, List.replicate, lg_, st1_, st2_, cn_, nl_, mk_, pk_, kd_, sl_, la_, ft_a, ft_i, ft_l, ft_o, ft_n, ft_b0, ft_b1, ft_bI, nr_0, nr_1, nr_bI, ro_, no_, if_true, if_false, ite_true, ite_false, reduceIte, Nat.reduceMod, Nat.reduceEqDiff, Nat.zero_add, Nat.add_zero, lk_, tw_t, tw_1, tw_2, tw_3, tw_4, tw_5, tw_6, tw_9, tw_11, tw_12, tw_13, tw_14, tw_15, tw_16, tw_18, tw_19, tw_30, tg_0, tg_1, tg_2, tg_3, tg_4, tg_5, tg_6, tg_7, tg_8, tg_9, tg_10, tg_11, tg_12, tg_13, tg_14, tg_15, tg_16, tg_17, tg_18, tg_19, tg_20, tg_21, tg_22, tg_23, tg_24, tg_25, tg_26, tg_27, tg_28, tg_29, tg_30, tg_31, ts_0, ts_1, ts_2, ts_3, ts_4, ts_5, ts_6, ts_7, ts_8, ts_9, ts_10, ts_11, ts_12, ts_13, ts_14, ts_15, ts_16, ts_17, ts_18, ts_19, ts_20, ts_21, ts_22, ts_23, ts_24, ts_25, ts_26, ts_27, ts_28, ts_29, ts_30, ts_31, lit_, nI_add, nI_mul, ix_nI, fgk_0, fgk_1, fgk_2, fgk_3, fgk_4, fgk_5, fgk_6, fgk_7, fgk_8, fgk_9, fgk_10, fgk_11, fgk_12, fgk_13, fsk_0, fsk_1, fsk_2, fsk_3, fsk_4, fsk_5, fsk_6, fsk_7, fsk_8, fsk_9, fsk_10, fsk_11, fsk_12, fsk_13, ca_i, ca_r, ca_n, Nat.reduceLT, true_or, or_true, if_true, false_or, or_false, b1, q20, qf, c1, d1, q41, qt, e1, q52, cs, g1]
    have l6 : (A5 ++ (if M 1 (68 + 6 * i + 2) = nI 0 then [32, 102, 111, 114, 101, 32] else [32, 98, 97, 99, 107, 32])).length ≤ 27 := by
      rw [List.length_append]
      split
      · show _ + 6 ≤ 27; omega
      · show _ + 6 ≤ 27; omega
    generalize hA6 : A5 ++ (if M 1 (68 + 6 * i + 2) = nI 0 then [32, 102, 111, 114, 101, 32] else [32, 98, 97, 99, 107, 32]) = A6 at f2 l6
    have hp6 := po_trans hp5 f3
    have m6 : M6 1 = M 1 := by rw [hp6 1 (by decide) (by decide)]; exact hB1
    have ok3 : okn_ (M 1 (68 + 6 * i + 3)) := ⟨by have := hb.2.1.1; omega, by have := hb.2.1.2; omega⟩
    have ok4 : okn_ (M 1 (68 + 6 * i + 4)) := ⟨by have := hb.2.2.1.1; omega, by have := hb.2.2.1.2; omega⟩
    obtain ⟨M7, g1, g2, g3⟩ := T_saysN (E := E) (σ := σ) (t := t) ok3 f2 (by omega)
    have hp7 := po_trans hp6 g3
    have m7 : M7 1 = M 1 := by rw [hp7 1 (by decide) (by decide)]; exact hB1
    have l7 : (A6 ++ nmo_ (M 1 (68 + 6 * i + 3))).length ≤ 38 := by rw [List.length_append]; omega
    obtain ⟨M8, k1, k2, k3⟩ := T_saysW (E := E) (σ := σ) (t := t) (cs := [32, 104, 101, 97, 116, 32]) hE (fun M => (hS M).2.2.2.2) (by decide) g2 (by show _ + 6 ≤ 400; omega)
    have hp8 := po_trans hp7 k3
    have m8 : M8 1 = M 1 := by rw [hp8 1 (by decide) (by decide)]; exact hB1
    have l8 : ((A6 ++ nmo_ (M 1 (68 + 6 * i + 3))) ++ [32, 104, 101, 97, 116, 32]).length ≤ 44 := by rw [List.length_append]; show _ + 6 ≤ 44; omega
    obtain ⟨M9, j1, j2, j3⟩ := T_saysN (E := E) (σ := σ) (t := t) ok4 k2 (by omega)
    have hp9 := po_trans hp8 j3
    have q63 := qO M6 3 m6 (by decide)
    have q84 := qO M8 4 m8 (by decide)
    have hq : psq_ (M 1) i = ((A6 ++ nmo_ (M 1 (68 + 6 * i + 3))) ++ [32, 104, 101, 97, 116, 32]) ++ nmo_ (M 1 (68 + 6 * i + 4)) := by rw [← hA6, ← hA5, ← hA3]; rfl
    rw [hq]
    refine ⟨M9, _, ?_, by rw [hp9 0 (by decide) (by decide)]; exact hB0, fun j j0 j1 j2 => (hp9 j j1 j2).trans (hBf j j0 j1 j2), fun _ => ⟨rfl, j2⟩, fun q => absurd c q⟩
    rw [a1, f1]
    simp (disch := omega) only [R_cons, go_nx, go_jp, go_rt, go_th, go_ca, go_no, go_ite, rr_v, rr_n, rr_x, hx_n, hx_p, hx_b, I_push, I_pushl, I_fc0, I_fc1, I_dc0, I_null, I_mask, I_iload, I_lload, I_dload, I_fload, I_aload, I_istore, I_lstore, I_dstore, I_fstore, I_astore, I_iinc, I_iadd, I_isub, I_imul, I_iand, I_ior, I_ixor, I_ishl, I_ishr, I_iushr, I_ineg, I_ladd, I_lsub, I_lmul, I_lxor, I_i2l, I_l2i, I_i2b, I_i2c, I_i2f, I_i2d, I_lcmp, I_fdiv, I_ddiv, I_f2d, I_dcmp, I_dup, I_pop, I_dup_x1, I_dup2, I_icne, I_iceq, I_iclt, I_icge, I_icgt, I_icle, I_ifnull, I_ifnonnull, I_ane, I_aeq, I_goto, I_lsw, I_iret, I_lret, I_fret, I_dret, I_vret, I_nret, I_aret, I_iald, I_bald, I_lald, I_aald, I_iast, I_bast, I_last, I_aast, I_alen, I_new, I_val, I_cast, I_inst, I_obj, I_throw, I_mkx, I_getf, I_putf, I_call, I_calli, I_callv, I_acopy, I_clone, I_getc, i_ifeq, i_ifne, i_iflt, i_ifge, i_ifgt, i_ifle, i_idiv, i_irem, i_newa, i_newo, i_abs, i_max, i_min, i_ldiv, en_, es_i, es_r, es_0, es_n, es_l, List.length_cons, List.length_nil, List.cons_append, List.nil_append, Nat.reduceAdd, Nat.reduceSub, List.replicate, lg_, st1_, st2_, cn_, nl_, mk_, pk_, kd_, sl_, la_, ft_a, ft_i, ft_l, ft_o, ft_n, ft_b0, ft_b1, ft_bI, nr_0, nr_1, nr_bI, ro_, no_, if_true, if_false, ite_true, ite_false, reduceIte, Nat.reduceMod, Nat.reduceEqDiff, Nat.zero_add, Nat.add_zero, lk_, tw_t, tw_1, tw_2, tw_3, tw_4, tw_5, tw_6, tw_9, tw_11, tw_12, tw_13, tw_14, tw_15, tw_16, tw_18, tw_19, tw_30, tg_0, tg_1, tg_2, tg_3, tg_4, tg_5, tg_6, tg_7, tg_8, tg_9, tg_10, tg_11, tg_12, tg_13, tg_14, tg_15, tg_16, tg_17, tg_18, tg_19, tg_20, tg_21, tg_22, tg_23, tg_24, tg_25, tg_26, tg_27, tg_28, tg_29, tg_30, tg_31, ts_0, ts_1, ts_2, ts_3, ts_4, ts_5, ts_6, ts_7, ts_8, ts_9, ts_10, ts_11, ts_12, ts_13, ts_14, ts_15, ts_16, ts_17, ts_18, ts_19, ts_20, ts_21, ts_22, ts_23, ts_24, ts_25, ts_26, ts_27, ts_28, ts_29, ts_30, ts_31, lit_, nI_add, nI_mul, ix_nI, fgk_0, fgk_1, fgk_2, fgk_3, fgk_4, fgk_5, fgk_6, fgk_7, fgk_8, fgk_9, fgk_10, fgk_11, fgk_12, fgk_13, fsk_0, fsk_1, fsk_2, fsk_3, fsk_4, fsk_5, fsk_6, fsk_7, fsk_8, fsk_9, fsk_10, fsk_11, fsk_12, fsk_13, ca_i, ca_r, ca_n, Nat.reduceLT, true_or, or_true, if_true, false_or, or_false, q63, g1, k1, q84, j1, j2.1]
  · rw [bI_f c] at hA
    rw [bI_t c]
    refine ⟨um M 0 (fun _ => nI 1), nI 0, ?_, rfl, fun j j0 j1 j2 => by rw [um_n j0], fun q => absurd q c, fun _ => ⟨rfl, rfl⟩⟩
    rw [D_run]
    simp (disch := omega) only [b245_0, K245_0, l245, R_cons, go_nx, go_jp, go_rt, go_th, go_ca, go_no, go_ite, rr_v, rr_n, rr_x, hx_n, hx_p, hx_b, I_push, I_pushl, I_fc0, I_fc1, I_dc0, I_null, I_mask, I_iload, I_lload, I_dload, I_fload, I_aload, I_istore, I_lstore, I_dstore, I_fstore, I_astore, I_iinc, I_iadd, I_isub, I_imul, I_iand, I_ior, I_ixor, I_ishl, I_ishr, I_iushr, I_ineg, I_ladd, I_lsub, I_lmul, I_lxor, I_i2l, I_l2i, I_i2b, I_i2c, I_i2f, I_i2d, I_lcmp, I_fdiv, I_ddiv, I_f2d, I_dcmp, I_dup, I_pop, I_dup_x1, I_dup2, I_icne, I_iceq, I_iclt, I_icge, I_icgt, I_icle, I_ifnull, I_ifnonnull, I_ane, I_aeq, I_goto, I_lsw, I_iret, I_lret, I_fret, I_dret, I_vret, I_nret, I_aret, I_iald, I_bald, I_lald, I_aald, I_iast, I_bast, I_last, I_aast, I_alen, I_new, I_val, I_cast, I_inst, I_obj, I_throw, I_mkx, I_getf, I_putf, I_call, I_calli, I_callv, I_acopy, I_clone, I_getc, i_ifeq, i_ifne, i_iflt, i_ifge, i_ifgt, i_ifle, i_idiv, i_irem, i_newa, i_newo, i_abs, i_max, i_min, i_ldiv, en_, es_i, es_r, es_0, es_n, es_l, List.length_cons, List.length_nil, List.cons_append, List.nil_append, Nat.reduceAdd, Nat.reduceSub, List.replicate, lg_, st1_, st2_, cn_, nl_, mk_, pk_, kd_, sl_, la_, ft_a, ft_i, ft_l, ft_o, ft_n, ft_b0, ft_b1, ft_bI, nr_0, nr_1, nr_bI, ro_, no_, if_true, if_false, ite_true, ite_false, reduceIte, Nat.reduceMod, Nat.reduceEqDiff, Nat.zero_add, Nat.add_zero, lk_, tw_t, tw_1, tw_2, tw_3, tw_4, tw_5, tw_6, tw_9, tw_11, tw_12, tw_13, tw_14, tw_15, tw_16, tw_18, tw_19, tw_30, tg_0, tg_1, tg_2, tg_3, tg_4, tg_5, tg_6, tg_7, tg_8, tg_9, tg_10, tg_11, tg_12, tg_13, tg_14, tg_15, tg_16, tg_17, tg_18, tg_19, tg_20, tg_21, tg_22, tg_23, tg_24, tg_25, tg_26, tg_27, tg_28, tg_29, tg_30, tg_31, ts_0, ts_1, ts_2, ts_3, ts_4, ts_5, ts_6, ts_7, ts_8, ts_9, ts_10, ts_11, ts_12, ts_13, ts_14, ts_15, ts_16, ts_17, ts_18, ts_19, ts_20, ts_21, ts_22, ts_23, ts_24, ts_25, ts_26, ts_27, ts_28, ts_29, ts_30, ts_31, lit_, nI_add, nI_mul, ix_nI, hA, T_is0]
theorem T_outputByte {x : Int32} {l : List Nat} (h : Out_ M l) (hl : l.length ≤ 400) : D_ E 247 [.ref t, .int x] (tw σ t M) = some (.inl (some (.int (if inN_ x l.length then nI (l.getD x.toNatClampNeg 0) else NOO))), tw σ t (um M 0 (fun _ => nI 0))) := by
  have h1 := h.1
  have hI : ∀ σ, D_ E 145 [.long x.toInt64, .long 0, .long ((nI l.length).toInt64 - 1)] σ = some (.inl (some (.int (bI (inN_ x l.length)))), σ) := fun σ => by
    rw [T_isIn, bI_congr (q := inN_ x l.length)]
    unfold inN_
    rw [Int64.le_iff_toInt_le, Int64.le_iff_toInt_le, Int32.toInt_toInt64, Int64.toInt_sub, Int32.toInt_toInt64, nI_toInt (by omega)]
    have e0 : (0 : Int64).toInt = 0 := by decide
    have e1 : (1 : Int64).toInt = 1 := by decide
    rw [e0, e1, Int.bmod_eq_of_le (by omega) (by omega)]
    omega
  rw [D_run]
  by_cases c : inN_ x l.length
  · rw [bI_t c] at hI
    rw [if_pos c]
    obtain ⟨k, hk, rfl⟩ := inN_nI c
    rw [nI_clamp (by omega)]
    have e2 := (h.2 k l[k] (List.getElem?_eq_getElem hk)).1
    have eg : l.getD k 0 = l[k] := by rw [List.getD_eq_getElem?_getD, List.getElem?_eq_getElem hk]; rfl
    rw [eg]
    simp (disch := omega) only [l247, b247_0, K247_0, b247_1, K247_1, b247_2, K247_2, R_cons, go_nx, go_jp, go_rt, go_th, go_ca, go_no, go_ite, rr_v, rr_n, rr_x, hx_n, hx_p, hx_b, I_push, I_pushl, I_fc0, I_fc1, I_dc0, I_null, I_mask, I_iload, I_lload, I_dload, I_fload, I_aload, I_istore, I_lstore, I_dstore, I_fstore, I_astore, I_iinc, I_iadd, I_isub, I_imul, I_iand, I_ior, I_ixor, I_ishl, I_ishr, I_iushr, I_ineg, I_ladd, I_lsub, I_lmul, I_lxor, I_i2l, I_l2i, I_i2b, I_i2c, I_i2f, I_i2d, I_lcmp, I_fdiv, I_ddiv, I_f2d, I_dcmp, I_dup, I_pop, I_dup_x1, I_dup2, I_icne, I_iceq, I_iclt, I_icge, I_icgt, I_icle, I_ifnull, I_ifnonnull, I_ane, I_aeq, I_goto, I_lsw, I_iret, I_lret, I_fret, I_dret, I_vret, I_nret, I_aret, I_iald, I_bald, I_lald, I_aald, I_iast, I_bast, I_last, I_aast, I_alen, I_new, I_val, I_cast, I_inst, I_obj, I_throw, I_mkx, I_getf, I_putf, I_call, I_calli, I_callv, I_acopy, I_clone, I_getc, i_ifeq, i_ifne, i_iflt, i_ifge, i_ifgt, i_ifle, i_idiv, i_irem, i_newa, i_newo, i_abs, i_max, i_min, i_ldiv, en_, es_i, es_r, es_0, es_n, es_l, List.length_cons, List.length_nil, List.cons_append, List.nil_append, Nat.reduceAdd, Nat.reduceSub, List.replicate, lg_, st1_, st2_, cn_, nl_, mk_, pk_, kd_, sl_, la_, ft_a, ft_i, ft_l, ft_o, ft_n, ft_b0, ft_b1, ft_bI, nr_0, nr_1, nr_bI, ro_, no_, if_true, if_false, ite_true, ite_false, reduceIte, Nat.reduceMod, Nat.reduceEqDiff, Nat.zero_add, Nat.add_zero, lk_, tw_t, tw_1, tw_2, tw_3, tw_4, tw_5, tw_6, tw_9, tw_11, tw_12, tw_13, tw_14, tw_15, tw_16, tw_18, tw_19, tw_30, tg_0, tg_1, tg_2, tg_3, tg_4, tg_5, tg_6, tg_7, tg_8, tg_9, tg_10, tg_11, tg_12, tg_13, tg_14, tg_15, tg_16, tg_17, tg_18, tg_19, tg_20, tg_21, tg_22, tg_23, tg_24, tg_25, tg_26, tg_27, tg_28, tg_29, tg_30, tg_31, ts_0, ts_1, ts_2, ts_3, ts_4, ts_5, ts_6, ts_7, ts_8, ts_9, ts_10, ts_11, ts_12, ts_13, ts_14, ts_15, ts_16, ts_17, ts_18, ts_19, ts_20, ts_21, ts_22, ts_23, ts_24, ts_25, ts_26, ts_27, ts_28, ts_29, ts_30, ts_31, lit_, nI_add, nI_mul, ix_nI, um_s, um_n, um_um, um_co, um_id, id_eq, fgk_0, fgk_1, fgk_2, fgk_3, fgk_4, fgk_5, fgk_6, fgk_7, fgk_8, fgk_9, fgk_10, fgk_11, fgk_12, fgk_13, fsk_0, fsk_1, fsk_2, fsk_3, fsk_4, fsk_5, fsk_6, fsk_7, fsk_8, fsk_9, fsk_10, fsk_11, fsk_12, fsk_13, ca_i, ca_r, ca_n, Nat.reduceLT, true_or, or_true, if_true, false_or, or_false, h1, hI, n10_, e2]
  · rw [bI_f c] at hI
    rw [if_neg c]
    simp (disch := omega) only [l247, b247_0, K247_0, b247_1, K247_1, b247_2, K247_2, R_cons, go_nx, go_jp, go_rt, go_th, go_ca, go_no, go_ite, rr_v, rr_n, rr_x, hx_n, hx_p, hx_b, I_push, I_pushl, I_fc0, I_fc1, I_dc0, I_null, I_mask, I_iload, I_lload, I_dload, I_fload, I_aload, I_istore, I_lstore, I_dstore, I_fstore, I_astore, I_iinc, I_iadd, I_isub, I_imul, I_iand, I_ior, I_ixor, I_ishl, I_ishr, I_iushr, I_ineg, I_ladd, I_lsub, I_lmul, I_lxor, I_i2l, I_l2i, I_i2b, I_i2c, I_i2f, I_i2d, I_lcmp, I_fdiv, I_ddiv, I_f2d, I_dcmp, I_dup, I_pop, I_dup_x1, I_dup2, I_icne, I_iceq, I_iclt, I_icge, I_icgt, I_icle, I_ifnull, I_ifnonnull, I_ane, I_aeq, I_goto, I_lsw, I_iret, I_lret, I_fret, I_dret, I_vret, I_nret, I_aret, I_iald, I_bald, I_lald, I_aald, I_iast, I_bast, I_last, I_aast, I_alen, I_new, I_val, I_cast, I_inst, I_obj, I_throw, I_mkx, I_getf, I_putf, I_call, I_calli, I_callv, I_acopy, I_clone, I_getc, i_ifeq, i_ifne, i_iflt, i_ifge, i_ifgt, i_ifle, i_idiv, i_irem, i_newa, i_newo, i_abs, i_max, i_min, i_ldiv, en_, es_i, es_r, es_0, es_n, es_l, List.length_cons, List.length_nil, List.cons_append, List.nil_append, Nat.reduceAdd, Nat.reduceSub, List.replicate, lg_, st1_, st2_, cn_, nl_, mk_, pk_, kd_, sl_, la_, ft_a, ft_i, ft_l, ft_o, ft_n, ft_b0, ft_b1, ft_bI, nr_0, nr_1, nr_bI, ro_, no_, if_true, if_false, ite_true, ite_false, reduceIte, Nat.reduceMod, Nat.reduceEqDiff, Nat.zero_add, Nat.add_zero, lk_, tw_t, tw_1, tw_2, tw_3, tw_4, tw_5, tw_6, tw_9, tw_11, tw_12, tw_13, tw_14, tw_15, tw_16, tw_18, tw_19, tw_30, tg_0, tg_1, tg_2, tg_3, tg_4, tg_5, tg_6, tg_7, tg_8, tg_9, tg_10, tg_11, tg_12, tg_13, tg_14, tg_15, tg_16, tg_17, tg_18, tg_19, tg_20, tg_21, tg_22, tg_23, tg_24, tg_25, tg_26, tg_27, tg_28, tg_29, tg_30, tg_31, ts_0, ts_1, ts_2, ts_3, ts_4, ts_5, ts_6, ts_7, ts_8, ts_9, ts_10, ts_11, ts_12, ts_13, ts_14, ts_15, ts_16, ts_17, ts_18, ts_19, ts_20, ts_21, ts_22, ts_23, ts_24, ts_25, ts_26, ts_27, ts_28, ts_29, ts_30, ts_31, lit_, nI_add, nI_mul, ix_nI, um_s, um_n, um_um, um_co, um_id, id_eq, fgk_0, fgk_1, fgk_2, fgk_3, fgk_4, fgk_5, fgk_6, fgk_7, fgk_8, fgk_9, fgk_10, fgk_11, fgk_12, fgk_13, fsk_0, fsk_1, fsk_2, fsk_3, fsk_4, fsk_5, fsk_6, fsk_7, fsk_8, fsk_9, fsk_10, fsk_11, fsk_12, fsk_13, ca_i, ca_r, ca_n, Nat.reduceLT, true_or, or_true, if_true, false_or, or_false, h1, hI]
end PSN
