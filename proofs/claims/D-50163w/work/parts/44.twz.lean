section TWZ
variable {E : En_} {σ : As_} {t : Nat} {M : Nat → Nat → Int32}
theorem lps_le {r : Nat → Int32} {n s : Nat} (hn : n ≤ 12) : (lps_ r n s).length ≤ 144 := by
  have hl := lps_len (r := r) (s := s) hn
  have he := eds_len (r := r) (s := s)
  omega
/-- a loop's number is looked at -/
theorem T_isLoop {n s : Nat} {x : Int32} (hW : Wr_ (M 1) n s) : ∃ M', D_ E 168 [.ref t, .int x] (tw σ t M) = some (.inl (some (.int (bI (inN_ x (lps_ (M 1) n s).length)))), tw σ t M') ∧ sm1_ M M' ∧ Ct_ M' (M 1) n s := by
  have h12 := wr_n12 hW
  have hle := lps_le (r := M 1) (s := s) h12
  obtain ⟨M', h1, h2, h3⟩ := T_reckons (E := E) (σ := σ) (t := t) (M := M) (n := n) (s := s) hW
  have m1 : M' 1 = M 1 := h2 1 (Or.inl (by decide))
  have hlo := T_loops (E := E) (σ := σ) (t := t) (M := M') (n := n) (s := s) (by rw [m1]; exact hW) h3
  rw [m1] at hlo
  refine ⟨M', ?_, h2, m1, hW, h3⟩
  rw [D_run, ← bI_congr (inN_iff (x := x) (n := (lps_ (M 1) n s).length) (by omega))]
  simp (disch := omega) only [l168, b168_0, K168_0, R_cons, go_nx, go_jp, go_rt, go_th, go_ca, go_no, go_ite, rr_v, rr_n, rr_x, hx_n, hx_p, hx_b, I_push, I_pushl, I_fc0, I_fc1, I_dc0, I_null, I_mask, I_iload, I_lload, I_dload, I_fload, I_aload, I_istore, I_lstore, I_dstore, I_fstore, I_astore, I_iinc, I_iadd, I_isub, I_imul, I_iand, I_ior, I_ixor, I_ishl, I_ishr, I_iushr, I_ineg, I_ladd, I_lsub, I_lmul, I_lxor, I_i2l, I_l2i, I_i2b, I_i2c, I_i2f, I_i2d, I_lcmp, I_fdiv, I_ddiv, I_f2d, I_dcmp, I_dup, I_pop, I_dup_x1, I_dup2, I_icne, I_iceq, I_iclt, I_icge, I_icgt, I_icle, I_ifnull, I_ifnonnull, I_ane, I_aeq, I_goto, I_tsw, I_lsw, I_iret, I_lret, I_fret, I_dret, I_vret, I_nret, I_aret, I_iald, I_bald, I_lald, I_aald, I_iast, I_bast, I_last, I_aast, I_alen, I_new, I_val, I_cast, I_inst, I_obj, I_throw, I_mkx, I_getf, I_putf, I_call, I_calli, I_callv, I_acopy, I_clone, I_getc, i_ifeq, i_ifne, i_iflt, i_ifge, i_ifgt, i_ifle, i_idiv, i_irem, i_newa, i_newo, i_abs, i_max, i_min, i_ldiv, en_, es_i, es_r, es_0, es_n, es_l, List.length_cons, List.length_nil, List.cons_append, List.nil_append, Nat.reduceAdd, Nat.reduceSub, List.replicate, lg_, st1_, st2_, cn_, nl_, mk_, pk_, kd_, sl_, la_, ft_a, ft_i, ft_l, ft_o, ft_n, ft_b0, ft_b1, ft_bI, nr_0, nr_1, nr_bI, ro_, no_, if_true, if_false, ite_true, ite_false, reduceIte, Nat.reduceMod, Nat.reduceEqDiff, Nat.zero_add, Nat.add_zero, lk_, tw_t, tw_1, tw_2, tw_3, tw_4, tw_5, tw_6, tw_9, tw_11, tw_12, tw_13, tw_14, tw_15, tw_16, tw_18, tw_19, tw_30, tg_0, tg_1, tg_2, tg_3, tg_4, tg_5, tg_6, tg_7, tg_8, tg_9, tg_10, tg_11, tg_12, tg_13, tg_14, tg_15, tg_16, tg_17, tg_18, tg_19, tg_20, tg_21, tg_22, tg_23, tg_24, tg_25, tg_26, tg_27, tg_28, tg_29, tg_30, tg_31, ts_0, ts_1, ts_2, ts_3, ts_4, ts_5, ts_6, ts_7, ts_8, ts_9, ts_10, ts_11, ts_12, ts_13, ts_14, ts_15, ts_16, ts_17, ts_18, ts_19, ts_20, ts_21, ts_22, ts_23, ts_24, ts_25, ts_26, ts_27, ts_28, ts_29, ts_30, ts_31, lit_, nI_add, nI_mul, ix_nI, h1, hlo, T_isIn]
theorem qf_sm0 {x : Int32} {M' : Nat → Nat → Int32} (h : sm1_ M M') : qf_ M (um M' 0 (fun _ => x)) ∧ (um M' 0 (fun _ => x)) 0 0 = x := by
  refine ⟨fun i h0 h1 => ?_, rfl⟩
  rw [um_n h0]
  exact h i (by omega)
theorem Ct_um0 {r : Nat → Int32} {n s : Nat} {f : Nat → Int32} (h : Ct_ M r n s) : Ct_ (um M 0 f) r n s := h
theorem T_edgesOfLoop {r : Nat → Int32} {n s i : Nat} (hC : Ct_ M r n s) (hi : i < (lps_ r n s).length) : ∃ M', D_ E 169 [.ref t, .int (nI i)] (tw σ t M) = some (.inl (some (.int (nI (lpw_ r n s i).length))), tw σ t M') ∧ sW_ M M' := by
  obtain ⟨M', h1, h2, h3, h4⟩ := T_goesLoop (E := E) (σ := σ) (t := t) hC hi
  refine ⟨M', ?_, h2⟩
  rw [D_run]
  simp (disch := omega) only [l169, b169_0, K169_0, R_cons, go_nx, go_jp, go_rt, go_th, go_ca, go_no, go_ite, rr_v, rr_n, rr_x, hx_n, hx_p, hx_b, I_push, I_pushl, I_fc0, I_fc1, I_dc0, I_null, I_mask, I_iload, I_lload, I_dload, I_fload, I_aload, I_istore, I_lstore, I_dstore, I_fstore, I_astore, I_iinc, I_iadd, I_isub, I_imul, I_iand, I_ior, I_ixor, I_ishl, I_ishr, I_iushr, I_ineg, I_ladd, I_lsub, I_lmul, I_lxor, I_i2l, I_l2i, I_i2b, I_i2c, I_i2f, I_i2d, I_lcmp, I_fdiv, I_ddiv, I_f2d, I_dcmp, I_dup, I_pop, I_dup_x1, I_dup2, I_icne, I_iceq, I_iclt, I_icge, I_icgt, I_icle, I_ifnull, I_ifnonnull, I_ane, I_aeq, I_goto, I_tsw, I_lsw, I_iret, I_lret, I_fret, I_dret, I_vret, I_nret, I_aret, I_iald, I_bald, I_lald, I_aald, I_iast, I_bast, I_last, I_aast, I_alen, I_new, I_val, I_cast, I_inst, I_obj, I_throw, I_mkx, I_getf, I_putf, I_call, I_calli, I_callv, I_acopy, I_clone, I_getc, i_ifeq, i_ifne, i_iflt, i_ifge, i_ifgt, i_ifle, i_idiv, i_irem, i_newa, i_newo, i_abs, i_max, i_min, i_ldiv, en_, es_i, es_r, es_0, es_n, es_l, List.length_cons, List.length_nil, List.cons_append, List.nil_append, Nat.reduceAdd, Nat.reduceSub, List.replicate, lg_, st1_, st2_, cn_, nl_, mk_, pk_, kd_, sl_, la_, ft_a, ft_i, ft_l, ft_o, ft_n, ft_b0, ft_b1, ft_bI, nr_0, nr_1, nr_bI, ro_, no_, if_true, if_false, ite_true, ite_false, reduceIte, Nat.reduceMod, Nat.reduceEqDiff, Nat.zero_add, Nat.add_zero, lk_, tw_t, tw_1, tw_2, tw_3, tw_4, tw_5, tw_6, tw_9, tw_11, tw_12, tw_13, tw_14, tw_15, tw_16, tw_18, tw_19, tw_30, tg_0, tg_1, tg_2, tg_3, tg_4, tg_5, tg_6, tg_7, tg_8, tg_9, tg_10, tg_11, tg_12, tg_13, tg_14, tg_15, tg_16, tg_17, tg_18, tg_19, tg_20, tg_21, tg_22, tg_23, tg_24, tg_25, tg_26, tg_27, tg_28, tg_29, tg_30, tg_31, ts_0, ts_1, ts_2, ts_3, ts_4, ts_5, ts_6, ts_7, ts_8, ts_9, ts_10, ts_11, ts_12, ts_13, ts_14, ts_15, ts_16, ts_17, ts_18, ts_19, ts_20, ts_21, ts_22, ts_23, ts_24, ts_25, ts_26, ts_27, ts_28, ts_29, ts_30, ts_31, lit_, nI_add, nI_mul, ix_nI, h1, h4]
end TWZ
