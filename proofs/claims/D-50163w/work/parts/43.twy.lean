section TWY
variable {E : En_} {σ : As_} {t : Nat} {M : Nat → Nat → Int32}
/-- the difference along the forest, or none -/
noncomputable def alq_ (r : Nat → Int32) (n s a b : Nat) : Int32 := if prt_ r n s a = prt_ r n s b then alo_ (rf_ r (err_ r n s) s) (pth_ r n s a b) (nI 0) else NOH
theorem T_along {n s : Nat} {x y : Int32} (hW : Wr_ (M 1) n s) : ∃ M', D_ E 166 [.ref t, .int x, .int y] (tw σ t M) = some (.inl (some (.int (if inN_ x n ∧ inN_ y n then alq_ (M 1) n s x.toNatClampNeg y.toNatClampNeg else nI 0))), tw σ t M') ∧ qf_ M M' ∧ M' 0 0 = bI (¬ (inN_ x n ∧ inN_ y n)) := by
  have hA := T_areMarks (E := E) (σ := σ) (t := t) (M := M) (x := x) (y := y) hW
  have h12 := wr_n12 hW
  have hne : ¬ nI 1 = nI 0 := by decide
  by_cases c : inN_ x n ∧ inN_ y n
  · have e1 : bI (inN_ x n ∧ inN_ y n) = nI 1 := by rw [bI_1]; exact c
    have e2 : bI (¬ (inN_ x n ∧ inN_ y n)) = nI 0 := by rw [bI_0]; exact fun h => h c
    rw [e1] at hA
    rw [if_pos c, e2]
    obtain ⟨a, ha, rfl⟩ := inN_nI c.1
    obtain ⟨b, hb, rfl⟩ := inN_nI c.2
    rw [nI_clamp (by omega), nI_clamp (by omega)]
    obtain ⟨M', h1, h2, h3⟩ := T_reckons (E := E) (σ := σ) (t := t) (M := um M 0 (fun _ => nI 0)) (n := n) (s := s) hW
    have m1 : M' 1 = M 1 := h2 1 (Or.inl (by decide))
    have hW' : Wr_ (M' 1) n s := by rw [m1]; exact hW
    obtain ⟨wy, cc, g1, g2, g3⟩ := T_findsWay (E := E) (σ := σ) (t := t) hW' h3 ha hb
    rw [m1] at g1 g3
    have hq := qf_sW (qf_sm1 h2) (sW_um (M := M') (f := wy) (g := fun _ => nI cc))
    refine ⟨um (um M' 16 wy) 17 (fun _ => nI cc), ?_, hq⟩
    unfold alq_
    rw [D_run]
    by_cases c1 : prt_ (M 1) n s a = prt_ (M 1) n s b
    · have c1' : bI (prt_ (M 1) n s a = prt_ (M 1) n s b) = nI 1 := by rw [bI_1]; exact c1
      rw [c1'] at g1
      obtain ⟨g4, g5⟩ := g3 c1
      have hp := pth_spec (r := M 1) (s := s) h12 ha hb c1
      have hlen := wk_len h12 (kr_all (r := M 1) (s := s) h12).2.1 hp.1.1 hp.2
      have hpos : 0 < (pth_ (M 1) n s a b).length := by
        cases hl : pth_ (M 1) n s a b with
        | nil => rw [hl] at hp; exact absurd hp.1.1 id
        | cons _ _ => simp
      have hS := T_sumOfWay (E := E) (σ := σ) (t := t) (M := um (um M' 16 wy) 17 (fun _ => nI cc)) (n := n) (s := s) (e := err_ (M' 1) n s) (l := pth_ (M 1) n s a b) hW' h3.1 g5 (by show nI cc = _; rw [g4]) hp.2 (by omega) hpos
      have hS' : D_ E 137 [.ref t] (tw σ t (um (um M' 16 wy) 17 (fun _ => nI cc))) = some (.inl (some (.int (alo_ (rf_ (M' 1) (err_ (M' 1) n s) s) (pth_ (M 1) n s a b) (nI 0)))), tw σ t (um (um M' 16 wy) 17 (fun _ => nI cc))) := hS
      rw [m1] at hS'
      rw [if_pos c1]
      simp (disch := omega) only [l166, b166_0, K166_0, b166_1, K166_1, b166_2, K166_2, b166_3, K166_3, R_cons, go_nx, go_jp, go_rt, go_th, go_ca, go_no, go_ite, rr_v, rr_n, rr_x, hx_n, hx_p, hx_b, I_push, I_pushl, I_fc0, I_fc1, I_dc0, I_null, I_mask, I_iload, I_lload, I_dload, I_fload, I_aload, I_istore, I_lstore, I_dstore, I_fstore, I_astore, I_iinc, I_iadd, I_isub, I_imul, I_iand, I_ior, I_ixor, I_ishl, I_ishr, I_iushr, I_ineg, I_ladd, I_lsub, I_lmul, I_lxor, I_i2l, I_l2i, I_i2b, I_i2c, I_i2f, I_i2d, I_lcmp, I_fdiv, I_ddiv, I_f2d, I_dcmp, I_dup, I_pop, I_dup_x1, I_dup2, I_icne, I_iceq, I_iclt, I_icge, I_icgt, I_icle, I_ifnull, I_ifnonnull, I_ane, I_aeq, I_goto, I_tsw, I_lsw, I_iret, I_lret, I_fret, I_dret, I_vret, I_nret, I_aret, I_iald, I_bald, I_lald, I_aald, I_iast, I_bast, I_last, I_aast, I_alen, I_new, I_val, I_cast, I_inst, I_obj, I_throw, I_mkx, I_getf, I_putf, I_call, I_calli, I_callv, I_acopy, I_clone, I_getc, i_ifeq, i_ifne, i_iflt, i_ifge, i_ifgt, i_ifle, i_idiv, i_irem, i_newa, i_newo, i_abs, i_max, i_min, i_ldiv, en_, es_i, es_r, es_0, es_n, es_l, List.length_cons, List.length_nil, List.cons_append, List.nil_append, Nat.reduceAdd, Nat.reduceSub, List.replicate, lg_, st1_, st2_, cn_, nl_, mk_, pk_, kd_, sl_, la_, ft_a, ft_i, ft_l, ft_o, ft_n, ft_b0, ft_b1, ft_bI, nr_0, nr_1, nr_bI, ro_, no_, if_true, if_false, ite_true, ite_false, reduceIte, Nat.reduceMod, Nat.reduceEqDiff, Nat.zero_add, Nat.add_zero, lk_, tw_t, tw_1, tw_2, tw_3, tw_4, tw_5, tw_6, tw_9, tw_11, tw_12, tw_13, tw_14, tw_15, tw_16, tw_18, tw_19, tw_30, tg_0, tg_1, tg_2, tg_3, tg_4, tg_5, tg_6, tg_7, tg_8, tg_9, tg_10, tg_11, tg_12, tg_13, tg_14, tg_15, tg_16, tg_17, tg_18, tg_19, tg_20, tg_21, tg_22, tg_23, tg_24, tg_25, tg_26, tg_27, tg_28, tg_29, tg_30, tg_31, ts_0, ts_1, ts_2, ts_3, ts_4, ts_5, ts_6, ts_7, ts_8, ts_9, ts_10, ts_11, ts_12, ts_13, ts_14, ts_15, ts_16, ts_17, ts_18, ts_19, ts_20, ts_21, ts_22, ts_23, ts_24, ts_25, ts_26, ts_27, ts_28, ts_29, ts_30, ts_31, lit_, nI_add, nI_mul, ix_nI, hA, T_is1, h1, g1, hS', hne]
    · have c1' : bI (prt_ (M 1) n s a = prt_ (M 1) n s b) = nI 0 := by rw [bI_0]; exact c1
      rw [c1'] at g1
      rw [if_neg c1]
      simp (disch := omega) only [l166, b166_0, K166_0, b166_1, K166_1, b166_2, K166_2, b166_3, K166_3, R_cons, go_nx, go_jp, go_rt, go_th, go_ca, go_no, go_ite, rr_v, rr_n, rr_x, hx_n, hx_p, hx_b, I_push, I_pushl, I_fc0, I_fc1, I_dc0, I_null, I_mask, I_iload, I_lload, I_dload, I_fload, I_aload, I_istore, I_lstore, I_dstore, I_fstore, I_astore, I_iinc, I_iadd, I_isub, I_imul, I_iand, I_ior, I_ixor, I_ishl, I_ishr, I_iushr, I_ineg, I_ladd, I_lsub, I_lmul, I_lxor, I_i2l, I_l2i, I_i2b, I_i2c, I_i2f, I_i2d, I_lcmp, I_fdiv, I_ddiv, I_f2d, I_dcmp, I_dup, I_pop, I_dup_x1, I_dup2, I_icne, I_iceq, I_iclt, I_icge, I_icgt, I_icle, I_ifnull, I_ifnonnull, I_ane, I_aeq, I_goto, I_tsw, I_lsw, I_iret, I_lret, I_fret, I_dret, I_vret, I_nret, I_aret, I_iald, I_bald, I_lald, I_aald, I_iast, I_bast, I_last, I_aast, I_alen, I_new, I_val, I_cast, I_inst, I_obj, I_throw, I_mkx, I_getf, I_putf, I_call, I_calli, I_callv, I_acopy, I_clone, I_getc, i_ifeq, i_ifne, i_iflt, i_ifge, i_ifgt, i_ifle, i_idiv, i_irem, i_newa, i_newo, i_abs, i_max, i_min, i_ldiv, en_, es_i, es_r, es_0, es_n, es_l, List.length_cons, List.length_nil, List.cons_append, List.nil_append, Nat.reduceAdd, Nat.reduceSub, List.replicate, lg_, st1_, st2_, cn_, nl_, mk_, pk_, kd_, sl_, la_, ft_a, ft_i, ft_l, ft_o, ft_n, ft_b0, ft_b1, ft_bI, nr_0, nr_1, nr_bI, ro_, no_, if_true, if_false, ite_true, ite_false, reduceIte, Nat.reduceMod, Nat.reduceEqDiff, Nat.zero_add, Nat.add_zero, lk_, tw_t, tw_1, tw_2, tw_3, tw_4, tw_5, tw_6, tw_9, tw_11, tw_12, tw_13, tw_14, tw_15, tw_16, tw_18, tw_19, tw_30, tg_0, tg_1, tg_2, tg_3, tg_4, tg_5, tg_6, tg_7, tg_8, tg_9, tg_10, tg_11, tg_12, tg_13, tg_14, tg_15, tg_16, tg_17, tg_18, tg_19, tg_20, tg_21, tg_22, tg_23, tg_24, tg_25, tg_26, tg_27, tg_28, tg_29, tg_30, tg_31, ts_0, ts_1, ts_2, ts_3, ts_4, ts_5, ts_6, ts_7, ts_8, ts_9, ts_10, ts_11, ts_12, ts_13, ts_14, ts_15, ts_16, ts_17, ts_18, ts_19, ts_20, ts_21, ts_22, ts_23, ts_24, ts_25, ts_26, ts_27, ts_28, ts_29, ts_30, ts_31, lit_, nI_add, nI_mul, ix_nI, hA, T_is1, h1, g1, hne]
  · have e1 : bI (inN_ x n ∧ inN_ y n) = nI 0 := by rw [bI_0]; exact c
    have e2 : bI (¬ (inN_ x n ∧ inN_ y n)) = nI 1 := by rw [bI_1]; exact c
    rw [e1] at hA
    rw [if_neg c, e2]
    refine ⟨um M 0 (fun _ => nI 1), ?_, fun i h0 _ => if_neg h0, rfl⟩
    rw [D_run]
    simp (disch := omega) only [l166, b166_0, K166_0, b166_1, K166_1, b166_2, K166_2, b166_3, K166_3, R_cons, go_nx, go_jp, go_rt, go_th, go_ca, go_no, go_ite, rr_v, rr_n, rr_x, hx_n, hx_p, hx_b, I_push, I_pushl, I_fc0, I_fc1, I_dc0, I_null, I_mask, I_iload, I_lload, I_dload, I_fload, I_aload, I_istore, I_lstore, I_dstore, I_fstore, I_astore, I_iinc, I_iadd, I_isub, I_imul, I_iand, I_ior, I_ixor, I_ishl, I_ishr, I_iushr, I_ineg, I_ladd, I_lsub, I_lmul, I_lxor, I_i2l, I_l2i, I_i2b, I_i2c, I_i2f, I_i2d, I_lcmp, I_fdiv, I_ddiv, I_f2d, I_dcmp, I_dup, I_pop, I_dup_x1, I_dup2, I_icne, I_iceq, I_iclt, I_icge, I_icgt, I_icle, I_ifnull, I_ifnonnull, I_ane, I_aeq, I_goto, I_tsw, I_lsw, I_iret, I_lret, I_fret, I_dret, I_vret, I_nret, I_aret, I_iald, I_bald, I_lald, I_aald, I_iast, I_bast, I_last, I_aast, I_alen, I_new, I_val, I_cast, I_inst, I_obj, I_throw, I_mkx, I_getf, I_putf, I_call, I_calli, I_callv, I_acopy, I_clone, I_getc, i_ifeq, i_ifne, i_iflt, i_ifge, i_ifgt, i_ifle, i_idiv, i_irem, i_newa, i_newo, i_abs, i_max, i_min, i_ldiv, en_, es_i, es_r, es_0, es_n, es_l, List.length_cons, List.length_nil, List.cons_append, List.nil_append, Nat.reduceAdd, Nat.reduceSub, List.replicate, lg_, st1_, st2_, cn_, nl_, mk_, pk_, kd_, sl_, la_, ft_a, ft_i, ft_l, ft_o, ft_n, ft_b0, ft_b1, ft_bI, nr_0, nr_1, nr_bI, ro_, no_, if_true, if_false, ite_true, ite_false, reduceIte, Nat.reduceMod, Nat.reduceEqDiff, Nat.zero_add, Nat.add_zero, lk_, tw_t, tw_1, tw_2, tw_3, tw_4, tw_5, tw_6, tw_9, tw_11, tw_12, tw_13, tw_14, tw_15, tw_16, tw_18, tw_19, tw_30, tg_0, tg_1, tg_2, tg_3, tg_4, tg_5, tg_6, tg_7, tg_8, tg_9, tg_10, tg_11, tg_12, tg_13, tg_14, tg_15, tg_16, tg_17, tg_18, tg_19, tg_20, tg_21, tg_22, tg_23, tg_24, tg_25, tg_26, tg_27, tg_28, tg_29, tg_30, tg_31, ts_0, ts_1, ts_2, ts_3, ts_4, ts_5, ts_6, ts_7, ts_8, ts_9, ts_10, ts_11, ts_12, ts_13, ts_14, ts_15, ts_16, ts_17, ts_18, ts_19, ts_20, ts_21, ts_22, ts_23, ts_24, ts_25, ts_26, ts_27, ts_28, ts_29, ts_30, ts_31, lit_, nI_add, nI_mul, ix_nI, hA, T_is0]
end TWY
