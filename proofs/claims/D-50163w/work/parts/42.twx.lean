/-- a question leaves the rows that count as they were -/
def qf_ (M M' : Nat → Nat → Int32) : Prop := ∀ i, i ≠ 0 → ¬ (9 ≤ i ∧ i ≤ 18) → M' i = M i
section TWX
variable {E : En_} {σ : As_} {t : Nat} {M : Nat → Nat → Int32}
theorem qf_sm1 {x : Int32} {M' : Nat → Nat → Int32} (h : sm1_ (um M 0 (fun _ => x)) M') : qf_ M M' ∧ M' 0 0 = x := by
  refine ⟨fun i h0 h1 => ?_, ?_⟩
  · rw [h i (by omega)]
    exact if_neg h0
  · rw [h 0 (by omega)]; rfl
theorem qf_sW {M M' M'' : Nat → Nat → Int32} {x : Int32} (h : qf_ M M' ∧ M' 0 0 = x) (h2 : sW_ M' M'') : qf_ M M'' ∧ M'' 0 0 = x :=
  ⟨fun i h0 h1 => (h2 i (by omega) (by omega)).trans (h.1 i h0 h1), by rw [h2 0 (by decide) (by decide)]; exact h.2⟩
/-- the check of a mark's number, then all is reckoned -/
theorem T_ckMark {n s : Nat} {x : Int32} (hW : Wr_ (M 1) n s) (c : inN_ x n) : D_ E 97 [.ref t, .int (nI 1)] (tw σ t M) = some (.inl (some (.int (nI 1))), tw σ t (um M 0 (fun _ => nI 0))) := by
  have hI := T_is (E := E) (σ := σ) (t := t) (M := M) (p := inN_ x n)
  have e1 : bI (inN_ x n) = nI 1 := by rw [bI_1]; exact c
  have e2 : bI (¬ inN_ x n) = nI 0 := by rw [bI_0]; exact fun h => h c
  rw [e1, e2] at hI
  exact hI
theorem T_is0 : D_ E 97 [.ref t, .int (nI 0)] (tw σ t M) = some (.inl (some (.int (nI 0))), tw σ t (um M 0 (fun _ => nI 1))) := by
  have hI := T_is (E := E) (σ := σ) (t := t) (M := M) (p := False)
  exact hI
theorem T_is1 : D_ E 97 [.ref t, .int (nI 1)] (tw σ t M) = some (.inl (some (.int (nI 1))), tw σ t (um M 0 (fun _ => nI 0))) := by
  have hI := T_is (E := E) (σ := σ) (t := t) (M := M) (p := True)
  exact hI
theorem T_may0 {x : Int32} : D_ E 151 [.ref t, .int (nI 0), .int x] (tw σ t M) = some (.inl (some (.int (nI 0))), tw σ t (um M 0 (fun _ => x))) := by
  have hI := T_may (E := E) (σ := σ) (t := t) (M := M) (p := False) (x := x)
  exact hI
theorem T_may1 {x : Int32} : D_ E 151 [.ref t, .int (nI 1), .int x] (tw σ t M) = some (.inl (some (.int (nI 1))), tw σ t (um M 0 (fun _ => nI 0))) := by
  have hI := T_may (E := E) (σ := σ) (t := t) (M := M) (p := True) (x := x)
  exact hI
/-- the rise of an edge, or none -/
def risq_ (r : Nat → Int32) (n s a b : Nat) : Int32 := if edg_ r s a b then rf_ r (err_ r n s) s a b else NOH
theorem T_rise {n s : Nat} {x y : Int32} (hW : Wr_ (M 1) n s) : ∃ M', D_ E 161 [.ref t, .int x, .int y] (tw σ t M) = some (.inl (some (.int (if inN_ x n ∧ inN_ y n then risq_ (M 1) n s x.toNatClampNeg y.toNatClampNeg else nI 0))), tw σ t M') ∧ qf_ M M' ∧ M' 0 0 = bI (¬ (inN_ x n ∧ inN_ y n)) := by
  have hA := T_areMarks (E := E) (σ := σ) (t := t) (M := M) (x := x) (y := y) hW
  have h12 := wr_n12 hW
  have hne : ¬ nI 1 = nI 0 := by decide
  by_cases c : inN_ x n ∧ inN_ y n
  · have e1 : bI (inN_ x n ∧ inN_ y n) = nI 1 := by rw [bI_1]; exact c
    have e2 : bI (¬ (inN_ x n ∧ inN_ y n)) = nI 0 := by rw [bI_0]; exact fun h => h c
    rw [e1] at hA
    rw [if_pos c, e2]
    obtain ⟨a, ha, rfl⟩ := inN_nI c.1
    obtain ⟨b, hb, rfl⟩ := inN_nI c.2
    rw [nI_clamp (by omega), nI_clamp (by omega)]
    obtain ⟨M', h1, h2, h3⟩ := T_reckons (E := E) (σ := σ) (t := t) (M := um M 0 (fun _ => nI 0)) (n := n) (s := s) hW
    have m1 : M' 1 = M 1 := h2 1 (Or.inl (by decide))
    have hW' : Wr_ (M' 1) n s := by rw [m1]; exact hW
    have hE := T_isEdge (E := E) (σ := σ) (t := t) hW' h3.1 ha hb
    have hR := T_riseFrom (E := E) (σ := σ) (t := t) hW' h3.1 ha hb
    rw [m1] at hE hR
    refine ⟨M', ?_, qf_sm1 h2⟩
    unfold risq_
    rw [D_run]
    by_cases c1 : edg_ (M 1) s a b
    · have c1' : bI (edg_ (M 1) s a b) = nI 1 := by rw [bI_1]; exact c1
      rw [c1'] at hE
      rw [if_pos c1]
      simp (disch := omega) only [l161, b161_0, K161_0, b161_1, K161_1, b161_2, K161_2, b161_3, K161_3, R_cons, go_nx, go_jp, go_rt, go_th, go_ca, go_no, go_ite, rr_v, rr_n, rr_x, hx_n, hx_p, hx_b, I_push, I_pushl, I_fc0, I_fc1, I_dc0, I_null, I_mask, I_iload, I_lload, I_dload, I_fload, I_aload, I_istore, I_lstore, I_dstore, I_fstore, I_astore, I_iinc, I_iadd, I_isub, I_imul, I_iand, I_ior, I_ixor, I_ishl, I_ishr, I_iushr, I_ineg, I_ladd, I_lsub, I_lmul, I_lxor, I_i2l, I_l2i, I_i2b, I_i2c, I_i2f, I_i2d, I_lcmp, I_fdiv, I_ddiv, I_f2d, I_dcmp, I_dup, I_pop, I_dup_x1, I_dup2, I_icne, I_iceq, I_iclt, I_icge, I_icgt, I_icle, I_ifnull, I_ifnonnull, I_ane, I_aeq, I_goto, I_tsw, I_lsw, I_iret, I_lret, I_fret, I_dret, I_vret, I_nret, I_aret, I_iald, I_bald, I_lald, I_aald, I_iast, I_bast, I_last, I_aast, I_alen, I_new, I_val, I_cast, I_inst, I_obj, I_throw, I_mkx, I_getf, I_putf, I_call, I_calli, I_callv, I_acopy, I_clone, I_getc, i_ifeq, i_ifne, i_iflt, i_ifge, i_ifgt, i_ifle, i_idiv, i_irem, i_newa, i_newo, i_abs, i_max, i_min, i_ldiv, en_, es_i, es_r, es_0, es_n, es_l, List.length_cons, List.length_nil, List.cons_append, List.nil_append, Nat.reduceAdd, Nat.reduceSub, List.replicate, lg_, st1_, st2_, cn_, nl_, mk_, pk_, kd_, sl_, la_, ft_a, ft_i, ft_l, ft_o, ft_n, ft_b0, ft_b1, ft_bI, nr_0, nr_1, nr_bI, ro_, no_, if_true, if_false, ite_true, ite_false, reduceIte, Nat.reduceMod, Nat.reduceEqDiff, Nat.zero_add, Nat.add_zero, lk_, tw_t, tw_1, tw_2, tw_3, tw_4, tw_5, tw_6, tw_9, tw_11, tw_12, tw_13, tw_14, tw_15, tw_16, tw_18, tw_19, tw_30, tg_0, tg_1, tg_2, tg_3, tg_4, tg_5, tg_6, tg_7, tg_8, tg_9, tg_10, tg_11, tg_12, tg_13, tg_14, tg_15, tg_16, tg_17, tg_18, tg_19, tg_20, tg_21, tg_22, tg_23, tg_24, tg_25, tg_26, tg_27, tg_28, tg_29, tg_30, tg_31, ts_0, ts_1, ts_2, ts_3, ts_4, ts_5, ts_6, ts_7, ts_8, ts_9, ts_10, ts_11, ts_12, ts_13, ts_14, ts_15, ts_16, ts_17, ts_18, ts_19, ts_20, ts_21, ts_22, ts_23, ts_24, ts_25, ts_26, ts_27, ts_28, ts_29, ts_30, ts_31, lit_, nI_add, nI_mul, ix_nI, hA, T_is1, h1, hE, hR, hne]
    · have c1' : bI (edg_ (M 1) s a b) = nI 0 := by rw [bI_0]; exact c1
      rw [c1'] at hE
      rw [if_neg c1]
      simp (disch := omega) only [l161, b161_0, K161_0, b161_1, K161_1, b161_2, K161_2, b161_3, K161_3, R_cons, go_nx, go_jp, go_rt, go_th, go_ca, go_no, go_ite, rr_v, rr_n, rr_x, hx_n, hx_p, hx_b, I_push, I_pushl, I_fc0, I_fc1, I_dc0, I_null, I_mask, I_iload, I_lload, I_dload, I_fload, I_aload, I_istore, I_lstore, I_dstore, I_fstore, I_astore, I_iinc, I_iadd, I_isub, I_imul, I_iand, I_ior, I_ixor, I_ishl, I_ishr, I_iushr, I_ineg, I_ladd, I_lsub, I_lmul, I_lxor, I_i2l, I_l2i, I_i2b, I_i2c, I_i2f, I_i2d, I_lcmp, I_fdiv, I_ddiv, I_f2d, I_dcmp, I_dup, I_pop, I_dup_x1, I_dup2, I_icne, I_iceq, I_iclt, I_icge, I_icgt, I_icle, I_ifnull, I_ifnonnull, I_ane, I_aeq, I_goto, I_tsw, I_lsw, I_iret, I_lret, I_fret, I_dret, I_vret, I_nret, I_aret, I_iald, I_bald, I_lald, I_aald, I_iast, I_bast, I_last, I_aast, I_alen, I_new, I_val, I_cast, I_inst, I_obj, I_throw, I_mkx, I_getf, I_putf, I_call, I_calli, I_callv, I_acopy, I_clone, I_getc, i_ifeq, i_ifne, i_iflt, i_ifge, i_ifgt, i_ifle, i_idiv, i_irem, i_newa, i_newo, i_abs, i_max, i_min, i_ldiv, en_, es_i, es_r, es_0, es_n, es_l, List.length_cons, List.length_nil, List.cons_append, List.nil_append, Nat.reduceAdd, Nat.reduceSub, List.replicate, lg_, st1_, st2_, cn_, nl_, mk_, pk_, kd_, sl_, la_, ft_a, ft_i, ft_l, ft_o, ft_n, ft_b0, ft_b1, ft_bI, nr_0, nr_1, nr_bI, ro_, no_, if_true, if_false, ite_true, ite_false, reduceIte, Nat.reduceMod, Nat.reduceEqDiff, Nat.zero_add, Nat.add_zero, lk_, tw_t, tw_1, tw_2, tw_3, tw_4, tw_5, tw_6, tw_9, tw_11, tw_12, tw_13, tw_14, tw_15, tw_16, tw_18, tw_19, tw_30, tg_0, tg_1, tg_2, tg_3, tg_4, tg_5, tg_6, tg_7, tg_8, tg_9, tg_10, tg_11, tg_12, tg_13, tg_14, tg_15, tg_16, tg_17, tg_18, tg_19, tg_20, tg_21, tg_22, tg_23, tg_24, tg_25, tg_26, tg_27, tg_28, tg_29, tg_30, tg_31, ts_0, ts_1, ts_2, ts_3, ts_4, ts_5, ts_6, ts_7, ts_8, ts_9, ts_10, ts_11, ts_12, ts_13, ts_14, ts_15, ts_16, ts_17, ts_18, ts_19, ts_20, ts_21, ts_22, ts_23, ts_24, ts_25, ts_26, ts_27, ts_28, ts_29, ts_30, ts_31, lit_, nI_add, nI_mul, ix_nI, hA, T_is1, h1, hE, hne]
  · have e1 : bI (inN_ x n ∧ inN_ y n) = nI 0 := by rw [bI_0]; exact c
    have e2 : bI (¬ (inN_ x n ∧ inN_ y n)) = nI 1 := by rw [bI_1]; exact c
    rw [e1] at hA
    rw [if_neg c, e2]
    refine ⟨um M 0 (fun _ => nI 1), ?_, fun i h0 _ => if_neg h0, rfl⟩
    rw [D_run]
    simp (disch := omega) only [l161, b161_0, K161_0, b161_1, K161_1, b161_2, K161_2, b161_3, K161_3, R_cons, go_nx, go_jp, go_rt, go_th, go_ca, go_no, go_ite, rr_v, rr_n, rr_x, hx_n, hx_p, hx_b, I_push, I_pushl, I_fc0, I_fc1, I_dc0, I_null, I_mask, I_iload, I_lload, I_dload, I_fload, I_aload, I_istore, I_lstore, I_dstore, I_fstore, I_astore, I_iinc, I_iadd, I_isub, I_imul, I_iand, I_ior, I_ixor, I_ishl, I_ishr, I_iushr, I_ineg, I_ladd, I_lsub, I_lmul, I_lxor, I_i2l, I_l2i, I_i2b, I_i2c, I_i2f, I_i2d, I_lcmp, I_fdiv, I_ddiv, I_f2d, I_dcmp, I_dup, I_pop, I_dup_x1, I_dup2, I_icne, I_iceq, I_iclt, I_icge, I_icgt, I_icle, I_ifnull, I_ifnonnull, I_ane, I_aeq, I_goto, I_tsw, I_lsw, I_iret, I_lret, I_fret, I_dret, I_vret, I_nret, I_aret, I_iald, I_bald, I_lald, I_aald, I_iast, I_bast, I_last, I_aast, I_alen, I_new, I_val, I_cast, I_inst, I_obj, I_throw, I_mkx, I_getf, I_putf, I_call, I_calli, I_callv, I_acopy, I_clone, I_getc, i_ifeq, i_ifne, i_iflt, i_ifge, i_ifgt, i_ifle, i_idiv, i_irem, i_newa, i_newo, i_abs, i_max, i_min, i_ldiv, en_, es_i, es_r, es_0, es_n, es_l, List.length_cons, List.length_nil, List.cons_append, List.nil_append, Nat.reduceAdd, Nat.reduceSub, List.replicate, lg_, st1_, st2_, cn_, nl_, mk_, pk_, kd_, sl_, la_, ft_a, ft_i, ft_l, ft_o, ft_n, ft_b0, ft_b1, ft_bI, nr_0, nr_1, nr_bI, ro_, no_, if_true, if_false, ite_true, ite_false, reduceIte, Nat.reduceMod, Nat.reduceEqDiff, Nat.zero_add, Nat.add_zero, lk_, tw_t, tw_1, tw_2, tw_3, tw_4, tw_5, tw_6, tw_9, tw_11, tw_12, tw_13, tw_14, tw_15, tw_16, tw_18, tw_19, tw_30, tg_0, tg_1, tg_2, tg_3, tg_4, tg_5, tg_6, tg_7, tg_8, tg_9, tg_10, tg_11, tg_12, tg_13, tg_14, tg_15, tg_16, tg_17, tg_18, tg_19, tg_20, tg_21, tg_22, tg_23, tg_24, tg_25, tg_26, tg_27, tg_28, tg_29, tg_30, tg_31, ts_0, ts_1, ts_2, ts_3, ts_4, ts_5, ts_6, ts_7, ts_8, ts_9, ts_10, ts_11, ts_12, ts_13, ts_14, ts_15, ts_16, ts_17, ts_18, ts_19, ts_20, ts_21, ts_22, ts_23, ts_24, ts_25, ts_26, ts_27, ts_28, ts_29, ts_30, ts_31, lit_, nI_add, nI_mul, ix_nI, hA, T_is0]
end TWX
