/-- an Integer -/
def IV_ (h : Nat → Option Ac_) (x : Nat) (i : Int32) : Prop := ∃ c, h x = some (.inr (c, [.int i])) ∧ c % 100 = 17
theorem IV_mono {h h' : Nat → Option Ac_} {x : Nat} {i : Int32} (hl : le_ h h') (h1 : IV_ h x i) : IV_ h' x i := by
  obtain ⟨c, e1, e2⟩ := h1
  exact ⟨c, hl _ _ e1, e2⟩
/-- the cache of Integers -/
def E45_ (E : En_) (h : Nat → Option Ac_) : Prop := E.2.2.2.1 5 = .int (nI 127) ∧ ∃ c f tt, E.2.2.2.1 4 = .ref c ∧ h c = some (.inl (tt, 256, .inr (.inr (.inr (.inr f))))) ∧ tt % 100 = 5 ∧ ∀ k, k < 256 → ∃ x, f k = some x ∧ IV_ h x (nI k - nI 128)
theorem E45_mono {E : En_} {h h' : Nat → Option Ac_} (hl : le_ h h') (h1 : E45_ E h) : E45_ E h' := by
  obtain ⟨e0, c, f, tt, e1, e2, e3, e4⟩ := h1
  refine ⟨e0, c, f, tt, e1, hl _ _ e2, e3, fun k hk => ?_⟩
  obtain ⟨x, x1, x2⟩ := e4 k hk
  exact ⟨x, x1, IV_mono hl x2⟩
section JLE
variable {E : En_} {σ : As_}
theorem J_valueOf {i : Int32} (h4 : E45_ E σ.2.2) (hw : Hw_ σ) : ∃ σ' x, D_ E 44 [.int i] σ = some (.inl (some (.ref x)), σ') ∧ Fr_ 5 σ σ' ∧ IV_ σ'.2.2 x i := by
  obtain ⟨e0, c, f, tt, e1, e2, e3, e4⟩ := h4
  by_cases c1 : i < -nI 128
  · have hNU : ∀ (z : As_) (y : Nat), D_ E 40 [.ref y] z = some (.inl none, z) := fun z y => by
      rw [D_run]
      simp (disch := omega) only [l40, b40_0, K40_0, R_cons, go_nx, go_jp, go_rt, go_th, go_ca, go_no, go_ite, rr_v, rr_n, rr_x, hx_n, hx_p, hx_b, I_push, I_pushl, I_fc0, I_fc1, I_dc0, I_null, I_mask, I_iload, I_lload, I_dload, I_fload, I_aload, I_istore, I_lstore, I_dstore, I_fstore, I_astore, I_iinc, I_iadd, I_isub, I_imul, I_iand, I_ior, I_ixor, I_ishl, I_ishr, I_iushr, I_ineg, I_ladd, I_lsub, I_lmul, I_lxor, I_i2l, I_l2i, I_i2b, I_i2c, I_i2f, I_i2d, I_lcmp, I_fdiv, I_ddiv, I_f2d, I_dcmp, I_dup, I_pop, I_dup_x1, I_dup2, I_icne, I_iceq, I_iclt, I_icge, I_icgt, I_icle, I_ifnull, I_ifnonnull, I_ane, I_aeq, I_goto, I_lsw, I_iret, I_lret, I_fret, I_dret, I_vret, I_nret, I_aret, I_iald, I_bald, I_lald, I_aald, I_iast, I_bast, I_last, I_aast, I_alen, I_new, I_val, I_cast, I_inst, I_obj, I_throw, I_mkx, I_getf, I_putf, I_call, I_calli, I_callv, I_clone, I_getc, i_ifeq, i_ifne, i_iflt, i_ifge, i_ifgt, i_ifle, i_idiv, i_irem, i_newa, i_newo, i_abs, i_max, i_min, i_ldiv, en_, es_i, es_r, es_0, es_n, es_l, List.length_cons, List.length_nil, List.cons_append, List.nil_append, Nat.reduceAdd, Nat.reduceSub, List.replicate, lg_, st1_, st2_, cn_, nl_, mk_, pk_, kd_, sl_, la_, ft_a, ft_i, ft_l, ft_o, ft_n, ft_b0, ft_b1, ft_bI, nr_0, nr_1, nr_bI, ro_, no_, if_true, if_false, ite_true, ite_false, reduceIte, Nat.reduceMod, Nat.reduceEqDiff, Nat.zero_add, Nat.add_zero, lk_, lit_, nI_add, nI_mul, ix_nI, fgk_0, fgk_1, fgk_2, fgk_3, fgk_4, fgk_5, fgk_6, fgk_7, fgk_8, fgk_9, fgk_10, fgk_11, fgk_12, fgk_13, fsk_0, fsk_1, fsk_2, fsk_3, fsk_4, fsk_5, fsk_6, fsk_7, fsk_8, fsk_9, fsk_10, fsk_11, fsk_12, fsk_13, ca_i, ca_r, ca_n, Nat.reduceLT, true_or, or_true, if_true, false_or, or_false, and_true, true_and, List.mem_singleton, eq_self]
    have hIN : D_ E 45 [.ref σ.1, .int i] (σ.1 + 1, σ.2.1 + 1, up_ σ.2.2 σ.1 (.inr (17, [.int (nI 0)]))) = some (.inl none, (σ.1 + 1, σ.2.1 + 1, up_ σ.2.2 σ.1 (.inr (17, [.int i])))) := by
      rw [D_run]
      simp (disch := omega) only [l45, b45_0, K45_0, R_cons, go_nx, go_jp, go_rt, go_th, go_ca, go_no, go_ite, rr_v, rr_n, rr_x, hx_n, hx_p, hx_b, I_push, I_pushl, I_fc0, I_fc1, I_dc0, I_null, I_mask, I_iload, I_lload, I_dload, I_fload, I_aload, I_istore, I_lstore, I_dstore, I_fstore, I_astore, I_iinc, I_iadd, I_isub, I_imul, I_iand, I_ior, I_ixor, I_ishl, I_ishr, I_iushr, I_ineg, I_ladd, I_lsub, I_lmul, I_lxor, I_i2l, I_l2i, I_i2b, I_i2c, I_i2f, I_i2d, I_lcmp, I_fdiv, I_ddiv, I_f2d, I_dcmp, I_dup, I_pop, I_dup_x1, I_dup2, I_icne, I_iceq, I_iclt, I_icge, I_icgt, I_icle, I_ifnull, I_ifnonnull, I_ane, I_aeq, I_goto, I_lsw, I_iret, I_lret, I_fret, I_dret, I_vret, I_nret, I_aret, I_iald, I_bald, I_lald, I_aald, I_iast, I_bast, I_last, I_aast, I_alen, I_new, I_val, I_cast, I_inst, I_obj, I_throw, I_mkx, I_getf, I_putf, I_call, I_calli, I_callv, I_clone, I_getc, i_ifeq, i_ifne, i_iflt, i_ifge, i_ifgt, i_ifle, i_idiv, i_irem, i_newa, i_newo, i_abs, i_max, i_min, i_ldiv, en_, es_i, es_r, es_0, es_n, es_l, List.length_cons, List.length_nil, List.cons_append, List.nil_append, Nat.reduceAdd, Nat.reduceSub, List.replicate, lg_, st1_, st2_, cn_, nl_, mk_, pk_, kd_, sl_, la_, ft_a, ft_i, ft_l, ft_o, ft_n, ft_b0, ft_b1, ft_bI, nr_0, nr_1, nr_bI, ro_, no_, if_true, if_false, ite_true, ite_false, reduceIte, Nat.reduceMod, Nat.reduceEqDiff, Nat.zero_add, Nat.add_zero, lk_, lit_, nI_add, nI_mul, ix_nI, fgk_0, fgk_1, fgk_2, fgk_3, fgk_4, fgk_5, fgk_6, fgk_7, fgk_8, fgk_9, fgk_10, fgk_11, fgk_12, fgk_13, fsk_0, fsk_1, fsk_2, fsk_3, fsk_4, fsk_5, fsk_6, fsk_7, fsk_8, fsk_9, fsk_10, fsk_11, fsk_12, fsk_13, ca_i, ca_r, ca_n, Nat.reduceLT, true_or, or_true, if_true, false_or, or_false, and_true, true_and, List.mem_singleton, eq_self, hNU, up_s, up_up]
    refine ⟨_, σ.1, ?_, Fr_new (k := 1) (c := .inr (17, [.int i])) hw, 17, up_s _ _ _, by decide⟩
    rw [D_run]
    simp (disch := omega) only [l44, b44_0, K44_0, b44_1, K44_1, R_cons, go_nx, go_jp, go_rt, go_th, go_ca, go_no, go_ite, rr_v, rr_n, rr_x, hx_n, hx_p, hx_b, I_push, I_pushl, I_fc0, I_fc1, I_dc0, I_null, I_mask, I_iload, I_lload, I_dload, I_fload, I_aload, I_istore, I_lstore, I_dstore, I_fstore, I_astore, I_iinc, I_iadd, I_isub, I_imul, I_iand, I_ior, I_ixor, I_ishl, I_ishr, I_iushr, I_ineg, I_ladd, I_lsub, I_lmul, I_lxor, I_i2l, I_l2i, I_i2b, I_i2c, I_i2f, I_i2d, I_lcmp, I_fdiv, I_ddiv, I_f2d, I_dcmp, I_dup, I_pop, I_dup_x1, I_dup2, I_icne, I_iceq, I_iclt, I_icge, I_icgt, I_icle, I_ifnull, I_ifnonnull, I_ane, I_aeq, I_goto, I_lsw, I_iret, I_lret, I_fret, I_dret, I_vret, I_nret, I_aret, I_iald, I_bald, I_lald, I_aald, I_iast, I_bast, I_last, I_aast, I_alen, I_new, I_val, I_cast, I_inst, I_obj, I_throw, I_mkx, I_getf, I_putf, I_call, I_calli, I_callv, I_clone, I_getc, i_ifeq, i_ifne, i_iflt, i_ifge, i_ifgt, i_ifle, i_idiv, i_irem, i_newa, i_newo, i_abs, i_max, i_min, i_ldiv, en_, es_i, es_r, es_0, es_n, es_l, List.length_cons, List.length_nil, List.cons_append, List.nil_append, Nat.reduceAdd, Nat.reduceSub, List.replicate, lg_, st1_, st2_, cn_, nl_, mk_, pk_, kd_, sl_, la_, ft_a, ft_i, ft_l, ft_o, ft_n, ft_b0, ft_b1, ft_bI, nr_0, nr_1, nr_bI, ro_, no_, if_true, if_false, ite_true, ite_false, reduceIte, Nat.reduceMod, Nat.reduceEqDiff, Nat.zero_add, Nat.add_zero, lk_, lit_, nI_add, nI_mul, ix_nI, fgk_0, fgk_1, fgk_2, fgk_3, fgk_4, fgk_5, fgk_6, fgk_7, fgk_8, fgk_9, fgk_10, fgk_11, fgk_12, fgk_13, fsk_0, fsk_1, fsk_2, fsk_3, fsk_4, fsk_5, fsk_6, fsk_7, fsk_8, fsk_9, fsk_10, fsk_11, fsk_12, fsk_13, ca_i, ca_r, ca_n, Nat.reduceLT, true_or, or_true, if_true, false_or, or_false, and_true, true_and, List.mem_singleton, eq_self, c1, hIN]
  · by_cases c2 : nI 127 < i
    · have hNU : ∀ (z : As_) (y : Nat), D_ E 40 [.ref y] z = some (.inl none, z) := fun z y => by
        rw [D_run]
        simp (disch := omega) only [l40, b40_0, K40_0, R_cons, go_nx, go_jp, go_rt, go_th, go_ca, go_no, go_ite, rr_v, rr_n, rr_x, hx_n, hx_p, hx_b, I_push, I_pushl, I_fc0, I_fc1, I_dc0, I_null, I_mask, I_iload, I_lload, I_dload, I_fload, I_aload, I_istore, I_lstore, I_dstore, I_fstore, I_astore, I_iinc, I_iadd, I_isub, I_imul, I_iand, I_ior, I_ixor, I_ishl, I_ishr, I_iushr, I_ineg, I_ladd, I_lsub, I_lmul, I_lxor, I_i2l, I_l2i, I_i2b, I_i2c, I_i2f, I_i2d, I_lcmp, I_fdiv, I_ddiv, I_f2d, I_dcmp, I_dup, I_pop, I_dup_x1, I_dup2, I_icne, I_iceq, I_iclt, I_icge, I_icgt, I_icle, I_ifnull, I_ifnonnull, I_ane, I_aeq, I_goto, I_lsw, I_iret, I_lret, I_fret, I_dret, I_vret, I_nret, I_aret, I_iald, I_bald, I_lald, I_aald, I_iast, I_bast, I_last, I_aast, I_alen, I_new, I_val, I_cast, I_inst, I_obj, I_throw, I_mkx, I_getf, I_putf, I_call, I_calli, I_callv, I_clone, I_getc, i_ifeq, i_ifne, i_iflt, i_ifge, i_ifgt, i_ifle, i_idiv, i_irem, i_newa, i_newo, i_abs, i_max, i_min, i_ldiv, en_, es_i, es_r, es_0, es_n, es_l, List.length_cons, List.length_nil, List.cons_append, List.nil_append, Nat.reduceAdd, Nat.reduceSub, List.replicate, lg_, st1_, st2_, cn_, nl_, mk_, pk_, kd_, sl_, la_, ft_a, ft_i, ft_l, ft_o, ft_n, ft_b0, ft_b1, ft_bI, nr_0, nr_1, nr_bI, ro_, no_, if_true, if_false, ite_true, ite_false, reduceIte, Nat.reduceMod, Nat.reduceEqDiff, Nat.zero_add, Nat.add_zero, lk_, lit_, nI_add, nI_mul, ix_nI, fgk_0, fgk_1, fgk_2, fgk_3, fgk_4, fgk_5, fgk_6, fgk_7, fgk_8, fgk_9, fgk_10, fgk_11, fgk_12, fgk_13, fsk_0, fsk_1, fsk_2, fsk_3, fsk_4, fsk_5, fsk_6, fsk_7, fsk_8, fsk_9, fsk_10, fsk_11, fsk_12, fsk_13, ca_i, ca_r, ca_n, Nat.reduceLT, true_or, or_true, if_true, false_or, or_false, and_true, true_and, List.mem_singleton, eq_self]
      have hIN : D_ E 45 [.ref σ.1, .int i] (σ.1 + 1, σ.2.1 + 1, up_ σ.2.2 σ.1 (.inr (17, [.int (nI 0)]))) = some (.inl none, (σ.1 + 1, σ.2.1 + 1, up_ σ.2.2 σ.1 (.inr (17, [.int i])))) := by
        rw [D_run]
        simp (disch := omega) only [l45, b45_0, K45_0, R_cons, go_nx, go_jp, go_rt, go_th, go_ca, go_no, go_ite, rr_v, rr_n, rr_x, hx_n, hx_p, hx_b, I_push, I_pushl, I_fc0, I_fc1, I_dc0, I_null, I_mask, I_iload, I_lload, I_dload, I_fload, I_aload, I_istore, I_lstore, I_dstore, I_fstore, I_astore, I_iinc, I_iadd, I_isub, I_imul, I_iand, I_ior, I_ixor, I_ishl, I_ishr, I_iushr, I_ineg, I_ladd, I_lsub, I_lmul, I_lxor, I_i2l, I_l2i, I_i2b, I_i2c, I_i2f, I_i2d, I_lcmp, I_fdiv, I_ddiv, I_f2d, I_dcmp, I_dup, I_pop, I_dup_x1, I_dup2, I_icne, I_iceq, I_iclt, I_icge, I_icgt, I_icle, I_ifnull, I_ifnonnull, I_ane, I_aeq, I_goto, I_lsw, I_iret, I_lret, I_fret, I_dret, I_vret, I_nret, I_aret, I_iald, I_bald, I_lald, I_aald, I_iast, I_bast, I_last, I_aast, I_alen, I_new, I_val, I_cast, I_inst, I_obj, I_throw, I_mkx, I_getf, I_putf, I_call, I_calli, I_callv, I_clone, I_getc, i_ifeq, i_ifne, i_iflt, i_ifge, i_ifgt, i_ifle, i_idiv, i_irem, i_newa, i_newo, i_abs, i_max, i_min, i_ldiv, en_, es_i, es_r, es_0, es_n, es_l, List.length_cons, List.length_nil, List.cons_append, List.nil_append, Nat.reduceAdd, Nat.reduceSub, List.replicate, lg_, st1_, st2_, cn_, nl_, mk_, pk_, kd_, sl_, la_, ft_a, ft_i, ft_l, ft_o, ft_n, ft_b0, ft_b1, ft_bI, nr_0, nr_1, nr_bI, ro_, no_, if_true, if_false, ite_true, ite_false, reduceIte, Nat.reduceMod, Nat.reduceEqDiff, Nat.zero_add, Nat.add_zero, lk_, lit_, nI_add, nI_mul, ix_nI, fgk_0, fgk_1, fgk_2, fgk_3, fgk_4, fgk_5, fgk_6, fgk_7, fgk_8, fgk_9, fgk_10, fgk_11, fgk_12, fgk_13, fsk_0, fsk_1, fsk_2, fsk_3, fsk_4, fsk_5, fsk_6, fsk_7, fsk_8, fsk_9, fsk_10, fsk_11, fsk_12, fsk_13, ca_i, ca_r, ca_n, Nat.reduceLT, true_or, or_true, if_true, false_or, or_false, and_true, true_and, List.mem_singleton, eq_self, hNU, up_s, up_up]
      refine ⟨_, σ.1, ?_, Fr_new (k := 1) (c := .inr (17, [.int i])) hw, 17, up_s _ _ _, by decide⟩
      rw [D_run]
      simp (disch := omega) only [l44, b44_0, K44_0, b44_1, K44_1, R_cons, go_nx, go_jp, go_rt, go_th, go_ca, go_no, go_ite, rr_v, rr_n, rr_x, hx_n, hx_p, hx_b, I_push, I_pushl, I_fc0, I_fc1, I_dc0, I_null, I_mask, I_iload, I_lload, I_dload, I_fload, I_aload, I_istore, I_lstore, I_dstore, I_fstore, I_astore, I_iinc, I_iadd, I_isub, I_imul, I_iand, I_ior, I_ixor, I_ishl, I_ishr, I_iushr, I_ineg, I_ladd, I_lsub, I_lmul, I_lxor, I_i2l, I_l2i, I_i2b, I_i2c, I_i2f, I_i2d, I_lcmp, I_fdiv, I_ddiv, I_f2d, I_dcmp, I_dup, I_pop, I_dup_x1, I_dup2, I_icne, I_iceq, I_iclt, I_icge, I_icgt, I_icle, I_ifnull, I_ifnonnull, I_ane, I_aeq, I_goto, I_lsw, I_iret, I_lret, I_fret, I_dret, I_vret, I_nret, I_aret, I_iald, I_bald, I_lald, I_aald, I_iast, I_bast, I_last, I_aast, I_alen, I_new, I_val, I_cast, I_inst, I_obj, I_throw, I_mkx, I_getf, I_putf, I_call, I_calli, I_callv, I_clone, I_getc, i_ifeq, i_ifne, i_iflt, i_ifge, i_ifgt, i_ifle, i_idiv, i_irem, i_newa, i_newo, i_abs, i_max, i_min, i_ldiv, en_, es_i, es_r, es_0, es_n, es_l, List.length_cons, List.length_nil, List.cons_append, List.nil_append, Nat.reduceAdd, Nat.reduceSub, List.replicate, lg_, st1_, st2_, cn_, nl_, mk_, pk_, kd_, sl_, la_, ft_a, ft_i, ft_l, ft_o, ft_n, ft_b0, ft_b1, ft_bI, nr_0, nr_1, nr_bI, ro_, no_, if_true, if_false, ite_true, ite_false, reduceIte, Nat.reduceMod, Nat.reduceEqDiff, Nat.zero_add, Nat.add_zero, lk_, lit_, nI_add, nI_mul, ix_nI, fgk_0, fgk_1, fgk_2, fgk_3, fgk_4, fgk_5, fgk_6, fgk_7, fgk_8, fgk_9, fgk_10, fgk_11, fgk_12, fgk_13, fsk_0, fsk_1, fsk_2, fsk_3, fsk_4, fsk_5, fsk_6, fsk_7, fsk_8, fsk_9, fsk_10, fsk_11, fsk_12, fsk_13, ca_i, ca_r, ca_n, Nat.reduceLT, true_or, or_true, if_true, false_or, or_false, and_true, true_and, List.mem_singleton, eq_self, c1, e0, c2, hIN]
    · have l1 : -128 ≤ i.toInt := by
        rw [Int32.lt_iff_toInt_lt] at c1
        have : (-nI 128).toInt = -128 := by decide
        omega
      have l2 : i.toInt ≤ 127 := by
        rw [Int32.lt_iff_toInt_lt] at c2
        have : (nI 127).toInt = 127 := by decide
        omega
      obtain ⟨k, hk⟩ : ∃ k : Nat, (k : Int) = i.toInt + 128 := ⟨(i.toInt + 128).toNat, by omega⟩
      have ek : i + nI 128 = nI k := by
        apply Int32.toInt_inj.mp
        rw [Int32.toInt_add, nI_toInt (by decide), nI_toInt (by omega), Int.bmod_eq_of_le (by omega) (by omega)]
        omega
      obtain ⟨x, x1, x2⟩ := e4 k (by omega)
      have ei : nI k - nI 128 = i := by rw [← ek]; exact Int32.add_sub_cancel _ _
      rw [ei] at x2
      refine ⟨σ, x, ?_, Fr_rfl hw, x2⟩
      rw [D_run]
      simp (disch := omega) only [l44, b44_0, K44_0, b44_1, K44_1, R_cons, go_nx, go_jp, go_rt, go_th, go_ca, go_no, go_ite, rr_v, rr_n, rr_x, hx_n, hx_p, hx_b, I_push, I_pushl, I_fc0, I_fc1, I_dc0, I_null, I_mask, I_iload, I_lload, I_dload, I_fload, I_aload, I_istore, I_lstore, I_dstore, I_fstore, I_astore, I_iinc, I_iadd, I_isub, I_imul, I_iand, I_ior, I_ixor, I_ishl, I_ishr, I_iushr, I_ineg, I_ladd, I_lsub, I_lmul, I_lxor, I_i2l, I_l2i, I_i2b, I_i2c, I_i2f, I_i2d, I_lcmp, I_fdiv, I_ddiv, I_f2d, I_dcmp, I_dup, I_pop, I_dup_x1, I_dup2, I_icne, I_iceq, I_iclt, I_icge, I_icgt, I_icle, I_ifnull, I_ifnonnull, I_ane, I_aeq, I_goto, I_lsw, I_iret, I_lret, I_fret, I_dret, I_vret, I_nret, I_aret, I_iald, I_bald, I_lald, I_aald, I_iast, I_bast, I_last, I_aast, I_alen, I_new, I_val, I_cast, I_inst, I_obj, I_throw, I_mkx, I_getf, I_putf, I_call, I_calli, I_callv, I_clone, I_getc, i_ifeq, i_ifne, i_iflt, i_ifge, i_ifgt, i_ifle, i_idiv, i_irem, i_newa, i_newo, i_abs, i_max, i_min, i_ldiv, en_, es_i, es_r, es_0, es_n, es_l, List.length_cons, List.length_nil, List.cons_append, List.nil_append, Nat.reduceAdd, Nat.reduceSub, List.replicate, lg_, st1_, st2_, cn_, nl_, mk_, pk_, kd_, sl_, la_, ft_a, ft_i, ft_l, ft_o, ft_n, ft_b0, ft_b1, ft_bI, nr_0, nr_1, nr_bI, ro_, no_, if_true, if_false, ite_true, ite_false, reduceIte, Nat.reduceMod, Nat.reduceEqDiff, Nat.zero_add, Nat.add_zero, lk_, lit_, nI_add, nI_mul, ix_nI, fgk_0, fgk_1, fgk_2, fgk_3, fgk_4, fgk_5, fgk_6, fgk_7, fgk_8, fgk_9, fgk_10, fgk_11, fgk_12, fgk_13, fsk_0, fsk_1, fsk_2, fsk_3, fsk_4, fsk_5, fsk_6, fsk_7, fsk_8, fsk_9, fsk_10, fsk_11, fsk_12, fsk_13, ca_i, ca_r, ca_n, Nat.reduceLT, true_or, or_true, if_true, false_or, or_false, and_true, true_and, List.mem_singleton, eq_self, c1, e0, c2, e1, e2, e3, ek, ix_nI, x1, va_rf_s]
theorem J_intValue {x : Nat} {i : Int32} (h : IV_ σ.2.2 x i) : D_ E 43 [.ref x] σ = some (.inl (some (.int i)), σ) := by
  obtain ⟨c, e1, e2⟩ := h
  rw [D_run]
  simp (disch := omega) only [l43, b43_0, K43_0, R_cons, go_nx, go_jp, go_rt, go_th, go_ca, go_no, go_ite, rr_v, rr_n, rr_x, hx_n, hx_p, hx_b, I_push, I_pushl, I_fc0, I_fc1, I_dc0, I_null, I_mask, I_iload, I_lload, I_dload, I_fload, I_aload, I_istore, I_lstore, I_dstore, I_fstore, I_astore, I_iinc, I_iadd, I_isub, I_imul, I_iand, I_ior, I_ixor, I_ishl, I_ishr, I_iushr, I_ineg, I_ladd, I_lsub, I_lmul, I_lxor, I_i2l, I_l2i, I_i2b, I_i2c, I_i2f, I_i2d, I_lcmp, I_fdiv, I_ddiv, I_f2d, I_dcmp, I_dup, I_pop, I_dup_x1, I_dup2, I_icne, I_iceq, I_iclt, I_icge, I_icgt, I_icle, I_ifnull, I_ifnonnull, I_ane, I_aeq, I_goto, I_lsw, I_iret, I_lret, I_fret, I_dret, I_vret, I_nret, I_aret, I_iald, I_bald, I_lald, I_aald, I_iast, I_bast, I_last, I_aast, I_alen, I_new, I_val, I_cast, I_inst, I_obj, I_throw, I_mkx, I_getf, I_putf, I_call, I_calli, I_callv, I_clone, I_getc, i_ifeq, i_ifne, i_iflt, i_ifge, i_ifgt, i_ifle, i_idiv, i_irem, i_newa, i_newo, i_abs, i_max, i_min, i_ldiv, en_, es_i, es_r, es_0, es_n, es_l, List.length_cons, List.length_nil, List.cons_append, List.nil_append, Nat.reduceAdd, Nat.reduceSub, List.replicate, lg_, st1_, st2_, cn_, nl_, mk_, pk_, kd_, sl_, la_, ft_a, ft_i, ft_l, ft_o, ft_n, ft_b0, ft_b1, ft_bI, nr_0, nr_1, nr_bI, ro_, no_, if_true, if_false, ite_true, ite_false, reduceIte, Nat.reduceMod, Nat.reduceEqDiff, Nat.zero_add, Nat.add_zero, lk_, lit_, nI_add, nI_mul, ix_nI, fgk_0, fgk_1, fgk_2, fgk_3, fgk_4, fgk_5, fgk_6, fgk_7, fgk_8, fgk_9, fgk_10, fgk_11, fgk_12, fgk_13, fsk_0, fsk_1, fsk_2, fsk_3, fsk_4, fsk_5, fsk_6, fsk_7, fsk_8, fsk_9, fsk_10, fsk_11, fsk_12, fsk_13, ca_i, ca_r, ca_n, Nat.reduceLT, true_or, or_true, if_true, false_or, or_false, and_true, true_and, List.mem_singleton, eq_self, e1, e2]
/-- all cells but a and Object[]s are kept -/
def Ay_ (σ σ' : As_) (a : Nat) : Prop := ∀ b c, σ.2.2 b = some c → b ≠ a → (∀ n q, c ≠ .inl (4, n, q)) → σ'.2.2 b = some c
theorem Ax_Ay {σ' : As_} {a e e' : Nat} {mc : Int32} {xs : List Nat} (hL : Ls_ E σ.2.2 a mc e xs) (h : Ax_ E σ σ' a e e') : Ay_ σ σ' a := by
  intro b c hb hba hc
  obtain ⟨cap, f, tt, h1, h2, h3, h4, h5, h6, h7, h8⟩ := hL
  refine h.2.2.2 b c hb hba ?_
  by_cases q : b = e
  · right
    rcases h8 with ⟨rfl, _, _⟩ | ⟨_, _, q2⟩
    · rw [q, h2] at hb
      cases hb
      exact absurd rfl (hc _ _)
    · exact q2
  · exact Or.inl q
/-- a list of Integers that is younger than h0 -/
def IL_ (E : En_) (h0 : Nat → Option Ac_) (σ : As_) (a : Nat) (l : List Int32) : Prop :=
  ∃ mc e xs, Ls_ E σ.2.2 a mc e xs ∧ xs.length = l.length ∧ (∀ (j x : Nat), xs[j]? = some x → ∃ v, l[j]? = some v ∧ IV_ σ.2.2 x v) ∧ h0 a = none ∧ (h0 e = none ∨ E.2.2.2.1 7 = .ref e) ∧ le_ h0 σ.2.2 ∧ Hw_ σ
theorem IL_fr {h0 : Nat → Option Ac_} {σ' : As_} {a c : Nat} {l : List Int32} (h : IL_ E h0 σ a l) (hf : Fr_ c σ σ') : IL_ E h0 σ' a l := by
  obtain ⟨mc, e, xs, h1, h2, h3, h4, h5, h6, h7⟩ := h
  refine ⟨mc, e, xs, Ls_mono hf.1 h1, h2, fun j x hj => ?_, h4, h5, le_trans h6 hf.1, hf.2.2.2.2⟩
  obtain ⟨v, v1, v2⟩ := h3 j x hj
  exact ⟨v, v1, IV_mono hf.1 v2⟩
theorem IL_size {h0 : Nat → Option Ac_} {a : Nat} {l : List Int32} (h : IL_ E h0 σ a l) : D_ E 26 [.ref a] σ = some (.inl (some (.int (nI l.length))), σ) := by
  obtain ⟨mc, e, xs, h1, h2, h3⟩ := h
  rw [J_size h1, h2]
theorem IL_get {h0 : Nat → Option Ac_} {a k : Nat} {l : List Int32} (h : IL_ E h0 σ a l) (hk : k < l.length) : ∃ x, D_ E 27 [.ref a, .int (nI k)] σ = some (.inl (some (.ref x)), σ) ∧ IV_ σ.2.2 x l[k] := by
  obtain ⟨mc, e, xs, h1, h2, h3, _⟩ := h
  have hk' : k < xs.length := by omega
  refine ⟨xs[k], J_get h1 hk', ?_⟩
  obtain ⟨v, v1, v2⟩ := h3 k _ (List.getElem?_eq_getElem hk')
  rw [List.getElem?_eq_getElem hk] at v1
  cases v1
  exact v2
theorem IL_new {h0 : Nat → Option Ac_} {a : Nat} {c0 c1 : Value} (hd : E7_ E h0) (hl : le_ h0 σ.2.2) (hw : Hw_ σ) (h0a : h0 a = none) (h : σ.2.2 a = some (.inr (11, [c0, c1, .int (nI 0)]))) : ∃ d, D_ E 25 [.ref a] σ = some (.inl none, (σ.1, σ.2.1, up_ σ.2.2 a (.inr (11, [.int (nI 0), .ref d, .int (nI 0)])))) ∧ IL_ E h0 (σ.1, σ.2.1, up_ σ.2.2 a (.inr (11, [.int (nI 0), .ref d, .int (nI 0)]))) a [] := by
  obtain ⟨d, d1, d2, d3⟩ := J_newL (E := E) (E7_mono hl hd) hw h
  exact ⟨d, d2, nI 0, d, [], d3, rfl, fun j x hj => by simp at hj, h0a, Or.inr d1, le_up h0a hl, Hw_put hw h⟩
def inV_ (l : List Int32) (k : Nat) (v : Int32) : List Int32 := l.take k ++ v :: l.drop k
theorem inV_get {xs : List Nat} {l : List Int32} {k v : Nat} {i : Int32} {P : Nat → Int32 → Prop} (hlen : xs.length = l.length) (hk : k ≤ l.length) (h : ∀ (j x : Nat), xs[j]? = some x → ∃ v, l[j]? = some v ∧ P x v) (hv : P v i) {j x : Nat} (hj : (inA_ xs k v)[j]? = some x) : ∃ u, (inV_ l k i)[j]? = some u ∧ P x u := by
  unfold inA_ at hj
  unfold inV_
  have ht : (xs.take k).length = k := by rw [List.length_take]; omega
  have ht2 : (l.take k).length = k := by rw [List.length_take]; omega
  by_cases c : j < k
  · rw [List.getElem?_append_left (by omega), List.getElem?_take, if_pos c] at hj
    rw [List.getElem?_append_left (by omega), List.getElem?_take, if_pos c]
    exact h j x hj
  · rw [List.getElem?_append_right (by omega), ht] at hj
    rw [List.getElem?_append_right (by omega), ht2]
    cases hq : j - k with
    | zero =>
      rw [hq] at hj
      cases hj
      exact ⟨i, rfl, hv⟩
    | succ m =>
      rw [hq, List.getElem?_cons_succ, List.getElem?_drop] at hj
      rw [List.getElem?_cons_succ, List.getElem?_drop]
      exact h _ x hj
theorem inV_len {l : List Int32} {k : Nat} {v : Int32} (h : k ≤ l.length) : (inV_ l k v).length = l.length + 1 := by
  unfold inV_
  rw [List.length_append, List.length_cons, List.length_take, List.length_drop]
  omega
theorem IL_addAt {h0 : Nat → Option Ac_} {a k x : Nat} {l : List Int32} {i : Int32} (hd : E7_ E h0) (h : IL_ E h0 σ a l) (hk : k ≤ l.length) (hl : l.length < 400) (hx : IV_ σ.2.2 x i) : ∃ σ', D_ E 35 [.ref a, .int (nI k), .ref x] σ = some (.inl none, σ') ∧ IL_ E h0 σ' a (inV_ l k i) ∧ Ay_ σ σ' a ∧ σ.1 ≤ σ'.1 ∧ 4 * σ'.1 + σ'.2.1 + tot_ l.length ≤ 4 * σ.1 + σ.2.1 + tot_ (l.length + 1) ∧ σ.2.1 ≤ σ'.2.1 := by
  obtain ⟨mc, e, xs, h1, h2, h3, h4, h5, h6, h7⟩ := h
  obtain ⟨cx, x1, x2⟩ := hx
  have h1' := h1
  obtain ⟨cap, f, tt, a1, _⟩ := h1'
  have hne : ∀ y v, IV_ σ.2.2 y v → y ≠ a := fun y v hy q => by
    obtain ⟨c, y1, y2⟩ := hy
    rw [q, a1] at y1
    cases y1
  have hOb : Ob_ σ.2.2 x := ⟨cx, _, x1, by rw [x2]; decide⟩
  obtain ⟨σ', e', g1, g2, g3, g4, g5⟩ := J_addAt (E := E) (k := k) (v := x) (E7_mono h6 hd) h1 h7 (by omega) (by omega) hOb (hne x i ⟨cx, x1, x2⟩) (fun y hy => by
    obtain ⟨j, hj⟩ := List.getElem?_of_mem hy
    obtain ⟨v, _, v2⟩ := h3 j y hj
    exact hne y v v2)
  have hAy := Ax_Ay (E := E) (σ := σ) (mc := mc) (xs := xs) h1 g3
  refine ⟨σ', g1, ⟨mc + nI 1, e', inA_ xs k x, g2, ?_, ?_, h4, ?_, Ax_le g3 h6 h4 h5, g3.1⟩, hAy, g3.2.1, by rw [← h2]; exact g4, g5⟩
  · rw [inA_len (by omega), inV_len hk, h2]
  · intro j y hj
    refine inV_get (P := fun y v => IV_ σ'.2.2 y v) h2 hk (fun j y hj => ?_) ?_ hj
    · obtain ⟨v, v1, c, y1, y2⟩ := h3 j y hj
      exact ⟨v, v1, c, hAy _ _ y1 (hne y v ⟨c, y1, y2⟩) (fun n q => by intro q; cases q), y2⟩
    · exact ⟨cx, hAy _ _ x1 (hne x i ⟨cx, x1, x2⟩) (fun n q => by intro q; cases q), x2⟩
  · rcases g3.2.2.1 with q | ⟨q, _⟩
    · rw [q]; exact h5
    · left
      cases hq : h0 e' with
      | none => rfl
      | some c =>
        have := Hw_lt h7 (h6 _ _ hq)
        omega
end JLE
