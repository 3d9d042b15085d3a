section TWD
theorem and1_0 : nI 0 &&& nI 1 = nI 0 := by decide
theorem and1_1 : nI 1 &&& nI 1 = nI 1 := by decide
variable {E : En_} {σ : As_} {t : Nat} {M : Nat → Nat → Int32}
/-- the error that counts -/
def err_ (r : Nat → Int32) (n s : Nat) : Int32 := if r 6 = nI 1 then r 7 else fnd_ r n s
theorem T_errorNow {n s : Nat} (hW : Wr_ (M 1) n s) : ∃ f, D_ E 104 [.ref t] (tw σ t M) = some (.inl (some (.int (err_ (M 1) n s))), tw σ t (um M 9 f)) := by
  obtain ⟨f, hf⟩ := T_foundError (E := E) (σ := σ) (t := t) hW
  by_cases c : M 1 6 = nI 1
  · refine ⟨M 9, ?_⟩
    rw [D_run, um_id]
    simp (disch := omega) only [l104, b104_0, K104_0, b104_1, K104_1, b104_2, K104_2, R_cons, go_nx, go_jp, go_rt, go_th, go_ca, go_no, go_ite, rr_v, rr_n, rr_x, hx_n, hx_p, hx_b, I_push, I_pushl, I_fc0, I_fc1, I_dc0, I_null, I_mask, I_iload, I_lload, I_dload, I_fload, I_aload, I_istore, I_lstore, I_dstore, I_fstore, I_astore, I_iinc, I_iadd, I_isub, I_imul, I_iand, I_ior, I_ixor, I_ishl, I_ishr, I_iushr, I_ineg, I_ladd, I_lsub, I_lmul, I_lxor, I_i2l, I_l2i, I_i2b, I_i2c, I_i2f, I_i2d, I_lcmp, I_fdiv, I_ddiv, I_f2d, I_dcmp, I_dup, I_pop, I_dup_x1, I_dup2, I_icne, I_iceq, I_iclt, I_icge, I_icgt, I_icle, I_ifnull, I_ifnonnull, I_ane, I_aeq, I_goto, I_tsw, I_lsw, I_iret, I_lret, I_fret, I_dret, I_vret, I_nret, I_aret, I_iald, I_bald, I_lald, I_aald, I_iast, I_bast, I_last, I_aast, I_alen, I_new, I_val, I_cast, I_inst, I_obj, I_throw, I_mkx, I_getf, I_putf, I_call, I_calli, I_callv, I_acopy, I_clone, I_getc, i_ifeq, i_ifne, i_iflt, i_ifge, i_ifgt, i_ifle, i_idiv, i_irem, i_newa, i_newo, i_abs, i_max, i_min, i_ldiv, en_, es_i, es_r, es_0, es_n, es_l, List.length_cons, List.length_nil, List.cons_append, List.nil_append, Nat.reduceAdd, Nat.reduceSub, List.replicate, lg_, st1_, st2_, cn_, nl_, mk_, pk_, kd_, sl_, la_, ft_a, ft_i, ft_l, ft_o, ft_n, ft_b0, ft_b1, ft_bI, nr_0, nr_1, nr_bI, ro_, no_, if_true, if_false, ite_true, ite_false, reduceIte, Nat.reduceMod, Nat.reduceEqDiff, Nat.zero_add, Nat.add_zero, lk_, tw_t, tw_1, tw_2, tw_3, tw_4, tw_5, tw_6, tw_9, tw_11, tw_12, tw_13, tw_14, tw_15, tw_16, tw_18, tw_19, tw_30, tg_0, tg_1, tg_2, tg_3, tg_4, tg_5, tg_6, tg_7, tg_8, tg_9, tg_10, tg_11, tg_12, tg_13, tg_14, tg_15, tg_16, tg_17, tg_18, tg_19, tg_20, tg_21, tg_22, tg_23, tg_24, tg_25, tg_26, tg_27, tg_28, tg_29, tg_30, tg_31, ts_0, ts_1, ts_2, ts_3, ts_4, ts_5, ts_6, ts_7, ts_8, ts_9, ts_10, ts_11, ts_12, ts_13, ts_14, ts_15, ts_16, ts_17, ts_18, ts_19, ts_20, ts_21, ts_22, ts_23, ts_24, ts_25, ts_26, ts_27, ts_28, ts_29, ts_30, ts_31, lit_, nI_add, nI_mul, ix_nI, err_, c, if_true, if_false, not_true_eq_false, not_false_eq_true, Bool.false_eq_true, and_true, true_and, and_false, false_and, or_true, true_or, or_false, false_or, eq_self_iff_true, iff_true, iff_false, true_iff, false_iff, Classical.not_not, reduceIte]
  · refine ⟨f, ?_⟩
    rw [D_run]
    simp (disch := omega) only [l104, b104_0, K104_0, b104_1, K104_1, b104_2, K104_2, R_cons, go_nx, go_jp, go_rt, go_th, go_ca, go_no, go_ite, rr_v, rr_n, rr_x, hx_n, hx_p, hx_b, I_push, I_pushl, I_fc0, I_fc1, I_dc0, I_null, I_mask, I_iload, I_lload, I_dload, I_fload, I_aload, I_istore, I_lstore, I_dstore, I_fstore, I_astore, I_iinc, I_iadd, I_isub, I_imul, I_iand, I_ior, I_ixor, I_ishl, I_ishr, I_iushr, I_ineg, I_ladd, I_lsub, I_lmul, I_lxor, I_i2l, I_l2i, I_i2b, I_i2c, I_i2f, I_i2d, I_lcmp, I_fdiv, I_ddiv, I_f2d, I_dcmp, I_dup, I_pop, I_dup_x1, I_dup2, I_icne, I_iceq, I_iclt, I_icge, I_icgt, I_icle, I_ifnull, I_ifnonnull, I_ane, I_aeq, I_goto, I_tsw, I_lsw, I_iret, I_lret, I_fret, I_dret, I_vret, I_nret, I_aret, I_iald, I_bald, I_lald, I_aald, I_iast, I_bast, I_last, I_aast, I_alen, I_new, I_val, I_cast, I_inst, I_obj, I_throw, I_mkx, I_getf, I_putf, I_call, I_calli, I_callv, I_acopy, I_clone, I_getc, i_ifeq, i_ifne, i_iflt, i_ifge, i_ifgt, i_ifle, i_idiv, i_irem, i_newa, i_newo, i_abs, i_max, i_min, i_ldiv, en_, es_i, es_r, es_0, es_n, es_l, List.length_cons, List.length_nil, List.cons_append, List.nil_append, Nat.reduceAdd, Nat.reduceSub, List.replicate, lg_, st1_, st2_, cn_, nl_, mk_, pk_, kd_, sl_, la_, ft_a, ft_i, ft_l, ft_o, ft_n, ft_b0, ft_b1, ft_bI, nr_0, nr_1, nr_bI, ro_, no_, if_true, if_false, ite_true, ite_false, reduceIte, Nat.reduceMod, Nat.reduceEqDiff, Nat.zero_add, Nat.add_zero, lk_, tw_t, tw_1, tw_2, tw_3, tw_4, tw_5, tw_6, tw_9, tw_11, tw_12, tw_13, tw_14, tw_15, tw_16, tw_18, tw_19, tw_30, tg_0, tg_1, tg_2, tg_3, tg_4, tg_5, tg_6, tg_7, tg_8, tg_9, tg_10, tg_11, tg_12, tg_13, tg_14, tg_15, tg_16, tg_17, tg_18, tg_19, tg_20, tg_21, tg_22, tg_23, tg_24, tg_25, tg_26, tg_27, tg_28, tg_29, tg_30, tg_31, ts_0, ts_1, ts_2, ts_3, ts_4, ts_5, ts_6, ts_7, ts_8, ts_9, ts_10, ts_11, ts_12, ts_13, ts_14, ts_15, ts_16, ts_17, ts_18, ts_19, ts_20, ts_21, ts_22, ts_23, ts_24, ts_25, ts_26, ts_27, ts_28, ts_29, ts_30, ts_31, lit_, nI_add, nI_mul, ix_nI, err_, c, hf, if_true, if_false, not_true_eq_false, not_false_eq_true, Bool.false_eq_true, and_true, true_and, and_false, false_and, or_true, true_or, or_false, false_or, eq_self_iff_true, iff_true, iff_false, true_iff, false_iff, Classical.not_not, reduceIte]
/-- how many sights count on a pair; the sum of their rises -/
def ctp_ (r : Nat → Int32) (p i c : Nat) : Nat := if r (68 + 6 * i + 5) = nI 0 ∧ pas_ r i = p then c + 1 else c
def ct_ (r : Nat → Int32) (s p : Nat) : Nat := fo_ (ctp_ r p) s 0 0
def sup_ (r : Nat → Int32) (e : Int32) (p i : Nat) (x : Int32) : Int32 := if r (68 + 6 * i + 5) = nI 0 ∧ pas_ r i = p then x + (if fr_ r i < to_ r i then ri_ r e i else -ri_ r e i) else x
def su_ (r : Nat → Int32) (e : Int32) (s p : Nat) : Int32 := fo_ (sup_ r e p) s 0 (nI 0)
/-- the rise of an edge -/
def upv_ (r : Nat → Int32) (e : Int32) (s p : Nat) : Int32 := if ct_ r s p = 0 then nI 0 else fdI (su_ r e s p) (nI (ct_ r s p))
/-- its weight -/
def wt_ (r : Nat → Int32) (s a b : Nat) : Int32 := nI (ct_ r s (pa_ a b)) * (nI 1000000 / di_ r a b)
def fe2_ (r : Nat → Int32) (e : Int32) (i : Nat) (x : (Nat → Int32) × (Nat → Int32)) : (Nat → Int32) × (Nat → Int32) :=
  if r (68 + 6 * i + 5) = nI 0 then (upd x.1 (pas_ r i) (x.1 (pas_ r i) + nI 1), upd x.2 (pas_ r i) (x.2 (pas_ r i) + (if fr_ r i < to_ r i then ri_ r e i else -ri_ r e i))) else x
theorem fe_1 : ∀ (d i : Nat) (m u v : Nat → Int32), i + d = 144 →
    R_ E 103 (B_ E 103 1) [some (.ref t), some (.int (nI i)), none, none] [] (tw σ t (um (um (um M 11 m) 12 u) 14 v))
    = R_ E 103 (B_ E 103 2) [some (.ref t), some (.int (nI 144)), none, none] [] (tw σ t (um (um (um M 11 (fo_ (fun j g => upd g j (nI 0)) d i m)) 12 (fo_ (fun j g => upd g j (nI 0)) d i u)) 14 (fo_ (fun j g => upd g j (nI 0)) d i v))) := by
  intro d
  induction d with
  | zero =>
    intro i m u v hi
    obtain rfl : i = 144 := by omega
    conv => lhs; rw [b103_1]
    simp (disch := omega) only [K103_1, R_cons, go_nx, go_jp, go_rt, go_th, go_ca, go_no, go_ite, rr_v, rr_n, rr_x, hx_n, hx_p, hx_b, I_push, I_pushl, I_fc0, I_fc1, I_dc0, I_null, I_mask, I_iload, I_lload, I_dload, I_fload, I_aload, I_istore, I_lstore, I_dstore, I_fstore, I_astore, I_iinc, I_iadd, I_isub, I_imul, I_iand, I_ior, I_ixor, I_ishl, I_ishr, I_iushr, I_ineg, I_ladd, I_lsub, I_lmul, I_lxor, I_i2l, I_l2i, I_i2b, I_i2c, I_i2f, I_i2d, I_lcmp, I_fdiv, I_ddiv, I_f2d, I_dcmp, I_dup, I_pop, I_dup_x1, I_dup2, I_icne, I_iceq, I_iclt, I_icge, I_icgt, I_icle, I_ifnull, I_ifnonnull, I_ane, I_aeq, I_goto, I_tsw, I_lsw, I_iret, I_lret, I_fret, I_dret, I_vret, I_nret, I_aret, I_iald, I_bald, I_lald, I_aald, I_iast, I_bast, I_last, I_aast, I_alen, I_new, I_val, I_cast, I_inst, I_obj, I_throw, I_mkx, I_getf, I_putf, I_call, I_calli, I_callv, I_acopy, I_clone, I_getc, i_ifeq, i_ifne, i_iflt, i_ifge, i_ifgt, i_ifle, i_idiv, i_irem, i_newa, i_newo, i_abs, i_max, i_min, i_ldiv, en_, es_i, es_r, es_0, es_n, es_l, List.length_cons, List.length_nil, List.cons_append, List.nil_append, Nat.reduceAdd, Nat.reduceSub, List.replicate, lg_, st1_, st2_, cn_, nl_, mk_, pk_, kd_, sl_, la_, ft_a, ft_i, ft_l, ft_o, ft_n, ft_b0, ft_b1, ft_bI, nr_0, nr_1, nr_bI, ro_, no_, if_true, if_false, ite_true, ite_false, reduceIte, Nat.reduceMod, Nat.reduceEqDiff, Nat.zero_add, Nat.add_zero, lk_, tw_t, tw_1, tw_2, tw_3, tw_4, tw_5, tw_6, tw_9, tw_11, tw_12, tw_13, tw_14, tw_15, tw_16, tw_18, tw_19, tw_30, tg_0, tg_1, tg_2, tg_3, tg_4, tg_5, tg_6, tg_7, tg_8, tg_9, tg_10, tg_11, tg_12, tg_13, tg_14, tg_15, tg_16, tg_17, tg_18, tg_19, tg_20, tg_21, tg_22, tg_23, tg_24, tg_25, tg_26, tg_27, tg_28, tg_29, tg_30, tg_31, ts_0, ts_1, ts_2, ts_3, ts_4, ts_5, ts_6, ts_7, ts_8, ts_9, ts_10, ts_11, ts_12, ts_13, ts_14, ts_15, ts_16, ts_17, ts_18, ts_19, ts_20, ts_21, ts_22, ts_23, ts_24, ts_25, ts_26, ts_27, ts_28, ts_29, ts_30, ts_31, um_s, um_n, um_um, um_co, um_id, id_eq, lit_, nI_add, nI_mul, ix_nI, nI_leI, Nat.le_refl, fo_]
  | succ d ih =>
    intro i m u v hi
    have hlt : ¬ 144 ≤ i := by omega
    conv => lhs; rw [b103_1]
    simp (disch := omega) only [K103_1, R_cons, go_nx, go_jp, go_rt, go_th, go_ca, go_no, go_ite, rr_v, rr_n, rr_x, hx_n, hx_p, hx_b, I_push, I_pushl, I_fc0, I_fc1, I_dc0, I_null, I_mask, I_iload, I_lload, I_dload, I_fload, I_aload, I_istore, I_lstore, I_dstore, I_fstore, I_astore, I_iinc, I_iadd, I_isub, I_imul, I_iand, I_ior, I_ixor, I_ishl, I_ishr, I_iushr, I_ineg, I_ladd, I_lsub, I_lmul, I_lxor, I_i2l, I_l2i, I_i2b, I_i2c, I_i2f, I_i2d, I_lcmp, I_fdiv, I_ddiv, I_f2d, I_dcmp, I_dup, I_pop, I_dup_x1, I_dup2, I_icne, I_iceq, I_iclt, I_icge, I_icgt, I_icle, I_ifnull, I_ifnonnull, I_ane, I_aeq, I_goto, I_tsw, I_lsw, I_iret, I_lret, I_fret, I_dret, I_vret, I_nret, I_aret, I_iald, I_bald, I_lald, I_aald, I_iast, I_bast, I_last, I_aast, I_alen, I_new, I_val, I_cast, I_inst, I_obj, I_throw, I_mkx, I_getf, I_putf, I_call, I_calli, I_callv, I_acopy, I_clone, I_getc, i_ifeq, i_ifne, i_iflt, i_ifge, i_ifgt, i_ifle, i_idiv, i_irem, i_newa, i_newo, i_abs, i_max, i_min, i_ldiv, en_, es_i, es_r, es_0, es_n, es_l, List.length_cons, List.length_nil, List.cons_append, List.nil_append, Nat.reduceAdd, Nat.reduceSub, List.replicate, lg_, st1_, st2_, cn_, nl_, mk_, pk_, kd_, sl_, la_, ft_a, ft_i, ft_l, ft_o, ft_n, ft_b0, ft_b1, ft_bI, nr_0, nr_1, nr_bI, ro_, no_, if_true, if_false, ite_true, ite_false, reduceIte, Nat.reduceMod, Nat.reduceEqDiff, Nat.zero_add, Nat.add_zero, lk_, tw_t, tw_1, tw_2, tw_3, tw_4, tw_5, tw_6, tw_9, tw_11, tw_12, tw_13, tw_14, tw_15, tw_16, tw_18, tw_19, tw_30, tg_0, tg_1, tg_2, tg_3, tg_4, tg_5, tg_6, tg_7, tg_8, tg_9, tg_10, tg_11, tg_12, tg_13, tg_14, tg_15, tg_16, tg_17, tg_18, tg_19, tg_20, tg_21, tg_22, tg_23, tg_24, tg_25, tg_26, tg_27, tg_28, tg_29, tg_30, tg_31, ts_0, ts_1, ts_2, ts_3, ts_4, ts_5, ts_6, ts_7, ts_8, ts_9, ts_10, ts_11, ts_12, ts_13, ts_14, ts_15, ts_16, ts_17, ts_18, ts_19, ts_20, ts_21, ts_22, ts_23, ts_24, ts_25, ts_26, ts_27, ts_28, ts_29, ts_30, ts_31, um_s, um_n, um_um, um_co, um_id, id_eq, lit_, nI_add, nI_mul, ix_nI, nI_leI, hlt, nI_1, and1_0, ih, fo_]
theorem fe_2 {n s : Nat} (hW : Wr_ (M 1) n s) : ∀ (d i : Nat) (m u : Nat → Int32), i + d = s →
    R_ E 103 (B_ E 103 3) [some (.ref t), some (.int (nI i)), none, none] [] (tw σ t (um (um M 11 m) 12 u))
    = R_ E 103 (B_ E 103 8) [some (.ref t), some (.int (nI s)), none, none] [] (tw σ t (um (um M 11 (fo_ (fe2_ (M 1) (M 10 0)) d i (m, u)).1) 12 (fo_ (fe2_ (M 1) (M 10 0)) d i (m, u)).2)) := by
  have h40 := wr_s40 hW
  have hs := wr_s hW
  intro d
  induction d with
  | zero =>
    intro i m u hi
    obtain rfl : i = s := by omega
    conv => lhs; rw [b103_3]
    simp (disch := omega) only [K103_3, R_cons, go_nx, go_jp, go_rt, go_th, go_ca, go_no, go_ite, rr_v, rr_n, rr_x, hx_n, hx_p, hx_b, I_push, I_pushl, I_fc0, I_fc1, I_dc0, I_null, I_mask, I_iload, I_lload, I_dload, I_fload, I_aload, I_istore, I_lstore, I_dstore, I_fstore, I_astore, I_iinc, I_iadd, I_isub, I_imul, I_iand, I_ior, I_ixor, I_ishl, I_ishr, I_iushr, I_ineg, I_ladd, I_lsub, I_lmul, I_lxor, I_i2l, I_l2i, I_i2b, I_i2c, I_i2f, I_i2d, I_lcmp, I_fdiv, I_ddiv, I_f2d, I_dcmp, I_dup, I_pop, I_dup_x1, I_dup2, I_icne, I_iceq, I_iclt, I_icge, I_icgt, I_icle, I_ifnull, I_ifnonnull, I_ane, I_aeq, I_goto, I_tsw, I_lsw, I_iret, I_lret, I_fret, I_dret, I_vret, I_nret, I_aret, I_iald, I_bald, I_lald, I_aald, I_iast, I_bast, I_last, I_aast, I_alen, I_new, I_val, I_cast, I_inst, I_obj, I_throw, I_mkx, I_getf, I_putf, I_call, I_calli, I_callv, I_acopy, I_clone, I_getc, i_ifeq, i_ifne, i_iflt, i_ifge, i_ifgt, i_ifle, i_idiv, i_irem, i_newa, i_newo, i_abs, i_max, i_min, i_ldiv, en_, es_i, es_r, es_0, es_n, es_l, List.length_cons, List.length_nil, List.cons_append, List.nil_append, Nat.reduceAdd, Nat.reduceSub, List.replicate, lg_, st1_, st2_, cn_, nl_, mk_, pk_, kd_, sl_, la_, ft_a, ft_i, ft_l, ft_o, ft_n, ft_b0, ft_b1, ft_bI, nr_0, nr_1, nr_bI, ro_, no_, if_true, if_false, ite_true, ite_false, reduceIte, Nat.reduceMod, Nat.reduceEqDiff, Nat.zero_add, Nat.add_zero, lk_, tw_t, tw_1, tw_2, tw_3, tw_4, tw_5, tw_6, tw_9, tw_11, tw_12, tw_13, tw_14, tw_15, tw_16, tw_18, tw_19, tw_30, tg_0, tg_1, tg_2, tg_3, tg_4, tg_5, tg_6, tg_7, tg_8, tg_9, tg_10, tg_11, tg_12, tg_13, tg_14, tg_15, tg_16, tg_17, tg_18, tg_19, tg_20, tg_21, tg_22, tg_23, tg_24, tg_25, tg_26, tg_27, tg_28, tg_29, tg_30, tg_31, ts_0, ts_1, ts_2, ts_3, ts_4, ts_5, ts_6, ts_7, ts_8, ts_9, ts_10, ts_11, ts_12, ts_13, ts_14, ts_15, ts_16, ts_17, ts_18, ts_19, ts_20, ts_21, ts_22, ts_23, ts_24, ts_25, ts_26, ts_27, ts_28, ts_29, ts_30, ts_31, um_s, um_n, um_um, um_co, um_id, id_eq, lit_, nI_add, nI_mul, ix_nI, T_sights, hs, nI_leI, Nat.le_refl, fo_]
  | succ d ih =>
    intro i m u hi
    have hlt : ¬ s ≤ i := by omega
    have hi' : i < s := by omega
    have hp : pas_ (M 1) i < 144 := pa_lt (Nat.lt_of_lt_of_le (wr_fr hW hi').2 (wr_n12 hW)) (Nat.lt_of_lt_of_le (wr_to hW hi').2 (wr_n12 hW))
    have e1 : ∀ m u, D_ E 115 [.ref t, .int (nI i)] (tw σ t (um (um M 11 m) 12 u)) = some (.inl (some (.int (nI (pas_ (M 1) i)))), (tw σ t (um (um M 11 m) 12 u))) := fun m u => T_pairOfSight (M := um (um M 11 m) 12 u) hW hi'
    have e2 : ∀ m u, D_ E 117 [.ref t, .int (nI i)] (tw σ t (um (um M 11 m) 12 u)) = some (.inl (some (.int (bI (fr_ (M 1) i < to_ (M 1) i)))), (tw σ t (um (um M 11 m) 12 u))) := fun m u => T_goesUp (M := um (um M 11 m) 12 u) hW hi'
    have e3 : ∀ m u, D_ E 121 [.ref t, .int (nI i)] (tw σ t (um (um M 11 m) 12 u)) = some (.inl (some (.int (ri_ (M 1) (M 10 0) i))), (tw σ t (um (um M 11 m) 12 u))) := fun m u => T_riseOf (M := um (um M 11 m) 12 u) hW hi'
    have e4 : ∀ m u, D_ E 121 [.ref t, .int (nI i)] (tw σ t (um (um M 11 m) 12 u)) = some (.inl (some (.int (ri_ (M 1) (M 10 0) i))), (tw σ t (um (um M 11 m) 12 u))) := fun m u => T_riseOf (M := um (um M 11 m) 12 u) hW hi'
    conv => lhs; rw [b103_3]
    by_cases c1 : M 1 (68 + 6 * i + 5) = nI 0 <;> by_cases c3 : fr_ (M 1) i < to_ (M 1) i <;>
    simp (disch := omega) only [K103_3, b103_4, K103_4, b103_5, K103_5, b103_6, K103_6, b103_7, K103_7, R_cons, go_nx, go_jp, go_rt, go_th, go_ca, go_no, go_ite, rr_v, rr_n, rr_x, hx_n, hx_p, hx_b, I_push, I_pushl, I_fc0, I_fc1, I_dc0, I_null, I_mask, I_iload, I_lload, I_dload, I_fload, I_aload, I_istore, I_lstore, I_dstore, I_fstore, I_astore, I_iinc, I_iadd, I_isub, I_imul, I_iand, I_ior, I_ixor, I_ishl, I_ishr, I_iushr, I_ineg, I_ladd, I_lsub, I_lmul, I_lxor, I_i2l, I_l2i, I_i2b, I_i2c, I_i2f, I_i2d, I_lcmp, I_fdiv, I_ddiv, I_f2d, I_dcmp, I_dup, I_pop, I_dup_x1, I_dup2, I_icne, I_iceq, I_iclt, I_icge, I_icgt, I_icle, I_ifnull, I_ifnonnull, I_ane, I_aeq, I_goto, I_tsw, I_lsw, I_iret, I_lret, I_fret, I_dret, I_vret, I_nret, I_aret, I_iald, I_bald, I_lald, I_aald, I_iast, I_bast, I_last, I_aast, I_alen, I_new, I_val, I_cast, I_inst, I_obj, I_throw, I_mkx, I_getf, I_putf, I_call, I_calli, I_callv, I_acopy, I_clone, I_getc, i_ifeq, i_ifne, i_iflt, i_ifge, i_ifgt, i_ifle, i_idiv, i_irem, i_newa, i_newo, i_abs, i_max, i_min, i_ldiv, en_, es_i, es_r, es_0, es_n, es_l, List.length_cons, List.length_nil, List.cons_append, List.nil_append, Nat.reduceAdd, Nat.reduceSub, List.replicate, lg_, st1_, st2_, cn_, nl_, mk_, pk_, kd_, sl_, la_, ft_a, ft_i, ft_l, ft_o, ft_n, ft_b0, ft_b1, ft_bI, nr_0, nr_1, nr_bI, ro_, no_, if_true, if_false, ite_true, ite_false, reduceIte, Nat.reduceMod, Nat.reduceEqDiff, Nat.zero_add, Nat.add_zero, lk_, tw_t, tw_1, tw_2, tw_3, tw_4, tw_5, tw_6, tw_9, tw_11, tw_12, tw_13, tw_14, tw_15, tw_16, tw_18, tw_19, tw_30, tg_0, tg_1, tg_2, tg_3, tg_4, tg_5, tg_6, tg_7, tg_8, tg_9, tg_10, tg_11, tg_12, tg_13, tg_14, tg_15, tg_16, tg_17, tg_18, tg_19, tg_20, tg_21, tg_22, tg_23, tg_24, tg_25, tg_26, tg_27, tg_28, tg_29, tg_30, tg_31, ts_0, ts_1, ts_2, ts_3, ts_4, ts_5, ts_6, ts_7, ts_8, ts_9, ts_10, ts_11, ts_12, ts_13, ts_14, ts_15, ts_16, ts_17, ts_18, ts_19, ts_20, ts_21, ts_22, ts_23, ts_24, ts_25, ts_26, ts_27, ts_28, ts_29, ts_30, ts_31, um_s, um_n, um_um, um_co, um_id, id_eq, lit_, nI_add, nI_mul, ix_nI, bI_0, bI_1, ite_b1, ite_b2, T_sights, hs, nI_leI, hlt, T_counts, e1, e2, e3, nI_1, c1, c3, ih, fo_, fe2_, if_true, if_false, not_true_eq_false, not_false_eq_true, Bool.false_eq_true, and_true, true_and, and_false, false_and, or_true, true_or, or_false, false_or, eq_self_iff_true, iff_true, iff_false, true_iff, false_iff, Classical.not_not, reduceIte]
/-- the rise and the weight of one pair; of a row of pairs -/
def fe3_ (r m : Nat → Int32) (a b : Nat) (x : (Nat → Int32) × (Nat → Int32)) : (Nat → Int32) × (Nat → Int32) :=
  if m (pa_ a b) = nI 0 then x else (upd x.1 (pa_ a b) (fdI (x.1 (pa_ a b)) (m (pa_ a b))), upd x.2 (pa_ a b) (m (pa_ a b) * (nI 1000000 / di_ r a b)))
theorem di_ne {r : Nat → Int32} {n s a b : Nat} (hW : Wr_ r n s) (ha : a < n) (hb : b < n) (hab : a ≠ b) : ¬ di_ r a b = nI 0 := by
  have h1 := (hW.2.2.2.2.2.2.2.2.2.2.1 a ha).2.1
  have h2 := (hW.2.2.2.2.2.2.2.2.2.2.1 b hb).2.1
  have h3 := (hW.2.2.2.2.2.2.2.2.2.2.2.1 a ha b hb hab).2
  intro e
  apply h3
  unfold di_ ab_ at e
  have e2 := congrArg Int32.toInt e
  have hz : (nI 0).toInt = 0 := by decide
  have hsub : (r (8 + 5 * a + 1) - r (8 + 5 * b + 1)).toInt = (r (8 + 5 * a + 1)).toInt - (r (8 + 5 * b + 1)).toInt := by
    rw [Int32.toInt_sub, Int.bmod_eq_of_le (by omega) (by omega)]
  apply Int32.toInt_inj.mp
  split at e2
  · rw [hz, hsub] at e2; omega
  · rw [Int32.toInt_sub, hz, hsub, show (0 : Int32).toInt = 0 from by decide, Int.bmod_eq_of_le (by omega) (by omega)] at e2
    omega
theorem fe_3b {n s a : Nat} (hW : Wr_ (M 1) n s) (ha : a < n) : ∀ (d b : Nat) (u w : Nat → Int32), a < b → b + d = n →
    R_ E 103 (B_ E 103 10) [some (.ref t), some (.int (nI a)), some (.int (nI b)), none] [] (tw σ t (um (um M 12 u) 13 w))
    = R_ E 103 (B_ E 103 9) [some (.ref t), some (.int (nI (a + 1))), none, none] [] (tw σ t (um (um M 12 (fo_ (fe3_ (M 1) (M 11) a) d b (u, w)).1) 13 (fo_ (fe3_ (M 1) (M 11) a) d b (u, w)).2)) := by
  have h12 := wr_n12 hW
  have hn := wr_n hW
  intro d
  induction d with
  | zero =>
    intro b u w hab hb
    obtain rfl : b = n := by omega
    conv => lhs; rw [b103_10]
    simp (disch := omega) only [K103_10, b103_13, K103_13, R_cons, go_nx, go_jp, go_rt, go_th, go_ca, go_no, go_ite, rr_v, rr_n, rr_x, hx_n, hx_p, hx_b, I_push, I_pushl, I_fc0, I_fc1, I_dc0, I_null, I_mask, I_iload, I_lload, I_dload, I_fload, I_aload, I_istore, I_lstore, I_dstore, I_fstore, I_astore, I_iinc, I_iadd, I_isub, I_imul, I_iand, I_ior, I_ixor, I_ishl, I_ishr, I_iushr, I_ineg, I_ladd, I_lsub, I_lmul, I_lxor, I_i2l, I_l2i, I_i2b, I_i2c, I_i2f, I_i2d, I_lcmp, I_fdiv, I_ddiv, I_f2d, I_dcmp, I_dup, I_pop, I_dup_x1, I_dup2, I_icne, I_iceq, I_iclt, I_icge, I_icgt, I_icle, I_ifnull, I_ifnonnull, I_ane, I_aeq, I_goto, I_tsw, I_lsw, I_iret, I_lret, I_fret, I_dret, I_vret, I_nret, I_aret, I_iald, I_bald, I_lald, I_aald, I_iast, I_bast, I_last, I_aast, I_alen, I_new, I_val, I_cast, I_inst, I_obj, I_throw, I_mkx, I_getf, I_putf, I_call, I_calli, I_callv, I_acopy, I_clone, I_getc, i_ifeq, i_ifne, i_iflt, i_ifge, i_ifgt, i_ifle, i_idiv, i_irem, i_newa, i_newo, i_abs, i_max, i_min, i_ldiv, en_, es_i, es_r, es_0, es_n, es_l, List.length_cons, List.length_nil, List.cons_append, List.nil_append, Nat.reduceAdd, Nat.reduceSub, List.replicate, lg_, st1_, st2_, cn_, nl_, mk_, pk_, kd_, sl_, la_, ft_a, ft_i, ft_l, ft_o, ft_n, ft_b0, ft_b1, ft_bI, nr_0, nr_1, nr_bI, ro_, no_, if_true, if_false, ite_true, ite_false, reduceIte, Nat.reduceMod, Nat.reduceEqDiff, Nat.zero_add, Nat.add_zero, lk_, tw_t, tw_1, tw_2, tw_3, tw_4, tw_5, tw_6, tw_9, tw_11, tw_12, tw_13, tw_14, tw_15, tw_16, tw_18, tw_19, tw_30, tg_0, tg_1, tg_2, tg_3, tg_4, tg_5, tg_6, tg_7, tg_8, tg_9, tg_10, tg_11, tg_12, tg_13, tg_14, tg_15, tg_16, tg_17, tg_18, tg_19, tg_20, tg_21, tg_22, tg_23, tg_24, tg_25, tg_26, tg_27, tg_28, tg_29, tg_30, tg_31, ts_0, ts_1, ts_2, ts_3, ts_4, ts_5, ts_6, ts_7, ts_8, ts_9, ts_10, ts_11, ts_12, ts_13, ts_14, ts_15, ts_16, ts_17, ts_18, ts_19, ts_20, ts_21, ts_22, ts_23, ts_24, ts_25, ts_26, ts_27, ts_28, ts_29, ts_30, ts_31, um_s, um_n, um_um, um_co, um_id, id_eq, lit_, nI_add, nI_mul, ix_nI, T_marks, hn, nI_leI, nI_1, Nat.le_refl, fo_]
  | succ d ih =>
    intro b u w hab hb
    have hlt : ¬ n ≤ b := by omega
    have hp : pa_ a b < 144 := pa_lt (by omega) (by omega)
    have hd := di_ne hW ha (show b < n by omega) (by omega)
    conv => lhs; rw [b103_10]
    by_cases c1 : M 11 (pa_ a b) = nI 0 <;>
    simp (disch := first | assumption | omega) only [K103_10, b103_11, K103_11, b103_12, K103_12, R_cons, go_nx, go_jp, go_rt, go_th, go_ca, go_no, go_ite, rr_v, rr_n, rr_x, hx_n, hx_p, hx_b, I_push, I_pushl, I_fc0, I_fc1, I_dc0, I_null, I_mask, I_iload, I_lload, I_dload, I_fload, I_aload, I_istore, I_lstore, I_dstore, I_fstore, I_astore, I_iinc, I_iadd, I_isub, I_imul, I_iand, I_ior, I_ixor, I_ishl, I_ishr, I_iushr, I_ineg, I_ladd, I_lsub, I_lmul, I_lxor, I_i2l, I_l2i, I_i2b, I_i2c, I_i2f, I_i2d, I_lcmp, I_fdiv, I_ddiv, I_f2d, I_dcmp, I_dup, I_pop, I_dup_x1, I_dup2, I_icne, I_iceq, I_iclt, I_icge, I_icgt, I_icle, I_ifnull, I_ifnonnull, I_ane, I_aeq, I_goto, I_tsw, I_lsw, I_iret, I_lret, I_fret, I_dret, I_vret, I_nret, I_aret, I_iald, I_bald, I_lald, I_aald, I_iast, I_bast, I_last, I_aast, I_alen, I_new, I_val, I_cast, I_inst, I_obj, I_throw, I_mkx, I_getf, I_putf, I_call, I_calli, I_callv, I_acopy, I_clone, I_getc, i_ifeq, i_ifne, i_iflt, i_ifge, i_ifgt, i_ifle, i_idiv, i_irem, i_newa, i_newo, i_abs, i_max, i_min, i_ldiv, en_, es_i, es_r, es_0, es_n, es_l, List.length_cons, List.length_nil, List.cons_append, List.nil_append, Nat.reduceAdd, Nat.reduceSub, List.replicate, lg_, st1_, st2_, cn_, nl_, mk_, pk_, kd_, sl_, la_, ft_a, ft_i, ft_l, ft_o, ft_n, ft_b0, ft_b1, ft_bI, nr_0, nr_1, nr_bI, ro_, no_, if_true, if_false, ite_true, ite_false, reduceIte, Nat.reduceMod, Nat.reduceEqDiff, Nat.zero_add, Nat.add_zero, lk_, tw_t, tw_1, tw_2, tw_3, tw_4, tw_5, tw_6, tw_9, tw_11, tw_12, tw_13, tw_14, tw_15, tw_16, tw_18, tw_19, tw_30, tg_0, tg_1, tg_2, tg_3, tg_4, tg_5, tg_6, tg_7, tg_8, tg_9, tg_10, tg_11, tg_12, tg_13, tg_14, tg_15, tg_16, tg_17, tg_18, tg_19, tg_20, tg_21, tg_22, tg_23, tg_24, tg_25, tg_26, tg_27, tg_28, tg_29, tg_30, tg_31, ts_0, ts_1, ts_2, ts_3, ts_4, ts_5, ts_6, ts_7, ts_8, ts_9, ts_10, ts_11, ts_12, ts_13, ts_14, ts_15, ts_16, ts_17, ts_18, ts_19, ts_20, ts_21, ts_22, ts_23, ts_24, ts_25, ts_26, ts_27, ts_28, ts_29, ts_30, ts_31, um_s, um_n, um_um, um_co, um_id, id_eq, lit_, nI_add, nI_mul, ix_nI, bI_0, bI_1, ite_b1, ite_b2, T_marks, hn, T_pairOf, T_distance, J_fdI, nI_leI, hlt, nI_1, c1, ih, fo_, fe3_, if_true, if_false, not_true_eq_false, not_false_eq_true, Bool.false_eq_true, and_true, true_and, and_false, false_and, or_true, true_or, or_false, false_or, eq_self_iff_true, iff_true, iff_false, true_iff, false_iff, Classical.not_not, reduceIte]
theorem fe_3a {n s : Nat} (hW : Wr_ (M 1) n s) : ∀ (d a : Nat) (u w : Nat → Int32), a + d = n →
    R_ E 103 (B_ E 103 9) [some (.ref t), some (.int (nI a)), none, none] [] (tw σ t (um (um M 12 u) 13 w))
    = some (.inl none, tw σ t (um (um M 12 (fo_ (fun a => fo_ (fe3_ (M 1) (M 11) a) (n - (a + 1)) (a + 1)) d a (u, w)).1) 13 (fo_ (fun a => fo_ (fe3_ (M 1) (M 11) a) (n - (a + 1)) (a + 1)) d a (u, w)).2)) := by
  have h12 := wr_n12 hW
  have hn := wr_n hW
  intro d
  induction d with
  | zero =>
    intro a u w ha
    obtain rfl : a = n := by omega
    conv => lhs; rw [b103_9]
    simp (disch := omega) only [K103_9, b103_14, K103_14, R_cons, go_nx, go_jp, go_rt, go_th, go_ca, go_no, go_ite, rr_v, rr_n, rr_x, hx_n, hx_p, hx_b, I_push, I_pushl, I_fc0, I_fc1, I_dc0, I_null, I_mask, I_iload, I_lload, I_dload, I_fload, I_aload, I_istore, I_lstore, I_dstore, I_fstore, I_astore, I_iinc, I_iadd, I_isub, I_imul, I_iand, I_ior, I_ixor, I_ishl, I_ishr, I_iushr, I_ineg, I_ladd, I_lsub, I_lmul, I_lxor, I_i2l, I_l2i, I_i2b, I_i2c, I_i2f, I_i2d, I_lcmp, I_fdiv, I_ddiv, I_f2d, I_dcmp, I_dup, I_pop, I_dup_x1, I_dup2, I_icne, I_iceq, I_iclt, I_icge, I_icgt, I_icle, I_ifnull, I_ifnonnull, I_ane, I_aeq, I_goto, I_tsw, I_lsw, I_iret, I_lret, I_fret, I_dret, I_vret, I_nret, I_aret, I_iald, I_bald, I_lald, I_aald, I_iast, I_bast, I_last, I_aast, I_alen, I_new, I_val, I_cast, I_inst, I_obj, I_throw, I_mkx, I_getf, I_putf, I_call, I_calli, I_callv, I_acopy, I_clone, I_getc, i_ifeq, i_ifne, i_iflt, i_ifge, i_ifgt, i_ifle, i_idiv, i_irem, i_newa, i_newo, i_abs, i_max, i_min, i_ldiv, en_, es_i, es_r, es_0, es_n, es_l, List.length_cons, List.length_nil, List.cons_append, List.nil_append, Nat.reduceAdd, Nat.reduceSub, List.replicate, lg_, st1_, st2_, cn_, nl_, mk_, pk_, kd_, sl_, la_, ft_a, ft_i, ft_l, ft_o, ft_n, ft_b0, ft_b1, ft_bI, nr_0, nr_1, nr_bI, ro_, no_, if_true, if_false, ite_true, ite_false, reduceIte, Nat.reduceMod, Nat.reduceEqDiff, Nat.zero_add, Nat.add_zero, lk_, tw_t, tw_1, tw_2, tw_3, tw_4, tw_5, tw_6, tw_9, tw_11, tw_12, tw_13, tw_14, tw_15, tw_16, tw_18, tw_19, tw_30, tg_0, tg_1, tg_2, tg_3, tg_4, tg_5, tg_6, tg_7, tg_8, tg_9, tg_10, tg_11, tg_12, tg_13, tg_14, tg_15, tg_16, tg_17, tg_18, tg_19, tg_20, tg_21, tg_22, tg_23, tg_24, tg_25, tg_26, tg_27, tg_28, tg_29, tg_30, tg_31, ts_0, ts_1, ts_2, ts_3, ts_4, ts_5, ts_6, ts_7, ts_8, ts_9, ts_10, ts_11, ts_12, ts_13, ts_14, ts_15, ts_16, ts_17, ts_18, ts_19, ts_20, ts_21, ts_22, ts_23, ts_24, ts_25, ts_26, ts_27, ts_28, ts_29, ts_30, ts_31, um_s, um_n, um_um, um_co, um_id, id_eq, lit_, nI_add, nI_mul, ix_nI, T_marks, hn, nI_leI, nI_1, Nat.le_refl, fo_]
  | succ d ih =>
    intro a u w ha
    have hlt : ¬ n ≤ a := by omega
    have ed : n - (a + 1) = d := by omega
    conv => lhs; rw [b103_9]
    simp (disch := omega) only [K103_9, R_cons, go_nx, go_jp, go_rt, go_th, go_ca, go_no, go_ite, rr_v, rr_n, rr_x, hx_n, hx_p, hx_b, I_push, I_pushl, I_fc0, I_fc1, I_dc0, I_null, I_mask, I_iload, I_lload, I_dload, I_fload, I_aload, I_istore, I_lstore, I_dstore, I_fstore, I_astore, I_iinc, I_iadd, I_isub, I_imul, I_iand, I_ior, I_ixor, I_ishl, I_ishr, I_iushr, I_ineg, I_ladd, I_lsub, I_lmul, I_lxor, I_i2l, I_l2i, I_i2b, I_i2c, I_i2f, I_i2d, I_lcmp, I_fdiv, I_ddiv, I_f2d, I_dcmp, I_dup, I_pop, I_dup_x1, I_dup2, I_icne, I_iceq, I_iclt, I_icge, I_icgt, I_icle, I_ifnull, I_ifnonnull, I_ane, I_aeq, I_goto, I_tsw, I_lsw, I_iret, I_lret, I_fret, I_dret, I_vret, I_nret, I_aret, I_iald, I_bald, I_lald, I_aald, I_iast, I_bast, I_last, I_aast, I_alen, I_new, I_val, I_cast, I_inst, I_obj, I_throw, I_mkx, I_getf, I_putf, I_call, I_calli, I_callv, I_acopy, I_clone, I_getc, i_ifeq, i_ifne, i_iflt, i_ifge, i_ifgt, i_ifle, i_idiv, i_irem, i_newa, i_newo, i_abs, i_max, i_min, i_ldiv, en_, es_i, es_r, es_0, es_n, es_l, List.length_cons, List.length_nil, List.cons_append, List.nil_append, Nat.reduceAdd, Nat.reduceSub, List.replicate, lg_, st1_, st2_, cn_, nl_, mk_, pk_, kd_, sl_, la_, ft_a, ft_i, ft_l, ft_o, ft_n, ft_b0, ft_b1, ft_bI, nr_0, nr_1, nr_bI, ro_, no_, if_true, if_false, ite_true, ite_false, reduceIte, Nat.reduceMod, Nat.reduceEqDiff, Nat.zero_add, Nat.add_zero, lk_, tw_t, tw_1, tw_2, tw_3, tw_4, tw_5, tw_6, tw_9, tw_11, tw_12, tw_13, tw_14, tw_15, tw_16, tw_18, tw_19, tw_30, tg_0, tg_1, tg_2, tg_3, tg_4, tg_5, tg_6, tg_7, tg_8, tg_9, tg_10, tg_11, tg_12, tg_13, tg_14, tg_15, tg_16, tg_17, tg_18, tg_19, tg_20, tg_21, tg_22, tg_23, tg_24, tg_25, tg_26, tg_27, tg_28, tg_29, tg_30, tg_31, ts_0, ts_1, ts_2, ts_3, ts_4, ts_5, ts_6, ts_7, ts_8, ts_9, ts_10, ts_11, ts_12, ts_13, ts_14, ts_15, ts_16, ts_17, ts_18, ts_19, ts_20, ts_21, ts_22, ts_23, ts_24, ts_25, ts_26, ts_27, ts_28, ts_29, ts_30, ts_31, um_s, um_n, um_um, um_co, um_id, id_eq, lit_, nI_add, nI_mul, ix_nI, bI_0, bI_1, ite_b1, ite_b2, T_marks, hn, nI_leI, hlt, nI_1, fe_3b hW (show a < n by omega) d (a + 1), ih, fo_, ed, if_true, if_false, not_true_eq_false, not_false_eq_true, Bool.false_eq_true, and_true, true_and, and_false, false_and, or_true, true_or, or_false, false_or, eq_self_iff_true, iff_true, iff_false, true_iff, false_iff, Classical.not_not, reduceIte]
/-- the closed forms -/
theorem fe2_at {r : Nat → Int32} {e : Int32} (p : Nat) : ∀ (d i c : Nat) (x : (Nat → Int32) × (Nat → Int32)), x.1 p = nI c → (fo_ (fe2_ r e) d i x).1 p = nI (fo_ (ctp_ r p) d i c) ∧ (fo_ (fe2_ r e) d i x).2 p = fo_ (sup_ r e p) d i (x.2 p) := by
  intro d
  induction d with
  | zero => intro i c x h; exact ⟨h, rfl⟩
  | succ d ih =>
    intro i c x h
    have key : (fe2_ r e i x).1 p = nI (ctp_ r p i c) ∧ (fe2_ r e i x).2 p = sup_ r e p i (x.2 p) := by
      unfold fe2_ ctp_ sup_
      by_cases c1 : r (68 + 6 * i + 5) = nI 0
      · by_cases c2 : pas_ r i = p
        · subst c2
          simp [c1, upd, h, nI_add]
        · have c2' : ¬ p = pas_ r i := fun k => c2 k.symm
          simp [c1, c2, c2', upd, h]
      · simp [c1, h]
    rw [fo_, fo_, fo_]
    have := ih (i + 1) (ctp_ r p i c) (fe2_ r e i x) key.1
    rw [key.2] at this
    exact this
theorem fe3b_at {r m : Nat → Int32} {a : Nat} (ha : a < 12) (p : Nat) : ∀ (d b : Nat) (x : (Nat → Int32) × (Nat → Int32)), a < b → b + d ≤ 12 →
    (fo_ (fe3_ r m a) d b x).1 p = (if 12 * a + b ≤ p ∧ p < 12 * a + (b + d) ∧ ¬ m p = nI 0 then fdI (x.1 p) (m p) else x.1 p) ∧
    (fo_ (fe3_ r m a) d b x).2 p = (if 12 * a + b ≤ p ∧ p < 12 * a + (b + d) ∧ ¬ m p = nI 0 then m p * (nI 1000000 / di_ r a (p - 12 * a)) else x.2 p) := by
  intro d
  induction d with
  | zero => intro b x _ _; rw [if_neg (by omega), if_neg (by omega)]; exact ⟨rfl, rfl⟩
  | succ d ih =>
    intro b x hab hb
    have hpa : pa_ a b = 12 * a + b := if_pos hab
    have h1 := ih (b + 1) (fe3_ r m a b x) (by omega) (by omega)
    have key : (fe3_ r m a b x).1 p = (if p = 12 * a + b ∧ ¬ m p = nI 0 then fdI (x.1 p) (m p) else x.1 p) ∧ (fe3_ r m a b x).2 p = (if p = 12 * a + b ∧ ¬ m p = nI 0 then m p * (nI 1000000 / di_ r a (p - 12 * a)) else x.2 p) := by
      unfold fe3_
      rw [hpa]
      by_cases e : p = 12 * a + b
      · subst e
        have e2 : 12 * a + b - 12 * a = b := by omega
        by_cases c1 : m (12 * a + b) = nI 0
        · simp [c1]
        · simp [c1, upd, e2]
      · by_cases c1 : m (12 * a + b) = nI 0
        · simp [c1, e]
        · simp [c1, e, upd]
    rw [fo_, h1.1, h1.2, key.1, key.2]
    by_cases c0 : m p = nI 0
    · simp [c0]
    · simp only [c0, not_false_eq_true, and_true]
      constructor <;> (repeat' split) <;> first | rfl | (exfalso; omega)
theorem fe3a_at {r m : Nat → Int32} {n : Nat} (hn : n ≤ 12) (p : Nat) : ∀ (d a : Nat) (x : (Nat → Int32) × (Nat → Int32)), a + d = n →
    (fo_ (fun a => fo_ (fe3_ r m a) (n - (a + 1)) (a + 1)) d a x).1 p = (if a ≤ p / 12 ∧ p / 12 < p % 12 ∧ p % 12 < n ∧ ¬ m p = nI 0 then fdI (x.1 p) (m p) else x.1 p) ∧
    (fo_ (fun a => fo_ (fe3_ r m a) (n - (a + 1)) (a + 1)) d a x).2 p = (if a ≤ p / 12 ∧ p / 12 < p % 12 ∧ p % 12 < n ∧ ¬ m p = nI 0 then m p * (nI 1000000 / di_ r (p / 12) (p % 12)) else x.2 p) := by
  intro d
  induction d with
  | zero => intro a x ha; rw [if_neg (by omega), if_neg (by omega)]; exact ⟨rfl, rfl⟩
  | succ d ih =>
    intro a x ha
    have ed : n - (a + 1) = d := by omega
    have h1 := ih (a + 1) (fo_ (fe3_ r m a) (n - (a + 1)) (a + 1) x) (by omega)
    have h2 := fe3b_at (r := r) (m := m) (a := a) (by omega) p d (a + 1) x (by omega) (by omega)
    rw [fo_, h1.1, h1.2, ed, h2.1, h2.2]
    by_cases c0 : m p = nI 0
    · simp [c0]
    · simp only [c0, not_false_eq_true, and_true]
      have e3 : 12 * a + (a + 1) ≤ p ∧ p < 12 * a + (a + 1 + d) → p - 12 * a = p % 12 ∧ p / 12 = a := by omega
      constructor <;> (repeat' split) <;> first | rfl | (exfalso; omega) | (rw [(e3 (by assumption)).1, (e3 (by assumption)).2])
theorem fo_z {z : Int32} (d : Nat) (g : Nat → Int32) {p : Nat} (hp : p < d) : fo_ (fun j g => upd g j z) d 0 g p = z := by
  have h := congrFun (fo_upd (f := fun _ => z) d 0 g) p
  rw [h]
  exact if_pos (by omega)
theorem ct_le {r : Nat → Int32} {p : Nat} : ∀ (d i c : Nat), fo_ (ctp_ r p) d i c ≤ c + d := by
  intro d
  induction d with
  | zero => intro i c; exact Nat.le_refl _
  | succ d ih =>
    intro i c
    rw [fo_]
    have h := ih (i + 1) (ctp_ r p i c)
    have h2 : ctp_ r p i c ≤ c + 1 := by unfold ctp_; split <;> omega
    omega
theorem ct_40 {r : Nat → Int32} {n s : Nat} (hW : Wr_ r n s) (p : Nat) : ct_ r s p ≤ 40 := by
  have := ct_le (r := r) (p := p) s 0 0
  have := wr_s40 hW
  unfold ct_
  omega
theorem ct_pos {r : Nat → Int32} {p : Nat} : ∀ (d i : Nat), ¬ fo_ (ctp_ r p) d i 0 = 0 → ∃ k, i ≤ k ∧ k < i + d ∧ r (68 + 6 * k + 5) = nI 0 ∧ pas_ r k = p := by
  intro d
  induction d with
  | zero => intro i h; exact absurd rfl h
  | succ d ih =>
    intro i h
    by_cases c : r (68 + 6 * i + 5) = nI 0 ∧ pas_ r i = p
    · exact ⟨i, Nat.le_refl _, by omega, c⟩
    · rw [fo_, show ctp_ r p i 0 = 0 from if_neg c] at h
      obtain ⟨k, h1, h2, h3⟩ := ih (i + 1) h
      exact ⟨k, by omega, by omega, h3⟩
/-- a pair with sights is a pair of marks, the smaller one first -/
theorem ct_pair {r : Nat → Int32} {n s p : Nat} (hW : Wr_ r n s) (h : ¬ ct_ r s p = 0) : p / 12 < p % 12 ∧ p % 12 < n := by
  obtain ⟨k, _, h2, _, h4⟩ := ct_pos s 0 h
  have hf := (wr_fr hW (show k < s by omega)).2
  have ht := (wr_to hW (show k < s by omega)).2
  have hne := wr_ne hW (show k < s by omega)
  have h12 := wr_n12 hW
  unfold pas_ pa_ at h4
  split at h4 <;> omega
theorem ct_mono {r : Nat → Int32} {p : Nat} : ∀ (d i c : Nat), c ≤ fo_ (ctp_ r p) d i c := by
  intro d
  induction d with
  | zero => intro i c; exact Nat.le_refl _
  | succ d ih =>
    intro i c
    rw [fo_]
    have h := ih (i + 1) (ctp_ r p i c)
    have h2 : c ≤ ctp_ r p i c := by unfold ctp_; split <;> omega
    omega
theorem ct_some {r : Nat → Int32} {p k : Nat} (hk : r (68 + 6 * k + 5) = nI 0 ∧ pas_ r k = p) : ∀ (d i c : Nat), i ≤ k → k < i + d → c < fo_ (ctp_ r p) d i c := by
  intro d
  induction d with
  | zero => intro i c h1 h2; omega
  | succ d ih =>
    intro i c h1 h2
    rw [fo_]
    by_cases e : i = k
    · subst e
      have h := ct_mono (r := r) (p := p) d (i + 1) (ctp_ r p i c)
      have h2 : ctp_ r p i c = c + 1 := if_pos hk
      omega
    · have h := ih (i + 1) (ctp_ r p i c) (by omega) (by omega)
      have h2 : c ≤ ctp_ r p i c := by unfold ctp_; split <;> omega
      omega
theorem su_none {r : Nat → Int32} {p : Nat} {e : Int32} : ∀ (d i : Nat) (x : Int32), (∀ k, i ≤ k → k < i + d → ¬ (r (68 + 6 * k + 5) = nI 0 ∧ pas_ r k = p)) → fo_ (sup_ r e p) d i x = x := by
  intro d
  induction d with
  | zero => intro i x _; rfl
  | succ d ih =>
    intro i x h
    rw [fo_, show sup_ r e p i x = x from if_neg (h i (Nat.le_refl _) (by omega))]
    exact ih (i + 1) x (fun k h1 h2 => h k (by omega) (by omega))
theorem su_0 {r : Nat → Int32} {s p : Nat} {e : Int32} (h : ct_ r s p = 0) : su_ r e s p = nI 0 :=
  su_none s 0 _ fun k h1 h2 hk => by
    have := ct_some hk s 0 0 h1 h2
    unfold ct_ at h
    omega
/-- what the twin knows of the edges -/
def Ed_ (M : Nat → Nat → Int32) (n s : Nat) (e : Int32) : Prop :=
  M 10 0 = e ∧ (∀ k, k < 144 → M 11 k = nI (ct_ (M 1) s k)) ∧ (∀ k, k < 144 → M 12 k = upv_ (M 1) e s k) ∧ (∀ k, k < 144 → ¬ ct_ (M 1) s k = 0 → M 13 k = nI (ct_ (M 1) s k) * (nI 1000000 / di_ (M 1) (k / 12) (k % 12)))
theorem T_findEdges {n s : Nat} (hW : Wr_ (M 1) n s) : ∃ f9 f10 f11 f12 f13 f14, D_ E 103 [.ref t] (tw σ t M) = some (.inl none, tw σ t (um (um (um (um (um (um M 9 f9) 10 f10) 11 f11) 12 f12) 13 f13) 14 f14)) ∧
    Ed_ (um (um (um (um (um (um M 9 f9) 10 f10) 11 f11) 12 f12) 13 f13) 14 f14) n s (err_ (M 1) n s) ∧ (∀ k, k < 144 → f14 k = nI 0) := by
  obtain ⟨f9, h9⟩ := T_errorNow (E := E) (σ := σ) (t := t) hW
  have h12 := wr_n12 hW
  obtain ⟨M1, hM1⟩ : ∃ M1, M1 = um (um M 9 f9) 10 (fun _ => err_ (M 1) n s) := ⟨_, rfl⟩
  have m1 : M1 1 = M 1 := by rw [hM1]; rfl
  have m10 : M1 10 0 = err_ (M 1) n s := by rw [hM1]; rfl
  have m13 : M1 13 = M 13 := by rw [hM1]; rfl
  have hW1 : Wr_ (M1 1) n s := by rw [m1]; exact hW
  have a1 := fe_1 (E := E) (σ := σ) (t := t) (M := M1) 144 0 (M1 11) (M1 12) (M1 14) rfl
  rw [um_id, um_id, um_id] at a1
  generalize hz11 : fo_ (fun j g => upd g j (nI 0)) 144 0 (M1 11) = z11 at a1
  generalize hz12 : fo_ (fun j g => upd g j (nI 0)) 144 0 (M1 12) = z12 at a1
  generalize hz14 : fo_ (fun j g => upd g j (nI 0)) 144 0 (M1 14) = z14 at a1
  have a2 := fe_2 (E := E) (σ := σ) (t := t) (M := um M1 14 z14) hW1 s 0 z11 z12 (by omega)
  simp (disch := omega) only [um_s, um_n, um_um, um_co, um_id, id_eq, m1, m10] at a2
  generalize hx : fo_ (fe2_ (M 1) (err_ (M 1) n s)) s 0 (z11, z12) = x at a2
  have a3 := fe_3a (E := E) (σ := σ) (t := t) (M := um (um M1 11 x.1) 14 z14) (n := n) (s := s) hW1 n 0 x.2 (M1 13) (by omega)
  simp (disch := omega) only [um_s, um_n, um_um, um_co, um_id, id_eq, m1, m10] at a3
  generalize hy : fo_ (fun a => fo_ (fe3_ (M 1) x.1 a) (n - (a + 1)) (a + 1)) n 0 (x.2, M1 13) = y at a3
  have hx1 : ∀ k, k < 144 → x.1 k = nI (ct_ (M 1) s k) ∧ x.2 k = su_ (M 1) (err_ (M 1) n s) s k := fun k hk => by
    have e0 : z11 k = nI 0 := by rw [← hz11]; exact fo_z 144 _ hk
    have e1 : z12 k = nI 0 := by rw [← hz12]; exact fo_z 144 _ hk
    have := fe2_at (r := M 1) (e := err_ (M 1) n s) k s 0 0 (z11, z12) e0
    rw [hx] at this
    refine ⟨this.1, this.2.trans ?_⟩
    show fo_ _ s 0 (z12 k) = _
    rw [e1]; rfl
  refine ⟨f9, fun _ => err_ (M 1) n s, x.1, y.1, y.2, z14, ?_, ⟨rfl, fun k hk => (hx1 k hk).1, fun k hk => ?_, fun k hk hc => ?_⟩, fun k hk => by rw [← hz14]; exact fo_z 144 _ hk⟩
  · rw [D_run]
    simp (disch := omega) only [b103_0, K103_0, b103_2, K103_2, b103_8, K103_8, l103, R_cons, go_nx, go_jp, go_rt, go_th, go_ca, go_no, go_ite, rr_v, rr_n, rr_x, hx_n, hx_p, hx_b, I_push, I_pushl, I_fc0, I_fc1, I_dc0, I_null, I_mask, I_iload, I_lload, I_dload, I_fload, I_aload, I_istore, I_lstore, I_dstore, I_fstore, I_astore, I_iinc, I_iadd, I_isub, I_imul, I_iand, I_ior, I_ixor, I_ishl, I_ishr, I_iushr, I_ineg, I_ladd, I_lsub, I_lmul, I_lxor, I_i2l, I_l2i, I_i2b, I_i2c, I_i2f, I_i2d, I_lcmp, I_fdiv, I_ddiv, I_f2d, I_dcmp, I_dup, I_pop, I_dup_x1, I_dup2, I_icne, I_iceq, I_iclt, I_icge, I_icgt, I_icle, I_ifnull, I_ifnonnull, I_ane, I_aeq, I_goto, I_tsw, I_lsw, I_iret, I_lret, I_fret, I_dret, I_vret, I_nret, I_aret, I_iald, I_bald, I_lald, I_aald, I_iast, I_bast, I_last, I_aast, I_alen, I_new, I_val, I_cast, I_inst, I_obj, I_throw, I_mkx, I_getf, I_putf, I_call, I_calli, I_callv, I_acopy, I_clone, I_getc, i_ifeq, i_ifne, i_iflt, i_ifge, i_ifgt, i_ifle, i_idiv, i_irem, i_newa, i_newo, i_abs, i_max, i_min, i_ldiv, en_, es_i, es_r, es_0, es_n, es_l, List.length_cons, List.length_nil, List.cons_append, List.nil_append, Nat.reduceAdd, Nat.reduceSub, List.replicate, lg_, st1_, st2_, cn_, nl_, mk_, pk_, kd_, sl_, la_, ft_a, ft_i, ft_l, ft_o, ft_n, ft_b0, ft_b1, ft_bI, nr_0, nr_1, nr_bI, ro_, no_, if_true, if_false, ite_true, ite_false, reduceIte, Nat.reduceMod, Nat.reduceEqDiff, Nat.zero_add, Nat.add_zero, lk_, tw_t, tw_1, tw_2, tw_3, tw_4, tw_5, tw_6, tw_9, tw_11, tw_12, tw_13, tw_14, tw_15, tw_16, tw_18, tw_19, tw_30, tg_0, tg_1, tg_2, tg_3, tg_4, tg_5, tg_6, tg_7, tg_8, tg_9, tg_10, tg_11, tg_12, tg_13, tg_14, tg_15, tg_16, tg_17, tg_18, tg_19, tg_20, tg_21, tg_22, tg_23, tg_24, tg_25, tg_26, tg_27, tg_28, tg_29, tg_30, tg_31, ts_0, ts_1, ts_2, ts_3, ts_4, ts_5, ts_6, ts_7, ts_8, ts_9, ts_10, ts_11, ts_12, ts_13, ts_14, ts_15, ts_16, ts_17, ts_18, ts_19, ts_20, ts_21, ts_22, ts_23, ts_24, ts_25, ts_26, ts_27, ts_28, ts_29, ts_30, ts_31, um_s, um_n, um_um, um_co, um_id, id_eq, lit_, nI_add, nI_mul, ix_nI, h9]
    rw [← hM1, a1]
    simp (disch := omega) only [b103_2, K103_2, b103_8, K103_8, R_cons, go_nx, go_jp, go_rt, go_th, go_ca, go_no, go_ite, rr_v, rr_n, rr_x, hx_n, hx_p, hx_b, I_push, I_pushl, I_fc0, I_fc1, I_dc0, I_null, I_mask, I_iload, I_lload, I_dload, I_fload, I_aload, I_istore, I_lstore, I_dstore, I_fstore, I_astore, I_iinc, I_iadd, I_isub, I_imul, I_iand, I_ior, I_ixor, I_ishl, I_ishr, I_iushr, I_ineg, I_ladd, I_lsub, I_lmul, I_lxor, I_i2l, I_l2i, I_i2b, I_i2c, I_i2f, I_i2d, I_lcmp, I_fdiv, I_ddiv, I_f2d, I_dcmp, I_dup, I_pop, I_dup_x1, I_dup2, I_icne, I_iceq, I_iclt, I_icge, I_icgt, I_icle, I_ifnull, I_ifnonnull, I_ane, I_aeq, I_goto, I_tsw, I_lsw, I_iret, I_lret, I_fret, I_dret, I_vret, I_nret, I_aret, I_iald, I_bald, I_lald, I_aald, I_iast, I_bast, I_last, I_aast, I_alen, I_new, I_val, I_cast, I_inst, I_obj, I_throw, I_mkx, I_getf, I_putf, I_call, I_calli, I_callv, I_acopy, I_clone, I_getc, i_ifeq, i_ifne, i_iflt, i_ifge, i_ifgt, i_ifle, i_idiv, i_irem, i_newa, i_newo, i_abs, i_max, i_min, i_ldiv, en_, es_i, es_r, es_0, es_n, es_l, List.length_cons, List.length_nil, List.cons_append, List.nil_append, Nat.reduceAdd, Nat.reduceSub, List.replicate, lg_, st1_, st2_, cn_, nl_, mk_, pk_, kd_, sl_, la_, ft_a, ft_i, ft_l, ft_o, ft_n, ft_b0, ft_b1, ft_bI, nr_0, nr_1, nr_bI, ro_, no_, if_true, if_false, ite_true, ite_false, reduceIte, Nat.reduceMod, Nat.reduceEqDiff, Nat.zero_add, Nat.add_zero, lk_, um_s, um_n, um_um, um_co, um_id, id_eq, lit_, nI_add, nI_mul, ix_nI]
    rw [a2]
    simp (disch := omega) only [b103_2, K103_2, b103_8, K103_8, R_cons, go_nx, go_jp, go_rt, go_th, go_ca, go_no, go_ite, rr_v, rr_n, rr_x, hx_n, hx_p, hx_b, I_push, I_pushl, I_fc0, I_fc1, I_dc0, I_null, I_mask, I_iload, I_lload, I_dload, I_fload, I_aload, I_istore, I_lstore, I_dstore, I_fstore, I_astore, I_iinc, I_iadd, I_isub, I_imul, I_iand, I_ior, I_ixor, I_ishl, I_ishr, I_iushr, I_ineg, I_ladd, I_lsub, I_lmul, I_lxor, I_i2l, I_l2i, I_i2b, I_i2c, I_i2f, I_i2d, I_lcmp, I_fdiv, I_ddiv, I_f2d, I_dcmp, I_dup, I_pop, I_dup_x1, I_dup2, I_icne, I_iceq, I_iclt, I_icge, I_icgt, I_icle, I_ifnull, I_ifnonnull, I_ane, I_aeq, I_goto, I_tsw, I_lsw, I_iret, I_lret, I_fret, I_dret, I_vret, I_nret, I_aret, I_iald, I_bald, I_lald, I_aald, I_iast, I_bast, I_last, I_aast, I_alen, I_new, I_val, I_cast, I_inst, I_obj, I_throw, I_mkx, I_getf, I_putf, I_call, I_calli, I_callv, I_acopy, I_clone, I_getc, i_ifeq, i_ifne, i_iflt, i_ifge, i_ifgt, i_ifle, i_idiv, i_irem, i_newa, i_newo, i_abs, i_max, i_min, i_ldiv, en_, es_i, es_r, es_0, es_n, es_l, List.length_cons, List.length_nil, List.cons_append, List.nil_append, Nat.reduceAdd, Nat.reduceSub, List.replicate, lg_, st1_, st2_, cn_, nl_, mk_, pk_, kd_, sl_, la_, ft_a, ft_i, ft_l, ft_o, ft_n, ft_b0, ft_b1, ft_bI, nr_0, nr_1, nr_bI, ro_, no_, if_true, if_false, ite_true, ite_false, reduceIte, Nat.reduceMod, Nat.reduceEqDiff, Nat.zero_add, Nat.add_zero, lk_, um_s, um_n, um_um, um_co, um_id, id_eq, lit_, nI_add, nI_mul, ix_nI]
    rw [show um (um (um M1 11 x.1) 12 x.2) 13 (M1 13) = um (um M1 11 x.1) 12 x.2 from um_id (M := um (um M1 11 x.1) 12 x.2) (k := 13)] at a3
    exact a3
  · show y.1 k = upv_ (M 1) (err_ (M 1) n s) s k
    have h := (fe3a_at (r := M 1) (m := x.1) h12 k n 0 (x.2, M1 13) (by omega)).1
    rw [hy] at h
    rw [h, (hx1 k hk).1]
    dsimp only
    rw [(hx1 k hk).2]
    have h40 := ct_40 hW k
    unfold upv_
    by_cases c : ct_ (M 1) s k = 0
    · rw [c, if_pos rfl, if_neg (fun k => k.2.2.2 rfl)]
      exact su_0 c
    · have hp := ct_pair hW c
      rw [if_neg c, if_pos ⟨by omega, hp.1, hp.2, by rw [nI_eq (by omega) (by omega)]; exact c⟩]
  · show y.2 k = _
    have h := (fe3a_at (r := M 1) (m := x.1) h12 k n 0 (x.2, M1 13) (by omega)).2
    rw [hy] at h
    have h40 := ct_40 hW k
    have hp := ct_pair hW hc
    rw [h, (hx1 k hk).1, if_pos ⟨by omega, hp.1, hp.2, by rw [nI_eq (by omega) (by omega)]; exact hc⟩]
    rfl
end TWD
