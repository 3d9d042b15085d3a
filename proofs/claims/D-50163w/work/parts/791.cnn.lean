/-! LOOPS of the component -/
def LpO_ (m : Nat) (h : Nat → Option Ac_) (x k0 : Nat) (w : List Nat) (mi wa : Int32) : Prop := ∃ a f, h x = some (.inr (4, [.ref a, .int mi, .int wa])) ∧ h a = some (tI_ 0 w.length f) ∧ (∀ j z, (k0 :: w)[j]? = some z → f (j % w.length) = nI z) ∧ m < x ∧ m < a
theorem LpO_mono {m : Nat} {h h' : Nat → Option Ac_} {x k0 : Nat} {w : List Nat} {mi wa : Int32} (hl : le_ h h') (h1 : LpO_ m h x k0 w mi wa) : LpO_ m h' x k0 w mi wa := by
  obtain ⟨a, f, e1, e2, e3⟩ := h1
  exact ⟨a, f, hl _ _ e1, hl _ _ e2, e3⟩
section CNN
variable {E : En_} {σ : As_} {n s b bb q : Nat} {r : Nat → Int32} {ms ss : List Nat} {h0 : Nat → Option Ac_} {lc : Ac_} {N : Nat → Nat → Int32} {hg dp : Nat → Nat}
theorem L_closes {m x k0 : Nat} {w : List Nat} {mi wa l : Int32} (h : LpO_ m σ.2.2 x k0 w mi wa) : D_ E 259 [.ref x, .int l] σ = some (.inl (some (.int (bI (clo_ mi wa l = true)))), σ) := by
  obtain ⟨a, f, e1, e2, e3, _⟩ := h
  rw [D_run]
  simp (disch := omega) only [l259, b259_0, K259_0, b259_1, K259_1, b259_2, K259_2, R_cons, go_nx, go_jp, go_rt, go_th, go_ca, go_no, go_ite, rr_v, rr_n, rr_x, hx_n, hx_p, hx_b, I_push, I_pushl, I_fc0, I_fc1, I_dc0, I_null, I_mask, I_iload, I_lload, I_dload, I_fload, I_aload, I_istore, I_lstore, I_dstore, I_fstore, I_astore, I_iinc, I_iadd, I_isub, I_imul, I_iand, I_ior, I_ixor, I_ishl, I_ishr, I_iushr, I_ineg, I_ladd, I_lsub, I_lmul, I_lxor, I_i2l, I_l2i, I_i2b, I_i2c, I_i2f, I_i2d, I_lcmp, I_fdiv, I_ddiv, I_f2d, I_dcmp, I_dup, I_pop, I_dup_x1, I_dup2, I_icne, I_iceq, I_iclt, I_icge, I_icgt, I_icle, I_ifnull, I_ifnonnull, I_ane, I_aeq, I_goto, I_lsw, I_iret, I_lret, I_fret, I_dret, I_vret, I_nret, I_aret, I_iald, I_bald, I_lald, I_aald, I_iast, I_bast, I_last, I_aast, I_alen, I_new, I_val, I_cast, I_inst, I_obj, I_throw, I_mkx, I_getf, I_putf, I_call, I_calli, I_callv, I_clone, I_getc, i_ifeq, i_ifne, i_iflt, i_ifge, i_ifgt, i_ifle, i_idiv, i_irem, i_newa, i_newo, i_abs, i_max, i_min, i_ldiv, en_, es_i, es_r, es_0, es_n, es_l, List.length_cons, List.length_nil, List.cons_append, List.nil_append, Nat.reduceAdd, Nat.reduceSub, List.replicate, lg_, st1_, st2_, cn_, nl_, mk_, pk_, kd_, sl_, la_, ft_a, ft_i, ft_l, ft_o, ft_n, ft_b0, ft_b1, ft_bI, nr_0, nr_1, nr_bI, ro_, no_, if_true, if_false, ite_true, ite_false, reduceIte, Nat.reduceMod, Nat.reduceEqDiff, Nat.zero_add, Nat.add_zero, lk_, lit_, nI_add, nI_mul, ix_nI, fgk_0, fgk_1, fgk_2, fgk_3, fgk_4, fgk_5, fgk_6, fgk_7, fgk_8, fgk_9, fgk_10, fgk_11, fgk_12, fgk_13, fsk_0, fsk_1, fsk_2, fsk_3, fsk_4, fsk_5, fsk_6, fsk_7, fsk_8, fsk_9, fsk_10, fsk_11, fsk_12, fsk_13, ca_i, ca_r, ca_n, Nat.reduceLT, true_or, or_true, if_true, false_or, or_false, and_true, true_and, List.mem_singleton, eq_self, cq_lt, cq_gt, cq_eq, cq_le, cq_ge, e1]
  by_cases c : 1000 * mi.toInt64 * mi.toInt64 ≤ l.toInt64 * l.toInt64 * wa.toInt64
  · rw [if_neg (by rw [Int64.not_lt]; exact c)]
    unfold bI clo_; rw [if_pos (decide_eq_true c)]; rfl
  · rw [if_pos (by rw [← Int64.not_le]; exact c)]
    unfold bI clo_; rw [if_neg (by rw [decide_eq_true_eq]; exact c)]; rfl
theorem L_isWorse {m x k0 y k1 : Nat} {w v : List Nat} {mi wa mj wb : Int32} (h : LpO_ m σ.2.2 x k0 w mi wa) (h' : LpO_ m σ.2.2 y k1 v mj wb) : D_ E 260 [.ref x, .ref y] σ = some (.inl (some (.int (bI (¬ mi.toInt64 * mi.toInt64 * wb.toInt64 ≤ mj.toInt64 * mj.toInt64 * wa.toInt64)))), σ) := by
  obtain ⟨a, f, e1, e2, e3, _⟩ := h
  obtain ⟨a', f', e1', e2', e3', _⟩ := h'
  rw [D_run]
  simp (disch := omega) only [l260, b260_0, K260_0, b260_1, K260_1, b260_2, K260_2, R_cons, go_nx, go_jp, go_rt, go_th, go_ca, go_no, go_ite, rr_v, rr_n, rr_x, hx_n, hx_p, hx_b, I_push, I_pushl, I_fc0, I_fc1, I_dc0, I_null, I_mask, I_iload, I_lload, I_dload, I_fload, I_aload, I_istore, I_lstore, I_dstore, I_fstore, I_astore, I_iinc, I_iadd, I_isub, I_imul, I_iand, I_ior, I_ixor, I_ishl, I_ishr, I_iushr, I_ineg, I_ladd, I_lsub, I_lmul, I_lxor, I_i2l, I_l2i, I_i2b, I_i2c, I_i2f, I_i2d, I_lcmp, I_fdiv, I_ddiv, I_f2d, I_dcmp, I_dup, I_pop, I_dup_x1, I_dup2, I_icne, I_iceq, I_iclt, I_icge, I_icgt, I_icle, I_ifnull, I_ifnonnull, I_ane, I_aeq, I_goto, I_lsw, I_iret, I_lret, I_fret, I_dret, I_vret, I_nret, I_aret, I_iald, I_bald, I_lald, I_aald, I_iast, I_bast, I_last, I_aast, I_alen, I_new, I_val, I_cast, I_inst, I_obj, I_throw, I_mkx, I_getf, I_putf, I_call, I_calli, I_callv, I_clone, I_getc, i_ifeq, i_ifne, i_iflt, i_ifge, i_ifgt, i_ifle, i_idiv, i_irem, i_newa, i_newo, i_abs, i_max, i_min, i_ldiv, en_, es_i, es_r, es_0, es_n, es_l, List.length_cons, List.length_nil, List.cons_append, List.nil_append, Nat.reduceAdd, Nat.reduceSub, List.replicate, lg_, st1_, st2_, cn_, nl_, mk_, pk_, kd_, sl_, la_, ft_a, ft_i, ft_l, ft_o, ft_n, ft_b0, ft_b1, ft_bI, nr_0, nr_1, nr_bI, ro_, no_, if_true, if_false, ite_true, ite_false, reduceIte, Nat.reduceMod, Nat.reduceEqDiff, Nat.zero_add, Nat.add_zero, lk_, lit_, nI_add, nI_mul, ix_nI, fgk_0, fgk_1, fgk_2, fgk_3, fgk_4, fgk_5, fgk_6, fgk_7, fgk_8, fgk_9, fgk_10, fgk_11, fgk_12, fgk_13, fsk_0, fsk_1, fsk_2, fsk_3, fsk_4, fsk_5, fsk_6, fsk_7, fsk_8, fsk_9, fsk_10, fsk_11, fsk_12, fsk_13, ca_i, ca_r, ca_n, Nat.reduceLT, true_or, or_true, if_true, false_or, or_false, and_true, true_and, List.mem_singleton, eq_self, cq_lt, cq_gt, cq_eq, cq_le, cq_ge, e1, e1']
  by_cases c : mi.toInt64 * mi.toInt64 * wb.toInt64 ≤ mj.toInt64 * mj.toInt64 * wa.toInt64
  · rw [if_pos c]
    unfold bI; rw [if_neg (fun h => h c)]; rfl
  · rw [if_neg c]
    unfold bI; rw [if_pos c]; rfl
theorem lh_lp {m x k0 e : Nat} {w : List Nat} {mi wa : Int32} (h : LpO_ m σ.2.2 x k0 w mi wa) (hz : ∀ z ∈ k0 :: w, z < 12) (h12 : w.length ≤ 12) (he : e < 144) : ∀ (d i : Nat), i + d = w.length →
    R_ E 261 (B_ E 261 1) [some (.ref x), some (.int (nI e)), some (.int (nI i))] [] σ = some (.inl (some (.int (bI (pin_ e ((k0 :: w).drop i) = true)))), σ) := by
  obtain ⟨a, f, e1, e2, e3, _⟩ := h
  intro d
  induction d with
  | zero =>
    intro i hi
    obtain rfl : i = w.length := by omega
    obtain ⟨y, hy⟩ : ∃ y, (k0 :: w).drop w.length = [y] := by
      have : ((k0 :: w).drop w.length).length = 1 := by rw [List.length_drop, List.length_cons]; omega
      exact List.length_eq_one_iff.mp this
    rw [b261_1, hy]
    simp (disch := omega) only [K261_1, b261_3, K261_3, R_cons, go_nx, go_jp, go_rt, go_th, go_ca, go_no, go_ite, rr_v, rr_n, rr_x, hx_n, hx_p, hx_b, I_push, I_pushl, I_fc0, I_fc1, I_dc0, I_null, I_mask, I_iload, I_lload, I_dload, I_fload, I_aload, I_istore, I_lstore, I_dstore, I_fstore, I_astore, I_iinc, I_iadd, I_isub, I_imul, I_iand, I_ior, I_ixor, I_ishl, I_ishr, I_iushr, I_ineg, I_ladd, I_lsub, I_lmul, I_lxor, I_i2l, I_l2i, I_i2b, I_i2c, I_i2f, I_i2d, I_lcmp, I_fdiv, I_ddiv, I_f2d, I_dcmp, I_dup, I_pop, I_dup_x1, I_dup2, I_icne, I_iceq, I_iclt, I_icge, I_icgt, I_icle, I_ifnull, I_ifnonnull, I_ane, I_aeq, I_goto, I_lsw, I_iret, I_lret, I_fret, I_dret, I_vret, I_nret, I_aret, I_iald, I_bald, I_lald, I_aald, I_iast, I_bast, I_last, I_aast, I_alen, I_new, I_val, I_cast, I_inst, I_obj, I_throw, I_mkx, I_getf, I_putf, I_call, I_calli, I_callv, I_clone, I_getc, i_ifeq, i_ifne, i_iflt, i_ifge, i_ifgt, i_ifle, i_idiv, i_irem, i_newa, i_newo, i_abs, i_max, i_min, i_ldiv, en_, es_i, es_r, es_0, es_n, es_l, List.length_cons, List.length_nil, List.cons_append, List.nil_append, Nat.reduceAdd, Nat.reduceSub, List.replicate, lg_, st1_, st2_, cn_, nl_, mk_, pk_, kd_, sl_, la_, ft_a, ft_i, ft_l, ft_o, ft_n, ft_b0, ft_b1, ft_bI, nr_0, nr_1, nr_bI, ro_, no_, if_true, if_false, ite_true, ite_false, reduceIte, Nat.reduceMod, Nat.reduceEqDiff, Nat.zero_add, Nat.add_zero, lk_, lit_, nI_add, nI_mul, ix_nI, fgk_0, fgk_1, fgk_2, fgk_3, fgk_4, fgk_5, fgk_6, fgk_7, fgk_8, fgk_9, fgk_10, fgk_11, fgk_12, fgk_13, fsk_0, fsk_1, fsk_2, fsk_3, fsk_4, fsk_5, fsk_6, fsk_7, fsk_8, fsk_9, fsk_10, fsk_11, fsk_12, fsk_13, ca_i, ca_r, ca_n, Nat.reduceLT, true_or, or_true, if_true, false_or, or_false, and_true, true_and, List.mem_singleton, eq_self, e1, e2, nI_leI, Nat.le_refl]
    rfl
  | succ d ih =>
    intro i hi
    have hlt : ¬ w.length ≤ i := by omega
    have hi1 : i < (k0 :: w).length := by rw [List.length_cons]; omega
    have hi2 : i + 1 < (k0 :: w).length := by rw [List.length_cons]; omega
    have f1 := e3 i _ (List.getElem?_eq_getElem hi1)
    have f2 := e3 (i + 1) _ (List.getElem?_eq_getElem hi2)
    rw [Nat.mod_eq_of_lt (by omega)] at f1
    have z1 := hz _ (List.getElem_mem hi1)
    have z2 := hz _ (List.getElem_mem hi2)
    have ed1 : (k0 :: w).drop i = (k0 :: w)[i] :: (k0 :: w)[i + 1] :: (k0 :: w).drop (i + 2) := by
      rw [List.drop_eq_getElem_cons hi1, List.drop_eq_getElem_cons hi2]
    have ed2 : (k0 :: w).drop (i + 1) = (k0 :: w)[i + 1] :: (k0 :: w).drop (i + 2) := List.drop_eq_getElem_cons hi2
    have ih' := ih (i + 1) (by omega)
    rw [ed1]
    generalize (k0 :: w)[i] = u1 at *
    generalize (k0 :: w)[i + 1] = u2 at *
    have hk := S_key (E := E) (σ := σ) z1 z2
    have hp : pa_ u1 u2 < 144 := pa_lt z1 z2
    have hm : (i + 1) % w.length < w.length := Nat.mod_lt _ (by omega)
    have hne : ¬ nI w.length = nI 0 := by rw [nI_eq (by omega) (by decide)]; omega
    have hdv := nI_dvI (a := i + 1) (b := w.length) (by omega) (by omega) (by omega)
    conv => lhs; rw [b261_1]
    by_cases c : pa_ u1 u2 = e
    · have e5 : pin_ e (u1 :: u2 :: (k0 :: w).drop (i + 2)) = true := by unfold pin_; rw [decide_eq_true c]; rfl
      rw [e5]
      simp (disch := first | assumption | omega) only [K261_1, R_cons, go_nx, go_jp, go_rt, go_th, go_ca, go_no, go_ite, rr_v, rr_n, rr_x, hx_n, hx_p, hx_b, I_push, I_pushl, I_fc0, I_fc1, I_dc0, I_null, I_mask, I_iload, I_lload, I_dload, I_fload, I_aload, I_istore, I_lstore, I_dstore, I_fstore, I_astore, I_iinc, I_iadd, I_isub, I_imul, I_iand, I_ior, I_ixor, I_ishl, I_ishr, I_iushr, I_ineg, I_ladd, I_lsub, I_lmul, I_lxor, I_i2l, I_l2i, I_i2b, I_i2c, I_i2f, I_i2d, I_lcmp, I_fdiv, I_ddiv, I_f2d, I_dcmp, I_dup, I_pop, I_dup_x1, I_dup2, I_icne, I_iceq, I_iclt, I_icge, I_icgt, I_icle, I_ifnull, I_ifnonnull, I_ane, I_aeq, I_goto, I_lsw, I_iret, I_lret, I_fret, I_dret, I_vret, I_nret, I_aret, I_iald, I_bald, I_lald, I_aald, I_iast, I_bast, I_last, I_aast, I_alen, I_new, I_val, I_cast, I_inst, I_obj, I_throw, I_mkx, I_getf, I_putf, I_call, I_calli, I_callv, I_clone, I_getc, i_ifeq, i_ifne, i_iflt, i_ifge, i_ifgt, i_ifle, i_idiv, i_irem, i_newa, i_newo, i_abs, i_max, i_min, i_ldiv, en_, es_i, es_r, es_0, es_n, es_l, List.length_cons, List.length_nil, List.cons_append, List.nil_append, Nat.reduceAdd, Nat.reduceSub, List.replicate, lg_, st1_, st2_, cn_, nl_, mk_, pk_, kd_, sl_, la_, ft_a, ft_i, ft_l, ft_o, ft_n, ft_b0, ft_b1, ft_bI, nr_0, nr_1, nr_bI, ro_, no_, if_true, if_false, ite_true, ite_false, reduceIte, Nat.reduceMod, Nat.reduceEqDiff, Nat.zero_add, Nat.add_zero, lk_, lit_, nI_add, nI_mul, ix_nI, fgk_0, fgk_1, fgk_2, fgk_3, fgk_4, fgk_5, fgk_6, fgk_7, fgk_8, fgk_9, fgk_10, fgk_11, fgk_12, fgk_13, fsk_0, fsk_1, fsk_2, fsk_3, fsk_4, fsk_5, fsk_6, fsk_7, fsk_8, fsk_9, fsk_10, fsk_11, fsk_12, fsk_13, ca_i, ca_r, ca_n, Nat.reduceLT, true_or, or_true, if_true, false_or, or_false, and_true, true_and, List.mem_singleton, eq_self, e1, e2, nI_leI, hlt, f1, f2, hdv, nI_rm, hk, c]
      rfl
    · have e5 : pin_ e (u1 :: u2 :: (k0 :: w).drop (i + 2)) = pin_ e ((k0 :: w).drop (i + 1)) := by
        rw [ed2]
        show (decide _ || pin_ e _) = _
        rw [decide_eq_false c, Bool.false_or]
      have c' : ¬ nI (pa_ u1 u2) = nI e := by rw [nI_eq (by omega) (by omega)]; exact c
      rw [e5, ← ih']
      simp (disch := first | assumption | omega) only [K261_1, b261_2, K261_2, R_cons, go_nx, go_jp, go_rt, go_th, go_ca, go_no, go_ite, rr_v, rr_n, rr_x, hx_n, hx_p, hx_b, I_push, I_pushl, I_fc0, I_fc1, I_dc0, I_null, I_mask, I_iload, I_lload, I_dload, I_fload, I_aload, I_istore, I_lstore, I_dstore, I_fstore, I_astore, I_iinc, I_iadd, I_isub, I_imul, I_iand, I_ior, I_ixor, I_ishl, I_ishr, I_iushr, I_ineg, I_ladd, I_lsub, I_lmul, I_lxor, I_i2l, I_l2i, I_i2b, I_i2c, I_i2f, I_i2d, I_lcmp, I_fdiv, I_ddiv, I_f2d, I_dcmp, I_dup, I_pop, I_dup_x1, I_dup2, I_icne, I_iceq, I_iclt, I_icge, I_icgt, I_icle, I_ifnull, I_ifnonnull, I_ane, I_aeq, I_goto, I_lsw, I_iret, I_lret, I_fret, I_dret, I_vret, I_nret, I_aret, I_iald, I_bald, I_lald, I_aald, I_iast, I_bast, I_last, I_aast, I_alen, I_new, I_val, I_cast, I_inst, I_obj, I_throw, I_mkx, I_getf, I_putf, I_call, I_calli, I_callv, I_clone, I_getc, i_ifeq, i_ifne, i_iflt, i_ifge, i_ifgt, i_ifle, i_idiv, i_irem, i_newa, i_newo, i_abs, i_max, i_min, i_ldiv, en_, es_i, es_r, es_0, es_n, es_l, List.length_cons, List.length_nil, List.cons_append, List.nil_append, Nat.reduceAdd, Nat.reduceSub, List.replicate, lg_, st1_, st2_, cn_, nl_, mk_, pk_, kd_, sl_, la_, ft_a, ft_i, ft_l, ft_o, ft_n, ft_b0, ft_b1, ft_bI, nr_0, nr_1, nr_bI, ro_, no_, if_true, if_false, ite_true, ite_false, reduceIte, Nat.reduceMod, Nat.reduceEqDiff, Nat.zero_add, Nat.add_zero, lk_, lit_, nI_add, nI_mul, ix_nI, fgk_0, fgk_1, fgk_2, fgk_3, fgk_4, fgk_5, fgk_6, fgk_7, fgk_8, fgk_9, fgk_10, fgk_11, fgk_12, fgk_13, fsk_0, fsk_1, fsk_2, fsk_3, fsk_4, fsk_5, fsk_6, fsk_7, fsk_8, fsk_9, fsk_10, fsk_11, fsk_12, fsk_13, ca_i, ca_r, ca_n, Nat.reduceLT, true_or, or_true, if_true, false_or, or_false, and_true, true_and, List.mem_singleton, eq_self, e1, e2, nI_leI, hlt, f1, f2, hdv, nI_rm, hk, c', nI_1]
theorem L_has {m x i e : Nat} {mi wa : Int32} (hW : Wr_ r n s) (hi : i < (lps_ r n s).length) (h : LpO_ m σ.2.2 x (lpe_ r n s i / 12) (lpw_ r n s i) mi wa) (he : e < 144) : D_ E 261 [.ref x, .int (nI e)] σ = some (.inl (some (.int (bI (hed_ r n s i e = true)))), σ) := by
  have h12 := wr_n12 hW
  obtain ⟨p1, p2, p3, p4, p5, p6, p7, _⟩ := lpw_spec hW hi
  have hl := lh_lp (E := E) h (fun z hz => by
    rcases List.mem_cons.mp hz with q | q
    · omega
    · have := p5 z q; omega) p7 he (lpw_ r n s i).length 0 (by omega)
  have eh : hed_ r n s i e = pin_ e (lpe_ r n s i / 12 :: lpw_ r n s i) := by
    unfold hed_
    obtain ⟨_, q2, _⟩ := p4
    cases hw : lpw_ r n s i with
    | nil => rw [hw] at p6; exact absurd p6 (by decide)
    | cons y v =>
      rw [hw] at q2
      have ey : y = lpe_ r n s i % 12 := by simpa using q2
      have ep : pa_ (lpe_ r n s i / 12) y = lpe_ r n s i := by
        rw [ey]
        have : pa_ (lpe_ r n s i / 12) (lpe_ r n s i % 12) = 12 * (lpe_ r n s i / 12) + lpe_ r n s i % 12 := if_pos p2
        omega
      show _ = (decide _ || pin_ e _)
      rw [ep]
  rw [eh, D_run]
  simp (disch := omega) only [b261_0, K261_0, l261, R_cons, go_nx, go_jp, go_rt, go_th, go_ca, go_no, go_ite, rr_v, rr_n, rr_x, hx_n, hx_p, hx_b, I_push, I_pushl, I_fc0, I_fc1, I_dc0, I_null, I_mask, I_iload, I_lload, I_dload, I_fload, I_aload, I_istore, I_lstore, I_dstore, I_fstore, I_astore, I_iinc, I_iadd, I_isub, I_imul, I_iand, I_ior, I_ixor, I_ishl, I_ishr, I_iushr, I_ineg, I_ladd, I_lsub, I_lmul, I_lxor, I_i2l, I_l2i, I_i2b, I_i2c, I_i2f, I_i2d, I_lcmp, I_fdiv, I_ddiv, I_f2d, I_dcmp, I_dup, I_pop, I_dup_x1, I_dup2, I_icne, I_iceq, I_iclt, I_icge, I_icgt, I_icle, I_ifnull, I_ifnonnull, I_ane, I_aeq, I_goto, I_lsw, I_iret, I_lret, I_fret, I_dret, I_vret, I_nret, I_aret, I_iald, I_bald, I_lald, I_aald, I_iast, I_bast, I_last, I_aast, I_alen, I_new, I_val, I_cast, I_inst, I_obj, I_throw, I_mkx, I_getf, I_putf, I_call, I_calli, I_callv, I_clone, I_getc, i_ifeq, i_ifne, i_iflt, i_ifge, i_ifgt, i_ifle, i_idiv, i_irem, i_newa, i_newo, i_abs, i_max, i_min, i_ldiv, en_, es_i, es_r, es_0, es_n, es_l, List.length_cons, List.length_nil, List.cons_append, List.nil_append, Nat.reduceAdd, Nat.reduceSub, List.replicate, lg_, st1_, st2_, cn_, nl_, mk_, pk_, kd_, sl_, la_, ft_a, ft_i, ft_l, ft_o, ft_n, ft_b0, ft_b1, ft_bI, nr_0, nr_1, nr_bI, ro_, no_, if_true, if_false, ite_true, ite_false, reduceIte, Nat.reduceMod, Nat.reduceEqDiff, Nat.zero_add, Nat.add_zero, lk_, lit_, nI_add, nI_mul, ix_nI, fgk_0, fgk_1, fgk_2, fgk_3, fgk_4, fgk_5, fgk_6, fgk_7, fgk_8, fgk_9, fgk_10, fgk_11, fgk_12, fgk_13, fsk_0, fsk_1, fsk_2, fsk_3, fsk_4, fsk_5, fsk_6, fsk_7, fsk_8, fsk_9, fsk_10, fsk_11, fsk_12, fsk_13, ca_i, ca_r, ca_n, Nat.reduceLT, true_or, or_true, if_true, false_or, or_false, and_true, true_and, List.mem_singleton, eq_self]
  exact hl
/-- along a way, from another start -/
theorem alo_sh {f : Nat → Nat → Int32} : ∀ (l : List Nat) (u v : Int32), alo_ f l (u + v) = u + alo_ f l v := by
  intro l
  induction l with
  | nil => intro u v; rfl
  | cons x l ih =>
    intro u v
    cases l with
    | nil => rfl
    | cons y l =>
      rw [alo_, alo_, Int32.add_assoc, ih]
theorem alo_0 {f : Nat → Nat → Int32} {l : List Nat} {u : Int32} : alo_ f l u = u + alo_ f l (nI 0) := by
  have e : u + nI 0 = u := Int32.add_zero u
  conv => lhs; rw [← e]
  exact alo_sh l u (nI 0)
/-- the loop over an edge's way -/
theorem ll_lp {e : Int32} {w : Nat} {a k0 : Nat} {W : List Nat} (hwl : Wl_ E h0 w r ms ss) (hm : ms.length = n) (hW : Wr_ r n s) (hz : ∀ z ∈ W, z < n) (h12 : W.length ≤ 12) (ha : q + 2 < a) (hN1 : ∀ p, p < 144 → N 1 p = upv_ r e s p) (h10 : Rw_ (N 10) W) (h11 : N 11 0 = nI W.length) : ∀ (d i : Nat) (f : Nat → Int32) (x y : Int32) (σ : As_) (u1 : Option Value), 1 ≤ i → i + d = W.length → NV_ h0 σ b bb q w lc N → σ.2.2 a = some (tI_ 0 W.length f) → (∀ j z, j < i → (k0 :: W)[j]? = some z → f j = nI z) →
    ∃ σ' f', R_ E 295 (B_ E 295 1) [some (.ref b), u1, some (.ref a), some (.int x), some (.int y), some (.int (nI i))] [] σ = R_ E 295 (B_ E 295 2) [some (.ref b), none, some (.ref a), some (.int (alo_ (rf_ r e s) (W.drop (i - 1)) x)), some (.int (alo_ (di_ r) (W.drop (i - 1)) y)), some (.int (nI W.length))] [] σ' ∧ NV_ h0 σ' b bb q w lc N ∧ σ'.2.2 a = some (tI_ 0 W.length f') ∧ (∀ j z, j < W.length → (k0 :: W)[j]? = some z → f' j = nI z) ∧ σ'.1 = σ.1 ∧ σ'.2.1 = σ.2.1 ∧ (∀ x, x ≠ a → σ'.2.2 x = σ.2.2 x) := by
  have hn12 := wr_n12 hW
  intro d
  induction d with
  | zero =>
    intro i f x y σ u1 h1 hi h hA hf
    obtain rfl : i = W.length := by omega
    obtain ⟨⟨c0, _⟩, _⟩ := id h
    obtain ⟨z, hz1⟩ : ∃ z, W.drop (W.length - 1) = [z] := by
      have : (W.drop (W.length - 1)).length = 1 := by rw [List.length_drop]; omega
      exact List.length_eq_one_iff.mp this
    rw [hz1]
    refine ⟨σ, f, ?_, h, hA, hf, rfl, rfl, fun _ _ => rfl⟩
    conv => lhs; rw [b295_1]
    simp (disch := omega) only [K295_1, R_cons, go_nx, go_jp, go_rt, go_th, go_ca, go_no, go_ite, rr_v, rr_n, rr_x, hx_n, hx_p, hx_b, I_push, I_pushl, I_fc0, I_fc1, I_dc0, I_null, I_mask, I_iload, I_lload, I_dload, I_fload, I_aload, I_istore, I_lstore, I_dstore, I_fstore, I_astore, I_iinc, I_iadd, I_isub, I_imul, I_iand, I_ior, I_ixor, I_ishl, I_ishr, I_iushr, I_ineg, I_ladd, I_lsub, I_lmul, I_lxor, I_i2l, I_l2i, I_i2b, I_i2c, I_i2f, I_i2d, I_lcmp, I_fdiv, I_ddiv, I_f2d, I_dcmp, I_dup, I_pop, I_dup_x1, I_dup2, I_icne, I_iceq, I_iclt, I_icge, I_icgt, I_icle, I_ifnull, I_ifnonnull, I_ane, I_aeq, I_goto, I_lsw, I_iret, I_lret, I_fret, I_dret, I_vret, I_nret, I_aret, I_iald, I_bald, I_lald, I_aald, I_iast, I_bast, I_last, I_aast, I_alen, I_new, I_val, I_cast, I_inst, I_obj, I_throw, I_mkx, I_getf, I_putf, I_call, I_calli, I_callv, I_clone, I_getc, i_ifeq, i_ifne, i_iflt, i_ifge, i_ifgt, i_ifle, i_idiv, i_irem, i_newa, i_newo, i_abs, i_max, i_min, i_ldiv, en_, es_i, es_r, es_0, es_n, es_l, List.length_cons, List.length_nil, List.cons_append, List.nil_append, Nat.reduceAdd, Nat.reduceSub, List.replicate, lg_, st1_, st2_, cn_, nl_, mk_, pk_, kd_, sl_, la_, ft_a, ft_i, ft_l, ft_o, ft_n, ft_b0, ft_b1, ft_bI, nr_0, nr_1, nr_bI, ro_, no_, if_true, if_false, ite_true, ite_false, reduceIte, Nat.reduceMod, Nat.reduceEqDiff, Nat.zero_add, Nat.add_zero, lk_, lit_, nI_add, nI_mul, ix_nI, fgk_0, fgk_1, fgk_2, fgk_3, fgk_4, fgk_5, fgk_6, fgk_7, fgk_8, fgk_9, fgk_10, fgk_11, fgk_12, fgk_13, fsk_0, fsk_1, fsk_2, fsk_3, fsk_4, fsk_5, fsk_6, fsk_7, fsk_8, fsk_9, fsk_10, fsk_11, fsk_12, fsk_13, ca_i, ca_r, ca_n, Nat.reduceLT, true_or, or_true, if_true, false_or, or_false, and_true, true_and, List.mem_singleton, eq_self, c0, nf_11, h11, nI_leI, Nat.le_refl, alo_]
  | succ d ih =>
    intro i f x y σ u1 h1 hi h hA hf
    have hlt : ¬ W.length ≤ i := by omega
    have hi0 : i < W.length := by omega
    have hi1 : i - 1 < W.length := by omega
    have hbq := h.2.2.2.2
    have e1 : W.drop (i - 1) = W[i - 1] :: W[i] :: W.drop (i + 1) := by
      rw [List.drop_eq_getElem_cons hi1, show i - 1 + 1 = i by omega, List.drop_eq_getElem_cons hi0]
    have e2 : W.drop (i + 1 - 1) = W[i] :: W.drop (i + 1) := by
      rw [Nat.add_sub_cancel, List.drop_eq_getElem_cons hi0]
    have w1 := Rw_get h10 hi1
    have w2 := Rw_get h10 hi0
    have z1 := hz _ (List.getElem_mem hi1)
    have z2 := hz _ (List.getElem_mem hi0)
    have h2 := NV_oth (c := tI_ 0 W.length (upd f i (nI W[i - 1]))) h hA (by omega) (Or.inr ha)
    have hri := N_riseE (E := E) h2 hW hN1 z1 z2
    have hwl2 := Wl_mono h2.2.1 hwl
    have hdi := W_distance (E := E) hwl2 (show W[i - 1] < ms.length by omega) (show W[i] < ms.length by omega)
    obtain ⟨σ', f', g1, g2, g3, g4, g5, g6, g7⟩ := ih (i + 1) (upd f i (nI W[i - 1])) (x + rf_ r e s W[i - 1] W[i]) (y + di_ r W[i - 1] W[i]) _ none (by omega) (by omega) h2 (up_s _ _ _) (fun j z hj hjz => by
      by_cases ej : j = i
      · subst ej
        rw [upd_s]
        obtain ⟨j, rfl⟩ : ∃ m, j = m + 1 := ⟨j - 1, by omega⟩
        rw [List.getElem?_cons_succ, List.getElem?_eq_getElem (by omega)] at hjz
        injection hjz with hjz
        rw [← hjz]
        rfl
      · rw [upd_n ej]
        exact hf j z (by omega) hjz)
    rw [e2] at g1
    refine ⟨σ', f', ?_, g2, g3, g4, g5, g6, fun y y1 => (g7 y y1).trans (up_n y1)⟩
    rw [e1, alo_, alo_, ← g1]
    obtain ⟨⟨c0, c1, c2, c3, c4, c5, c6, c8, c9, c10, _⟩, _⟩ := id h
    obtain ⟨⟨d0, d1, d2, d3, d4, d5, d6, d8, d9, d10, _⟩, _⟩ := id h2
    obtain ⟨am, em, as, es, st, mc, mc', hA2⟩ := hwl2
    have hwc := hA2.1
    dsimp only at d0 d10 hwc
    have hm1 : nI i - nI 1 = nI (i - 1) := nI_sub (by omega)
    conv => lhs; rw [b295_1]
    simp (disch := first | assumption | omega) only [K295_1, R_cons, go_nx, go_jp, go_rt, go_th, go_ca, go_no, go_ite, rr_v, rr_n, rr_x, hx_n, hx_p, hx_b, I_push, I_pushl, I_fc0, I_fc1, I_dc0, I_null, I_mask, I_iload, I_lload, I_dload, I_fload, I_aload, I_istore, I_lstore, I_dstore, I_fstore, I_astore, I_iinc, I_iadd, I_isub, I_imul, I_iand, I_ior, I_ixor, I_ishl, I_ishr, I_iushr, I_ineg, I_ladd, I_lsub, I_lmul, I_lxor, I_i2l, I_l2i, I_i2b, I_i2c, I_i2f, I_i2d, I_lcmp, I_fdiv, I_ddiv, I_f2d, I_dcmp, I_dup, I_pop, I_dup_x1, I_dup2, I_icne, I_iceq, I_iclt, I_icge, I_icgt, I_icle, I_ifnull, I_ifnonnull, I_ane, I_aeq, I_goto, I_lsw, I_iret, I_lret, I_fret, I_dret, I_vret, I_nret, I_aret, I_iald, I_bald, I_lald, I_aald, I_iast, I_bast, I_last, I_aast, I_alen, I_new, I_val, I_cast, I_inst, I_obj, I_throw, I_mkx, I_getf, I_putf, I_call, I_calli, I_callv, I_clone, I_getc, i_ifeq, i_ifne, i_iflt, i_ifge, i_ifgt, i_ifle, i_idiv, i_irem, i_newa, i_newo, i_abs, i_max, i_min, i_ldiv, en_, es_i, es_r, es_0, es_n, es_l, List.length_cons, List.length_nil, List.cons_append, List.nil_append, Nat.reduceAdd, Nat.reduceSub, List.replicate, lg_, st1_, st2_, cn_, nl_, mk_, pk_, kd_, sl_, la_, ft_a, ft_i, ft_l, ft_o, ft_n, ft_b0, ft_b1, ft_bI, nr_0, nr_1, nr_bI, ro_, no_, if_true, if_false, ite_true, ite_false, reduceIte, Nat.reduceMod, Nat.reduceEqDiff, Nat.zero_add, Nat.add_zero, lk_, lit_, nI_add, nI_mul, ix_nI, fgk_0, fgk_1, fgk_2, fgk_3, fgk_4, fgk_5, fgk_6, fgk_7, fgk_8, fgk_9, fgk_10, fgk_11, fgk_12, fgk_13, fsk_0, fsk_1, fsk_2, fsk_3, fsk_4, fsk_5, fsk_6, fsk_7, fsk_8, fsk_9, fsk_10, fsk_11, fsk_12, fsk_13, ca_i, ca_r, ca_n, Nat.reduceLT, true_or, or_true, if_true, false_or, or_false, and_true, true_and, List.mem_singleton, eq_self, c0, c10, hA, d0, d10, nf_10, nf_11, nf_12, h11, nI_leI, hlt, hm1, ix_nI, w1, w2, hri, hwc, hdi, nI_1]
theorem N_loopOf {e : Int32} {w p : Nat} (hwl : Wl_ E h0 w r ms ss) (hm : ms.length = n) (hW : Wr_ r n s) (hD : Dn_ n (prt_ r n s) (tkn_ r n s) hg dp) (h8 : ∀ k, k < n → 0 < dp k → N 8 k = nI (hg k)) (h9 : ∀ k, k < n → N 9 k = nI (dp k) ∧ dp k ≤ 12) (hN1 : ∀ p, p < 144 → N 1 p = upv_ r e s p) (hp : p / 12 < p % 12) (hp2 : p % 12 < n) (hac : prt_ r n s (p % 12) = prt_ r n s (p / 12)) (h : NV_ h0 σ b bb q w lc N) :
    ∃ σ' x f, D_ E 295 [.ref b, .int (nI p)] σ = some (.inl (some (.ref x)), σ') ∧ NV_ h0 σ' b bb q w lc (um (um N 10 f) 11 (fun _ => nI (pth_ r n s (p % 12) (p / 12)).length)) ∧ LpO_ (q + 2) σ'.2.2 x (p / 12) (pth_ r n s (p % 12) (p / 12)) (upv_ r e s p + alo_ (rf_ r e s) (pth_ r n s (p % 12) (p / 12)) (nI 0)) (di_ r (p / 12) (p % 12) + alo_ (di_ r) (pth_ r n s (p % 12) (p / 12)) (nI 0)) ∧ q + 2 < x ∧ Ob_ σ'.2.2 x ∧ Sz_ 23 σ σ' ∧ σ.1 ≤ x ∧ (∀ x c, σ.2.2 x = some c → x ≠ b → x ≠ q + 2 → σ'.2.2 x = some c) := by
  have hn12 := wr_n12 hW
  obtain ⟨σ1, f, g1, g2, g3, g4, g5, g6⟩ := N_layWay (E := E) hn12 hD h8 h9 (a := p % 12) (c := p / 12) hp2 (by omega) hac h
  obtain ⟨⟨p1, q1, q2⟩, p2⟩ := pth_spec (r := r) (s := s) hn12 hp2 (show p / 12 < n by omega) hac
  have hlen : (pth_ r n s (p % 12) (p / 12)).length ≤ 12 := by
    have := wk_len hn12 (kr_all (r := r) (n := n) (s := s) hn12).2.1 p1 p2
    omega
  generalize hV : pth_ r n s (p % 12) (p / 12) = V at *
  have hl0 : 0 < V.length := by
    cases V with
    | nil => cases q1
    | cons a v => rw [List.length_cons]; omega
  have hq1 := NV_lt g2
  have hbq := g2.2.2.2.2
  have h2 := NV_new (k := V.length) (c := tI_ 0 V.length (fun _ => nI 0)) g2
  have hf := N_far (E := E) h2 hwl hm (show p / 12 < n ∧ p % 12 < n by omega) hn12
  have h3 := NV_oth (x := σ1.1) (c := tI_ 0 V.length (upd (fun _ => nI 0) 0 (nI (p / 12)))) h2 (up_s _ _ _) (by omega) (Or.inr hq1)
  obtain ⟨σ2, f2, j1, j2, j3, j4, j5, j6, j7⟩ := ll_lp (E := E) (e := e) (k0 := p / 12) (W := V) (N := um (um N 10 f) 11 (fun _ => nI V.length)) hwl hm hW p2 hlen hq1 hN1 g3 rfl (V.length - 1) 1 (upd (fun _ => nI 0) 0 (nI (p / 12))) (upv_ r e s p) (di_ r (p / 12) (p % 12)) _ (some (.int (nI p))) (by omega) (by omega) h3 (up_s _ _ _) (fun j z hj hjz => by
    obtain rfl : j = 0 := by omega
    cases hjz
    exact upd_s)
  have e0 : V.drop (1 - 1) = V := rfl
  rw [e0, alo_0, alo_0 (u := di_ r (p / 12) (p % 12))] at j1
  have h4 := NV_new (k := 3) (c := .inr (4, [.null, .int (nI 0), .int (nI 0)])) j2
  have hq2 := NV_lt j2
  obtain ⟨mi, hmi⟩ : ∃ mi, mi = upv_ r e s p + alo_ (rf_ r e s) V (nI 0) := ⟨_, rfl⟩
  obtain ⟨wa, hwa⟩ : ∃ wa, wa = di_ r (p / 12) (p % 12) + alo_ (di_ r) V (nI 0) := ⟨_, rfl⟩
  rw [← hmi, ← hwa] at j1 ⊢
  have h5 := NV_oth (x := σ2.1) (c := .inr (4, [.ref σ1.1, .int mi, .int wa])) h4 (up_s _ _ _) (by omega) (Or.inr hq2)
  have hLi : D_ E 258 [.ref σ2.1, .ref σ1.1, .int mi, .int wa] (σ2.1 + 1, σ2.2.1 + 3, up_ σ2.2.2 σ2.1 (.inr (4, [.null, .int (nI 0), .int (nI 0)]))) = some (.inl none, (σ2.1 + 1, σ2.2.1 + 3, up_ σ2.2.2 σ2.1 (.inr (4, [.ref σ1.1, .int mi, .int wa])))) := by
    rw [D_run]
    simp (disch := omega) only [l258, b258_0, K258_0, R_cons, go_nx, go_jp, go_rt, go_th, go_ca, go_no, go_ite, rr_v, rr_n, rr_x, hx_n, hx_p, hx_b, I_push, I_pushl, I_fc0, I_fc1, I_dc0, I_null, I_mask, I_iload, I_lload, I_dload, I_fload, I_aload, I_istore, I_lstore, I_dstore, I_fstore, I_astore, I_iinc, I_iadd, I_isub, I_imul, I_iand, I_ior, I_ixor, I_ishl, I_ishr, I_iushr, I_ineg, I_ladd, I_lsub, I_lmul, I_lxor, I_i2l, I_l2i, I_i2b, I_i2c, I_i2f, I_i2d, I_lcmp, I_fdiv, I_ddiv, I_f2d, I_dcmp, I_dup, I_pop, I_dup_x1, I_dup2, I_icne, I_iceq, I_iclt, I_icge, I_icgt, I_icle, I_ifnull, I_ifnonnull, I_ane, I_aeq, I_goto, I_lsw, I_iret, I_lret, I_fret, I_dret, I_vret, I_nret, I_aret, I_iald, I_bald, I_lald, I_aald, I_iast, I_bast, I_last, I_aast, I_alen, I_new, I_val, I_cast, I_inst, I_obj, I_throw, I_mkx, I_getf, I_putf, I_call, I_calli, I_callv, I_clone, I_getc, i_ifeq, i_ifne, i_iflt, i_ifge, i_ifgt, i_ifle, i_idiv, i_irem, i_newa, i_newo, i_abs, i_max, i_min, i_ldiv, en_, es_i, es_r, es_0, es_n, es_l, List.length_cons, List.length_nil, List.cons_append, List.nil_append, Nat.reduceAdd, Nat.reduceSub, List.replicate, lg_, st1_, st2_, cn_, nl_, mk_, pk_, kd_, sl_, la_, ft_a, ft_i, ft_l, ft_o, ft_n, ft_b0, ft_b1, ft_bI, nr_0, nr_1, nr_bI, ro_, no_, if_true, if_false, ite_true, ite_false, reduceIte, Nat.reduceMod, Nat.reduceEqDiff, Nat.zero_add, Nat.add_zero, lk_, lit_, nI_add, nI_mul, ix_nI, fgk_0, fgk_1, fgk_2, fgk_3, fgk_4, fgk_5, fgk_6, fgk_7, fgk_8, fgk_9, fgk_10, fgk_11, fgk_12, fgk_13, fsk_0, fsk_1, fsk_2, fsk_3, fsk_4, fsk_5, fsk_6, fsk_7, fsk_8, fsk_9, fsk_10, fsk_11, fsk_12, fsk_13, ca_i, ca_r, ca_n, Nat.reduceLT, true_or, or_true, if_true, false_or, or_false, and_true, true_and, List.mem_singleton, eq_self, up_s, up_up]
  have hne : σ1.1 ≠ σ2.1 := by have := Hw_lt j2.2.2.1 j3; omega
  dsimp only at h5 j5 j6
  rw [up_up] at h5
  have hb2 := g2.1.1
  have hb5 := h5.1.1
  refine ⟨_, σ2.1, f, ?_, h5, ⟨σ1.1, f2, up_s _ _ _, ?_, fun j z hj => ?_, by omega, by omega⟩, by omega, ⟨4, _, up_s _ _ _, by decide⟩, ?_, by omega, fun y c hy y1 y2 => ?_⟩
  · rw [D_run]
    obtain ⟨⟨c0, _⟩, _⟩ := id h
    obtain ⟨⟨d0, d1, d2, _⟩, _⟩ := id g2
    obtain ⟨⟨x0, x1, x2, _⟩, _⟩ := id h2
    have hup := hN1 p (by omega)
    have hnl : V.length ≤ 60000000 := by omega
    have e1 : um (um N 10 f) 11 (fun _ => nI V.length) 11 0 = nI V.length := rfl
    have e2 : um (um N 10 f) 11 (fun _ => nI V.length) 1 = N 1 := rfl
    rw [e2] at x2
    dsimp only at x0 x2
    simp (disch := first | assumption | omega | decide) only [b295_0, K295_0, l295, R_cons, go_nx, go_jp, go_rt, go_th, go_ca, go_no, go_ite, rr_v, rr_n, rr_x, hx_n, hx_p, hx_b, I_push, I_pushl, I_fc0, I_fc1, I_dc0, I_null, I_mask, I_iload, I_lload, I_dload, I_fload, I_aload, I_istore, I_lstore, I_dstore, I_fstore, I_astore, I_iinc, I_iadd, I_isub, I_imul, I_iand, I_ior, I_ixor, I_ishl, I_ishr, I_iushr, I_ineg, I_ladd, I_lsub, I_lmul, I_lxor, I_i2l, I_l2i, I_i2b, I_i2c, I_i2f, I_i2d, I_lcmp, I_fdiv, I_ddiv, I_f2d, I_dcmp, I_dup, I_pop, I_dup_x1, I_dup2, I_icne, I_iceq, I_iclt, I_icge, I_icgt, I_icle, I_ifnull, I_ifnonnull, I_ane, I_aeq, I_goto, I_lsw, I_iret, I_lret, I_fret, I_dret, I_vret, I_nret, I_aret, I_iald, I_bald, I_lald, I_aald, I_iast, I_bast, I_last, I_aast, I_alen, I_new, I_val, I_cast, I_inst, I_obj, I_throw, I_mkx, I_getf, I_putf, I_call, I_calli, I_callv, I_clone, I_getc, i_ifeq, i_ifne, i_iflt, i_ifge, i_ifgt, i_ifle, i_idiv, i_irem, i_newa, i_newo, i_abs, i_max, i_min, i_ldiv, en_, es_i, es_r, es_0, es_n, es_l, List.length_cons, List.length_nil, List.cons_append, List.nil_append, Nat.reduceAdd, Nat.reduceSub, List.replicate, lg_, st1_, st2_, cn_, nl_, mk_, pk_, kd_, sl_, la_, ft_a, ft_i, ft_l, ft_o, ft_n, ft_b0, ft_b1, ft_bI, nr_0, nr_1, nr_bI, ro_, no_, if_true, if_false, ite_true, ite_false, reduceIte, Nat.reduceMod, Nat.reduceEqDiff, Nat.zero_add, Nat.add_zero, lk_, lit_, nI_add, nI_mul, ix_nI, fgk_0, fgk_1, fgk_2, fgk_3, fgk_4, fgk_5, fgk_6, fgk_7, fgk_8, fgk_9, fgk_10, fgk_11, fgk_12, fgk_13, fsk_0, fsk_1, fsk_2, fsk_3, fsk_4, fsk_5, fsk_6, fsk_7, fsk_8, fsk_9, fsk_10, fsk_11, fsk_12, fsk_13, ca_i, ca_r, ca_n, Nat.reduceLT, true_or, or_true, if_true, false_or, or_false, and_true, true_and, List.mem_singleton, eq_self, c0, pk_div, nI_rm, g1, d0, nf_11, e1, i_newa, x0, nf_1, x2, ix_nI, hup, hf, up_s, up_up]
    have hb2' := j2.1.1
    dsimp only at j1
    rw [up_up] at j1
    rw [j1, b295_2]
    simp (disch := first | assumption | omega | decide) only [K295_2, R_cons, go_nx, go_jp, go_rt, go_th, go_ca, go_no, go_ite, rr_v, rr_n, rr_x, hx_n, hx_p, hx_b, I_push, I_pushl, I_fc0, I_fc1, I_dc0, I_null, I_mask, I_iload, I_lload, I_dload, I_fload, I_aload, I_istore, I_lstore, I_dstore, I_fstore, I_astore, I_iinc, I_iadd, I_isub, I_imul, I_iand, I_ior, I_ixor, I_ishl, I_ishr, I_iushr, I_ineg, I_ladd, I_lsub, I_lmul, I_lxor, I_i2l, I_l2i, I_i2b, I_i2c, I_i2f, I_i2d, I_lcmp, I_fdiv, I_ddiv, I_f2d, I_dcmp, I_dup, I_pop, I_dup_x1, I_dup2, I_icne, I_iceq, I_iclt, I_icge, I_icgt, I_icle, I_ifnull, I_ifnonnull, I_ane, I_aeq, I_goto, I_lsw, I_iret, I_lret, I_fret, I_dret, I_vret, I_nret, I_aret, I_iald, I_bald, I_lald, I_aald, I_iast, I_bast, I_last, I_aast, I_alen, I_new, I_val, I_cast, I_inst, I_obj, I_throw, I_mkx, I_getf, I_putf, I_call, I_calli, I_callv, I_clone, I_getc, i_ifeq, i_ifne, i_iflt, i_ifge, i_ifgt, i_ifle, i_idiv, i_irem, i_newa, i_newo, i_abs, i_max, i_min, i_ldiv, en_, es_i, es_r, es_0, es_n, es_l, List.length_cons, List.length_nil, List.cons_append, List.nil_append, Nat.reduceAdd, Nat.reduceSub, List.replicate, lg_, st1_, st2_, cn_, nl_, mk_, pk_, kd_, sl_, la_, ft_a, ft_i, ft_l, ft_o, ft_n, ft_b0, ft_b1, ft_bI, nr_0, nr_1, nr_bI, ro_, no_, if_true, if_false, ite_true, ite_false, reduceIte, Nat.reduceMod, Nat.reduceEqDiff, Nat.zero_add, Nat.add_zero, lk_, lit_, nI_add, nI_mul, ix_nI, fgk_0, fgk_1, fgk_2, fgk_3, fgk_4, fgk_5, fgk_6, fgk_7, fgk_8, fgk_9, fgk_10, fgk_11, fgk_12, fgk_13, fsk_0, fsk_1, fsk_2, fsk_3, fsk_4, fsk_5, fsk_6, fsk_7, fsk_8, fsk_9, fsk_10, fsk_11, fsk_12, fsk_13, ca_i, ca_r, ca_n, Nat.reduceLT, true_or, or_true, if_true, false_or, or_false, and_true, true_and, List.mem_singleton, eq_self, hLi]
  · dsimp only
    rw [up_n hne]
    exact j3
  · have hjl := (List.getElem?_eq_some_iff.mp hj).1
    rw [List.length_cons] at hjl
    by_cases ej : j = V.length
    · subst ej
      rw [Nat.mod_self]
      obtain ⟨m, hm1⟩ : ∃ m, V.length = m + 1 := ⟨V.length - 1, by omega⟩
      rw [hm1, List.getElem?_cons_succ] at hj
      rw [List.getLast?_eq_getElem?, hm1, Nat.add_sub_cancel, hj] at q2
      injection q2 with q2
      rw [q2]
      exact j4 0 _ hl0 rfl
    · rw [Nat.mod_eq_of_lt (by omega)]
      exact j4 j z (by omega) hj
  · exact ⟨by dsimp only; omega, by dsimp only; omega, by dsimp only; omega⟩
  · have hyl := Hw_lt h.2.2.1 hy
    dsimp only
    rw [up_n (by omega), j7 y (by omega)]
    dsimp only
    rw [up_n (by omega), up_n (by omega), g6 y y1 y2]
    exact hy
end CNN
