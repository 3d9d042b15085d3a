/-! changes -/
section MUT
variable {E : En_} {σ : As_} {hl w p n s : Nat} {ns ws : List Nat} {r : Nat → Int32} {ms ss : List Nat} {sv : Value} {ft : List Value}
theorem S_strike {x : Int32} {q : Prop} [Decidable q] (h : Sq_ E σ p w (sv :: .ref hl :: ft) r n s ms ss) (hH : Hi_ σ.2.2 hl ns ws) (hn : ns.length ≤ 10) :
    ∃ σ' a, D_ E 388 [.ref p, .int x, .int (bI q)] σ = some (an1_ (inN_ x s) (.int (r (68 + 6 * x.toNatClampNeg + 5))) a, σ') ∧ (inN_ x s → Mu_ E σ σ' p w hl sv ft ns ws (upd r (68 + 6 * x.toNatClampNeg + 5) (bI q)) n s 740) ∧ (¬ inN_ x s → Fr_ 10 σ σ') := by
  have hp := h.1
  have hW := Sq_W h
  have h40 := wr_s40 hW
  have h12 := wr_n12 hW
  obtain ⟨am0, as0, st0, fm0, fa0, g0, z1, z2, z3, z4, z5, z6, _, _, _, _, zm, zs⟩ := Sq_w h
  unfold an1_
  by_cases c : inN_ x s
  · have k0 := S_ckS1 h c
    obtain ⟨i, hi, rfl⟩ := inN_nI c
    obtain ⟨y, y1, y2⟩ := zs i hi
    unfold SgC_ at y2
    obtain ⟨σ1, m1, h0, w', am, em, as, es, st, mc, mc', ms', ss', ns', m0, m2, m3, m4, m5, m6, m7, m8, m9⟩ := S_remember h hH hn
    have m2' := m4.2.1 _ _ m2
    have hil : i < ss'.length := by omega
    have hxi := List.getElem?_eq_getElem hil
    have x1 := m4.1.2.2.2.2.2.1 i _ hxi
    have gx := J_get (E := E) (σ := σ1) m4.1.2.2.1 hil
    obtain ⟨_, _, _, l5, _⟩ := id m4.1.2.2.1
    have hw1 := m4.1.1
    have hY := WY_putG (r' := upd r (68 + 6 * i + 5) (bI q)) m4 hxi (fun j hj => upd_n (by omega)) (by omega)
    rw [upd_n (by omega), upd_n (by omega), upd_n (by omega), upd_n (by omega), upd_n (by omega), upd_s] at hY
    unfold SgC_ at x1
    refine ⟨(σ1.1, σ1.2.1, up_ σ1.2.2 ss'[i] (.inr (3, [.int (r (68 + 6 * i)), .int (r (68 + 6 * i + 1)), .int (r (68 + 6 * i + 2)), .int (r (68 + 6 * i + 3)), .int (r (68 + 6 * i + 4)), .int (bI q)]))), 0, ?_, fun _ => ?_, fun q => absurd c q⟩
    rotate_left
    · rw [nI_clamp (by omega)]
      exact ⟨h0, w', am, em, as, es, st, mc, mc', ms', ss', ns', m0, m2, m3, hY, m5, m6, m7, m8, m9⟩
    · rw [if_pos c, nI_clamp (by omega), D_run]
      rcases (wr_sb hW hi).2.2.2 with e | e
      · rw [e] at y2 ⊢
        simp (disch := omega) only [l388, b388_0, K388_0, R_cons, go_nx, go_jp, go_rt, go_th, go_ca, go_no, go_ite, rr_v, rr_n, rr_x, hx_n, hx_p, hx_b, I_push, I_pushl, I_fc0, I_fc1, I_dc0, I_null, I_mask, I_iload, I_lload, I_dload, I_fload, I_aload, I_istore, I_lstore, I_dstore, I_fstore, I_astore, I_iinc, I_iadd, I_isub, I_imul, I_iand, I_ior, I_ixor, I_ishl, I_ishr, I_iushr, I_ineg, I_ladd, I_lsub, I_lmul, I_lxor, I_i2l, I_l2i, I_i2b, I_i2c, I_i2f, I_i2d, I_lcmp, I_fdiv, I_ddiv, I_f2d, I_dcmp, I_dup, I_pop, I_dup_x1, I_dup2, I_icne, I_iceq, I_iclt, I_icge, I_icgt, I_icle, I_ifnull, I_ifnonnull, I_ane, I_aeq, I_goto, I_lsw, I_iret, I_lret, I_fret, I_dret, I_vret, I_nret, I_aret, I_iald, I_bald, I_lald, I_aald, I_iast, I_bast, I_last, I_aast, I_alen, I_new, I_val, I_cast, I_inst, I_obj, I_throw, I_mkx, I_getf, I_putf, I_call, I_calli, I_callv, I_clone, I_getc, i_ifeq, i_ifne, i_iflt, i_ifge, i_ifgt, i_ifle, i_idiv, i_irem, i_newa, i_newo, i_abs, i_max, i_min, i_ldiv, en_, es_i, es_r, es_0, es_n, es_l, List.length_cons, List.length_nil, List.cons_append, List.nil_append, Nat.reduceAdd, Nat.reduceSub, List.replicate, lg_, st1_, st2_, cn_, nl_, mk_, pk_, kd_, sl_, la_, ft_a, ft_i, ft_l, ft_o, ft_n, ft_b0, ft_b1, ft_bI, nr_0, nr_1, nr_bI, ro_, no_, if_true, if_false, ite_true, ite_false, reduceIte, Nat.reduceMod, Nat.reduceEqDiff, Nat.zero_add, Nat.add_zero, lk_, lit_, nI_add, nI_mul, ix_nI, fgk_0, fgk_1, fgk_2, fgk_3, fgk_4, fgk_5, fgk_6, fgk_7, fgk_8, fgk_9, fgk_10, fgk_11, fgk_12, fgk_13, fsk_0, fsk_1, fsk_2, fsk_3, fsk_4, fsk_5, fsk_6, fsk_7, fsk_8, fsk_9, fsk_10, fsk_11, fsk_12, fsk_13, ca_i, ca_r, ca_n, Nat.reduceLT, true_or, or_true, if_true, false_or, or_false, and_true, true_and, List.mem_singleton, eq_self, hp, k0, z1, z3, y1, y2, m1, m2', hw1, l5, gx, x1]
      · rw [e] at y2 ⊢
        simp (disch := omega) only [l388, b388_0, K388_0, R_cons, go_nx, go_jp, go_rt, go_th, go_ca, go_no, go_ite, rr_v, rr_n, rr_x, hx_n, hx_p, hx_b, I_push, I_pushl, I_fc0, I_fc1, I_dc0, I_null, I_mask, I_iload, I_lload, I_dload, I_fload, I_aload, I_istore, I_lstore, I_dstore, I_fstore, I_astore, I_iinc, I_iadd, I_isub, I_imul, I_iand, I_ior, I_ixor, I_ishl, I_ishr, I_iushr, I_ineg, I_ladd, I_lsub, I_lmul, I_lxor, I_i2l, I_l2i, I_i2b, I_i2c, I_i2f, I_i2d, I_lcmp, I_fdiv, I_ddiv, I_f2d, I_dcmp, I_dup, I_pop, I_dup_x1, I_dup2, I_icne, I_iceq, I_iclt, I_icge, I_icgt, I_icle, I_ifnull, I_ifnonnull, I_ane, I_aeq, I_goto, I_lsw, I_iret, I_lret, I_fret, I_dret, I_vret, I_nret, I_aret, I_iald, I_bald, I_lald, I_aald, I_iast, I_bast, I_last, I_aast, I_alen, I_new, I_val, I_cast, I_inst, I_obj, I_throw, I_mkx, I_getf, I_putf, I_call, I_calli, I_callv, I_clone, I_getc, i_ifeq, i_ifne, i_iflt, i_ifge, i_ifgt, i_ifle, i_idiv, i_irem, i_newa, i_newo, i_abs, i_max, i_min, i_ldiv, en_, es_i, es_r, es_0, es_n, es_l, List.length_cons, List.length_nil, List.cons_append, List.nil_append, Nat.reduceAdd, Nat.reduceSub, List.replicate, lg_, st1_, st2_, cn_, nl_, mk_, pk_, kd_, sl_, la_, ft_a, ft_i, ft_l, ft_o, ft_n, ft_b0, ft_b1, ft_bI, nr_0, nr_1, nr_bI, ro_, no_, if_true, if_false, ite_true, ite_false, reduceIte, Nat.reduceMod, Nat.reduceEqDiff, Nat.zero_add, Nat.add_zero, lk_, lit_, nI_add, nI_mul, ix_nI, fgk_0, fgk_1, fgk_2, fgk_3, fgk_4, fgk_5, fgk_6, fgk_7, fgk_8, fgk_9, fgk_10, fgk_11, fgk_12, fgk_13, fsk_0, fsk_1, fsk_2, fsk_3, fsk_4, fsk_5, fsk_6, fsk_7, fsk_8, fsk_9, fsk_10, fsk_11, fsk_12, fsk_13, ca_i, ca_r, ca_n, Nat.reduceLT, true_or, or_true, if_true, false_or, or_false, and_true, true_and, List.mem_singleton, eq_self, hp, k0, z1, z3, y1, y2, m1, m2', hw1, l5, gx, x1]
  · refine ⟨thr_ σ 19, σ.1, ?_, fun q => absurd q c, fun _ => Fr_thr (Sq_hw h)⟩
    have k1 := S_ckS0 h c
    rw [if_neg c, D_run]
    simp (disch := omega) only [l388, b388_0, K388_0, R_cons, go_nx, go_jp, go_rt, go_th, go_ca, go_no, go_ite, rr_v, rr_n, rr_x, hx_n, hx_p, hx_b, I_push, I_pushl, I_fc0, I_fc1, I_dc0, I_null, I_mask, I_iload, I_lload, I_dload, I_fload, I_aload, I_istore, I_lstore, I_dstore, I_fstore, I_astore, I_iinc, I_iadd, I_isub, I_imul, I_iand, I_ior, I_ixor, I_ishl, I_ishr, I_iushr, I_ineg, I_ladd, I_lsub, I_lmul, I_lxor, I_i2l, I_l2i, I_i2b, I_i2c, I_i2f, I_i2d, I_lcmp, I_fdiv, I_ddiv, I_f2d, I_dcmp, I_dup, I_pop, I_dup_x1, I_dup2, I_icne, I_iceq, I_iclt, I_icge, I_icgt, I_icle, I_ifnull, I_ifnonnull, I_ane, I_aeq, I_goto, I_lsw, I_iret, I_lret, I_fret, I_dret, I_vret, I_nret, I_aret, I_iald, I_bald, I_lald, I_aald, I_iast, I_bast, I_last, I_aast, I_alen, I_new, I_val, I_cast, I_inst, I_obj, I_throw, I_mkx, I_getf, I_putf, I_call, I_calli, I_callv, I_clone, I_getc, i_ifeq, i_ifne, i_iflt, i_ifge, i_ifgt, i_ifle, i_idiv, i_irem, i_newa, i_newo, i_abs, i_max, i_min, i_ldiv, en_, es_i, es_r, es_0, es_n, es_l, List.length_cons, List.length_nil, List.cons_append, List.nil_append, Nat.reduceAdd, Nat.reduceSub, List.replicate, lg_, st1_, st2_, cn_, nl_, mk_, pk_, kd_, sl_, la_, ft_a, ft_i, ft_l, ft_o, ft_n, ft_b0, ft_b1, ft_bI, nr_0, nr_1, nr_bI, ro_, no_, if_true, if_false, ite_true, ite_false, reduceIte, Nat.reduceMod, Nat.reduceEqDiff, Nat.zero_add, Nat.add_zero, lk_, lit_, nI_add, nI_mul, ix_nI, fgk_0, fgk_1, fgk_2, fgk_3, fgk_4, fgk_5, fgk_6, fgk_7, fgk_8, fgk_9, fgk_10, fgk_11, fgk_12, fgk_13, fsk_0, fsk_1, fsk_2, fsk_3, fsk_4, fsk_5, fsk_6, fsk_7, fsk_8, fsk_9, fsk_10, fsk_11, fsk_12, fsk_13, ca_i, ca_r, ca_n, Nat.reduceLT, true_or, or_true, if_true, false_or, or_false, and_true, true_and, List.mem_singleton, eq_self, hp, k1]
theorem S_swap {x v : Int32} (h : Sq_ E σ p w (sv :: .ref hl :: ft) r n s ms ss) (hH : Hi_ σ.2.2 hl ns ws) (hn : ns.length ≤ 10) :
    ∃ σ' a, D_ E 389 [.ref p, .int x, .int v] σ = some (an2_ (inN_ x s) (inr_ v (-9999) 9999) (.int (nI 1 - r (68 + 6 * x.toNatClampNeg + 2))) a, σ') ∧ (inN_ x s → inr_ v (-9999) 9999 → Mu_ E σ σ' p w hl sv ft ns ws (upd (upd r (68 + 6 * x.toNatClampNeg + 3) v) (68 + 6 * x.toNatClampNeg + 2) (nI 1 - r (68 + 6 * x.toNatClampNeg + 2))) n s 740) ∧ (¬ (inN_ x s ∧ inr_ v (-9999) 9999) → Fr_ 10 σ σ') := by
  have hp := h.1
  have hW := Sq_W h
  have h40 := wr_s40 hW
  have h12 := wr_n12 hW
  unfold an2_
  by_cases c : inN_ x s
  · have k0 := S_ckS1 h c
    by_cases cv : inr_ v (-9999) 9999
    · have e : bI (-nI 9999 ≤ v ∧ v ≤ nI 9999) = nI 1 := bI_t (inrR.2 cv)
      obtain ⟨i, hi, rfl⟩ := inN_nI c
      obtain ⟨σ1, m1, h0, w', am, em, as, es, st, mc, mc', ms', ss', ns', m0, m2, m3, m4, m5, m6, m7, m8, m9⟩ := S_remember h hH hn
      have m2' := m4.2.1 _ _ m2
      have hil : i < ss'.length := by omega
      have hxi := List.getElem?_eq_getElem hil
      have x1 := m4.1.2.2.2.2.2.1 i _ hxi
      have gx := J_get (E := E) (σ := σ1) m4.1.2.2.1 hil
      obtain ⟨_, _, _, l5, _⟩ := id m4.1.2.2.1
      have hw1 := m4.1.1
      have hY := WY_putG (r' := upd (upd r (68 + 6 * i + 3) v) (68 + 6 * i + 2) (nI 1 - r (68 + 6 * i + 2))) m4 hxi (fun j hj => by rw [upd_n (by omega), upd_n (by omega)]) (by omega)
      have e0 : ∀ j, j ≠ 68 + 6 * i + 2 → j ≠ 68 + 6 * i + 3 → upd (upd r (68 + 6 * i + 3) v) (68 + 6 * i + 2) (nI 1 - r (68 + 6 * i + 2)) j = r j := fun j h1 h2 => by rw [upd_n h1, upd_n h2]
      have e3 : upd (upd r (68 + 6 * i + 3) v) (68 + 6 * i + 2) (nI 1 - r (68 + 6 * i + 2)) (68 + 6 * i + 3) = v := by rw [upd_n (by omega), upd_s]
      rw [e0 _ (by omega) (by omega), e0 _ (by omega) (by omega), upd_s, e3, e0 _ (by omega) (by omega), e0 _ (by omega) (by omega)] at hY
      unfold SgC_ at x1
      refine ⟨(σ1.1, σ1.2.1, up_ σ1.2.2 ss'[i] (.inr (3, [.int (r (68 + 6 * i)), .int (r (68 + 6 * i + 1)), .int (nI 1 - r (68 + 6 * i + 2)), .int v, .int (r (68 + 6 * i + 4)), .int (r (68 + 6 * i + 5))]))), 0, ?_, fun _ _ => ?_, fun q => absurd ⟨c, cv⟩ q⟩
      rotate_left
      · rw [nI_clamp (by omega)]
        exact ⟨h0, w', am, em, as, es, st, mc, mc', ms', ss', ns', m0, m2, m3, hY, m5, m6, m7, m8, m9⟩
      · rw [if_pos c, if_pos cv, nI_clamp (by omega), D_run]
        simp (disch := omega) only [l389, b389_0, K389_0, R_cons, go_nx, go_jp, go_rt, go_th, go_ca, go_no, go_ite, rr_v, rr_n, rr_x, hx_n, hx_p, hx_b, I_push, I_pushl, I_fc0, I_fc1, I_dc0, I_null, I_mask, I_iload, I_lload, I_dload, I_fload, I_aload, I_istore, I_lstore, I_dstore, I_fstore, I_astore, I_iinc, I_iadd, I_isub, I_imul, I_iand, I_ior, I_ixor, I_ishl, I_ishr, I_iushr, I_ineg, I_ladd, I_lsub, I_lmul, I_lxor, I_i2l, I_l2i, I_i2b, I_i2c, I_i2f, I_i2d, I_lcmp, I_fdiv, I_ddiv, I_f2d, I_dcmp, I_dup, I_pop, I_dup_x1, I_dup2, I_icne, I_iceq, I_iclt, I_icge, I_icgt, I_icle, I_ifnull, I_ifnonnull, I_ane, I_aeq, I_goto, I_lsw, I_iret, I_lret, I_fret, I_dret, I_vret, I_nret, I_aret, I_iald, I_bald, I_lald, I_aald, I_iast, I_bast, I_last, I_aast, I_alen, I_new, I_val, I_cast, I_inst, I_obj, I_throw, I_mkx, I_getf, I_putf, I_call, I_calli, I_callv, I_clone, I_getc, i_ifeq, i_ifne, i_iflt, i_ifge, i_ifgt, i_ifle, i_idiv, i_irem, i_newa, i_newo, i_abs, i_max, i_min, i_ldiv, en_, es_i, es_r, es_0, es_n, es_l, List.length_cons, List.length_nil, List.cons_append, List.nil_append, Nat.reduceAdd, Nat.reduceSub, List.replicate, lg_, st1_, st2_, cn_, nl_, mk_, pk_, kd_, sl_, la_, ft_a, ft_i, ft_l, ft_o, ft_n, ft_b0, ft_b1, ft_bI, nr_0, nr_1, nr_bI, ro_, no_, if_true, if_false, ite_true, ite_false, reduceIte, Nat.reduceMod, Nat.reduceEqDiff, Nat.zero_add, Nat.add_zero, lk_, lit_, nI_add, nI_mul, ix_nI, fgk_0, fgk_1, fgk_2, fgk_3, fgk_4, fgk_5, fgk_6, fgk_7, fgk_8, fgk_9, fgk_10, fgk_11, fgk_12, fgk_13, fsk_0, fsk_1, fsk_2, fsk_3, fsk_4, fsk_5, fsk_6, fsk_7, fsk_8, fsk_9, fsk_10, fsk_11, fsk_12, fsk_13, ca_i, ca_r, ca_n, Nat.reduceLT, true_or, or_true, if_true, false_or, or_false, and_true, true_and, List.mem_singleton, eq_self, hp, k0, S_inRange, e, S_ca1, m1, m2', hw1, l5, gx, x1, up_s, up_up]
    · have e : bI (-nI 9999 ≤ v ∧ v ≤ nI 9999) = nI 0 := bI_f (fun q => cv (inrR.1 q))
      refine ⟨thr_ σ 20, σ.1, ?_, fun _ q => absurd q cv, fun _ => Fr_thr (Sq_hw h)⟩
      rw [if_pos c, if_neg cv, D_run]
      simp (disch := omega) only [l389, b389_0, K389_0, R_cons, go_nx, go_jp, go_rt, go_th, go_ca, go_no, go_ite, rr_v, rr_n, rr_x, hx_n, hx_p, hx_b, I_push, I_pushl, I_fc0, I_fc1, I_dc0, I_null, I_mask, I_iload, I_lload, I_dload, I_fload, I_aload, I_istore, I_lstore, I_dstore, I_fstore, I_astore, I_iinc, I_iadd, I_isub, I_imul, I_iand, I_ior, I_ixor, I_ishl, I_ishr, I_iushr, I_ineg, I_ladd, I_lsub, I_lmul, I_lxor, I_i2l, I_l2i, I_i2b, I_i2c, I_i2f, I_i2d, I_lcmp, I_fdiv, I_ddiv, I_f2d, I_dcmp, I_dup, I_pop, I_dup_x1, I_dup2, I_icne, I_iceq, I_iclt, I_icge, I_icgt, I_icle, I_ifnull, I_ifnonnull, I_ane, I_aeq, I_goto, I_lsw, I_iret, I_lret, I_fret, I_dret, I_vret, I_nret, I_aret, I_iald, I_bald, I_lald, I_aald, I_iast, I_bast, I_last, I_aast, I_alen, I_new, I_val, I_cast, I_inst, I_obj, I_throw, I_mkx, I_getf, I_putf, I_call, I_calli, I_callv, I_clone, I_getc, i_ifeq, i_ifne, i_iflt, i_ifge, i_ifgt, i_ifle, i_idiv, i_irem, i_newa, i_newo, i_abs, i_max, i_min, i_ldiv, en_, es_i, es_r, es_0, es_n, es_l, List.length_cons, List.length_nil, List.cons_append, List.nil_append, Nat.reduceAdd, Nat.reduceSub, List.replicate, lg_, st1_, st2_, cn_, nl_, mk_, pk_, kd_, sl_, la_, ft_a, ft_i, ft_l, ft_o, ft_n, ft_b0, ft_b1, ft_bI, nr_0, nr_1, nr_bI, ro_, no_, if_true, if_false, ite_true, ite_false, reduceIte, Nat.reduceMod, Nat.reduceEqDiff, Nat.zero_add, Nat.add_zero, lk_, lit_, nI_add, nI_mul, ix_nI, fgk_0, fgk_1, fgk_2, fgk_3, fgk_4, fgk_5, fgk_6, fgk_7, fgk_8, fgk_9, fgk_10, fgk_11, fgk_12, fgk_13, fsk_0, fsk_1, fsk_2, fsk_3, fsk_4, fsk_5, fsk_6, fsk_7, fsk_8, fsk_9, fsk_10, fsk_11, fsk_12, fsk_13, ca_i, ca_r, ca_n, Nat.reduceLT, true_or, or_true, if_true, false_or, or_false, and_true, true_and, List.mem_singleton, eq_self, hp, k0, S_inRange, e, S_ca0]
  · refine ⟨thr_ σ 19, σ.1, ?_, fun q => absurd q c, fun _ => Fr_thr (Sq_hw h)⟩
    have k1 := S_ckS0 h c
    rw [if_neg c, D_run]
    simp (disch := omega) only [l389, b389_0, K389_0, R_cons, go_nx, go_jp, go_rt, go_th, go_ca, go_no, go_ite, rr_v, rr_n, rr_x, hx_n, hx_p, hx_b, I_push, I_pushl, I_fc0, I_fc1, I_dc0, I_null, I_mask, I_iload, I_lload, I_dload, I_fload, I_aload, I_istore, I_lstore, I_dstore, I_fstore, I_astore, I_iinc, I_iadd, I_isub, I_imul, I_iand, I_ior, I_ixor, I_ishl, I_ishr, I_iushr, I_ineg, I_ladd, I_lsub, I_lmul, I_lxor, I_i2l, I_l2i, I_i2b, I_i2c, I_i2f, I_i2d, I_lcmp, I_fdiv, I_ddiv, I_f2d, I_dcmp, I_dup, I_pop, I_dup_x1, I_dup2, I_icne, I_iceq, I_iclt, I_icge, I_icgt, I_icle, I_ifnull, I_ifnonnull, I_ane, I_aeq, I_goto, I_lsw, I_iret, I_lret, I_fret, I_dret, I_vret, I_nret, I_aret, I_iald, I_bald, I_lald, I_aald, I_iast, I_bast, I_last, I_aast, I_alen, I_new, I_val, I_cast, I_inst, I_obj, I_throw, I_mkx, I_getf, I_putf, I_call, I_calli, I_callv, I_clone, I_getc, i_ifeq, i_ifne, i_iflt, i_ifge, i_ifgt, i_ifle, i_idiv, i_irem, i_newa, i_newo, i_abs, i_max, i_min, i_ldiv, en_, es_i, es_r, es_0, es_n, es_l, List.length_cons, List.length_nil, List.cons_append, List.nil_append, Nat.reduceAdd, Nat.reduceSub, List.replicate, lg_, st1_, st2_, cn_, nl_, mk_, pk_, kd_, sl_, la_, ft_a, ft_i, ft_l, ft_o, ft_n, ft_b0, ft_b1, ft_bI, nr_0, nr_1, nr_bI, ro_, no_, if_true, if_false, ite_true, ite_false, reduceIte, Nat.reduceMod, Nat.reduceEqDiff, Nat.zero_add, Nat.add_zero, lk_, lit_, nI_add, nI_mul, ix_nI, fgk_0, fgk_1, fgk_2, fgk_3, fgk_4, fgk_5, fgk_6, fgk_7, fgk_8, fgk_9, fgk_10, fgk_11, fgk_12, fgk_13, fsk_0, fsk_1, fsk_2, fsk_3, fsk_4, fsk_5, fsk_6, fsk_7, fsk_8, fsk_9, fsk_10, fsk_11, fsk_12, fsk_13, ca_i, ca_r, ca_n, Nat.reduceLT, true_or, or_true, if_true, false_or, or_false, and_true, true_and, List.mem_singleton, eq_self, hp, k1]
end MUT
