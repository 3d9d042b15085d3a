section CNU
variable {E : En_} {σ : As_} {w n s b bb q : Nat} {r : Nat → Int32} {ms ss : List Nat} {h0 : Nat → Option Ac_} {N : Nat → Nat → Int32}
/-- the suspect edge, as the component looks for it -/
noncomputable def sc1_ (r : Nat → Int32) (n s e : Nat) (x : Int32 × Nat × Int32) : Int32 × Nat × Int32 :=
  if ct_ r s e = 0 then x else
  if lwi_ r n s e true < x.2.1 then x else if lwi_ r n s e true = 0 then x else
  if lwi_ r n s e true = x.2.1 then (if nI (lwi_ r n s e false) - nI (lwi_ r n s e true) < x.2.2 then (nI e, lwi_ r n s e true, nI (lwi_ r n s e false) - nI (lwi_ r n s e true)) else x)
  else (nI e, lwi_ r n s e true, nI (lwi_ r n s e false) - nI (lwi_ r n s e true))
theorem N_suspect0 (hw0 : Wl_ E h0 w r ms ss) (h : Nx_ E h0 σ b bb q w N r n s ms ss) : ∃ σ', D_ E 302 [.ref b] σ = some (.inl (some (.int (fo_ (sc1_ r n s) 144 0 (-nI 1, 0, nI 0)).1)), σ') ∧ Nx_ E h0 σ' b bb q w N r n s ms ss ∧ Sz_ 730 σ σ' := by
  have hW := h.2.2.2.2.2.2.1
  have hle := lps_le (r := r) (s := s) (wr_n12 hW)
  obtain ⟨σ1, j1, j2, j3⟩ := Nx_all (E := E) h hw0 (sc1_ r n s) (fun j x hj => if_pos hj) (fun x => x.2.1 ≤ 144) (fun k x _ hx => by
    have hl1 := lwi_le (r := r) (n := n) (s := s) (e := k) (op := true)
    unfold sc1_
    split
    · exact hx
    · split
      · exact hx
      · split
        · exact hx
        · split
          · split
            · dsimp only; omega
            · exact hx
          · dsimp only; omega) (fun x (u : Option Value × Option Value × Option Value) σ' => R_ E 302 (B_ E 302 1) [some (.ref b), some (.int x.1), some (.int (nI x.2.1)), some (.int x.2.2), some (.ref σ.1), u.1, u.2.1, u.2.2] [] σ') (fun x => .inl (some (.int x.1))) (by
    intro x u σ' fs _ hx i1 i2
    rw [b302_1]
    simp (disch := omega) only [K302_1, b302_3, K302_3, R_cons, go_nx, go_jp, go_rt, go_th, go_ca, go_no, go_ite, rr_v, rr_n, rr_x, hx_n, hx_p, hx_b, I_push, I_pushl, I_fc0, I_fc1, I_dc0, I_null, I_mask, I_iload, I_lload, I_dload, I_fload, I_aload, I_istore, I_lstore, I_dstore, I_fstore, I_astore, I_iinc, I_iadd, I_isub, I_imul, I_iand, I_ior, I_ixor, I_ishl, I_ishr, I_iushr, I_ineg, I_ladd, I_lsub, I_lmul, I_lxor, I_i2l, I_l2i, I_i2b, I_i2c, I_i2f, I_i2d, I_lcmp, I_fdiv, I_ddiv, I_f2d, I_dcmp, I_dup, I_pop, I_dup_x1, I_dup2, I_icne, I_iceq, I_iclt, I_icge, I_icgt, I_icle, I_ifnull, I_ifnonnull, I_ane, I_aeq, I_goto, I_lsw, I_iret, I_lret, I_fret, I_dret, I_vret, I_nret, I_aret, I_iald, I_bald, I_lald, I_aald, I_iast, I_bast, I_last, I_aast, I_alen, I_new, I_val, I_cast, I_inst, I_obj, I_throw, I_mkx, I_getf, I_putf, I_call, I_calli, I_callv, I_clone, I_getc, i_ifeq, i_ifne, i_iflt, i_ifge, i_ifgt, i_ifle, i_idiv, i_irem, i_newa, i_newo, i_abs, i_max, i_min, i_ldiv, en_, es_i, es_r, es_0, es_n, es_l, List.length_cons, List.length_nil, List.cons_append, List.nil_append, Nat.reduceAdd, Nat.reduceSub, List.replicate, lg_, st1_, st2_, cn_, nl_, mk_, pk_, kd_, sl_, la_, ft_a, ft_i, ft_l, ft_o, ft_n, ft_b0, ft_b1, ft_bI, nr_0, nr_1, nr_bI, ro_, no_, if_true, if_false, ite_true, ite_false, reduceIte, Nat.reduceMod, Nat.reduceEqDiff, Nat.zero_add, Nat.add_zero, lk_, lit_, nI_add, nI_mul, ix_nI, fgk_0, fgk_1, fgk_2, fgk_3, fgk_4, fgk_5, fgk_6, fgk_7, fgk_8, fgk_9, fgk_10, fgk_11, fgk_12, fgk_13, fsk_0, fsk_1, fsk_2, fsk_3, fsk_4, fsk_5, fsk_6, fsk_7, fsk_8, fsk_9, fsk_10, fsk_11, fsk_12, fsk_13, ca_i, ca_r, ca_n, Nat.reduceLT, true_or, or_true, if_true, false_or, or_false, and_true, true_and, List.mem_singleton, eq_self, i1, i2]) (by
    intro k x u σ0 σ1 y fs cx hk hct hx2 hx hx1 i1 i2 i3 i4 i5 i6
    have hl1 := lwi_le (r := r) (n := n) (s := s) (e := k) (op := true)
    have hl2 := lwi_le (r := r) (n := n) (s := s) (e := k) (op := false)
    have g1 := N_loopsWith (E := E) (e := k) (op := true) hk hx1
    have g3 := N_loopsWith (E := E) (e := k) (op := false) hk hx1
    rw [show bI (true = true) = nI 1 from rfl] at g1
    rw [show bI (false = true) = nI 0 from rfl] at g3
    have c0 : ∃ N, σ1.2.2 b = some (.inr (6, N)) := by obtain ⟨⟨lc, ⟨c0, _⟩, _⟩, _⟩ := hx1; exact ⟨_, c0⟩
    obtain ⟨fb, c0⟩ := c0
    have e1 : sc1_ r n s k x = _ := if_neg hct
    rw [e1]
    obtain ⟨o, ho⟩ : ∃ o, o = lwi_ r n s k true := ⟨_, rfl⟩
    obtain ⟨c, hc'⟩ : ∃ c, c = nI (lwi_ r n s k false) - nI (lwi_ r n s k true) := ⟨_, rfl⟩
    rw [← hc', ← ho]
    rw [← ho] at hl1 g1
    have hc : nI (lwi_ r n s k false) - nI o = c := by rw [hc', ho]
    have hx2' : x.2.1 ≤ 144 := hx2
    by_cases c1 : o < x.2.1
    · have l1 : nI o < nI x.2.1 := by rw [nIltI (by omega) (by omega)]; exact c1
      rw [if_pos c1]
      refine ⟨(some (.int (nI k)), some (.int (nI o)), some (.int c)), ?_⟩
      conv => lhs; rw [b302_1]
      simp (disch := first | assumption | omega | decide) only [K302_1, R_cons, go_nx, go_jp, go_rt, go_th, go_ca, go_no, go_ite, rr_v, rr_n, rr_x, hx_n, hx_p, hx_b, I_push, I_pushl, I_fc0, I_fc1, I_dc0, I_null, I_mask, I_iload, I_lload, I_dload, I_fload, I_aload, I_istore, I_lstore, I_dstore, I_fstore, I_astore, I_iinc, I_iadd, I_isub, I_imul, I_iand, I_ior, I_ixor, I_ishl, I_ishr, I_iushr, I_ineg, I_ladd, I_lsub, I_lmul, I_lxor, I_i2l, I_l2i, I_i2b, I_i2c, I_i2f, I_i2d, I_lcmp, I_fdiv, I_ddiv, I_f2d, I_dcmp, I_dup, I_pop, I_dup_x1, I_dup2, I_icne, I_iceq, I_iclt, I_icge, I_icgt, I_icle, I_ifnull, I_ifnonnull, I_ane, I_aeq, I_goto, I_lsw, I_iret, I_lret, I_fret, I_dret, I_vret, I_nret, I_aret, I_iald, I_bald, I_lald, I_aald, I_iast, I_bast, I_last, I_aast, I_alen, I_new, I_val, I_cast, I_inst, I_obj, I_throw, I_mkx, I_getf, I_putf, I_call, I_calli, I_callv, I_clone, I_getc, i_ifeq, i_ifne, i_iflt, i_ifge, i_ifgt, i_ifle, i_idiv, i_irem, i_newa, i_newo, i_abs, i_max, i_min, i_ldiv, en_, es_i, es_r, es_0, es_n, es_l, List.length_cons, List.length_nil, List.cons_append, List.nil_append, Nat.reduceAdd, Nat.reduceSub, List.replicate, lg_, st1_, st2_, cn_, nl_, mk_, pk_, kd_, sl_, la_, ft_a, ft_i, ft_l, ft_o, ft_n, ft_b0, ft_b1, ft_bI, nr_0, nr_1, nr_bI, ro_, no_, if_true, if_false, ite_true, ite_false, reduceIte, Nat.reduceMod, Nat.reduceEqDiff, Nat.zero_add, Nat.add_zero, lk_, lit_, nI_add, nI_mul, ix_nI, fgk_0, fgk_1, fgk_2, fgk_3, fgk_4, fgk_5, fgk_6, fgk_7, fgk_8, fgk_9, fgk_10, fgk_11, fgk_12, fgk_13, fsk_0, fsk_1, fsk_2, fsk_3, fsk_4, fsk_5, fsk_6, fsk_7, fsk_8, fsk_9, fsk_10, fsk_11, fsk_12, fsk_13, ca_i, ca_r, ca_n, Nat.reduceLT, true_or, or_true, if_true, false_or, or_false, and_true, true_and, List.mem_singleton, eq_self, i1, i2, n10_, i3, i4, i5, i6, c0, g1, g3, hc, l1]
    · have l1 : ¬ nI o < nI x.2.1 := by rw [nIltI (by omega) (by omega)]; exact c1
      rw [if_neg c1]
      by_cases c2 : o = 0
      · rw [if_pos c2]
        have l2 : (nI o = nI 0) = True := eq_true (by rw [c2])
        refine ⟨(some (.int (nI k)), some (.int (nI o)), some (.int c)), ?_⟩
        conv => lhs; rw [b302_1]
        simp (disch := first | assumption | omega | decide) only [K302_1, R_cons, go_nx, go_jp, go_rt, go_th, go_ca, go_no, go_ite, rr_v, rr_n, rr_x, hx_n, hx_p, hx_b, I_push, I_pushl, I_fc0, I_fc1, I_dc0, I_null, I_mask, I_iload, I_lload, I_dload, I_fload, I_aload, I_istore, I_lstore, I_dstore, I_fstore, I_astore, I_iinc, I_iadd, I_isub, I_imul, I_iand, I_ior, I_ixor, I_ishl, I_ishr, I_iushr, I_ineg, I_ladd, I_lsub, I_lmul, I_lxor, I_i2l, I_l2i, I_i2b, I_i2c, I_i2f, I_i2d, I_lcmp, I_fdiv, I_ddiv, I_f2d, I_dcmp, I_dup, I_pop, I_dup_x1, I_dup2, I_icne, I_iceq, I_iclt, I_icge, I_icgt, I_icle, I_ifnull, I_ifnonnull, I_ane, I_aeq, I_goto, I_lsw, I_iret, I_lret, I_fret, I_dret, I_vret, I_nret, I_aret, I_iald, I_bald, I_lald, I_aald, I_iast, I_bast, I_last, I_aast, I_alen, I_new, I_val, I_cast, I_inst, I_obj, I_throw, I_mkx, I_getf, I_putf, I_call, I_calli, I_callv, I_clone, I_getc, i_ifeq, i_ifne, i_iflt, i_ifge, i_ifgt, i_ifle, i_idiv, i_irem, i_newa, i_newo, i_abs, i_max, i_min, i_ldiv, en_, es_i, es_r, es_0, es_n, es_l, List.length_cons, List.length_nil, List.cons_append, List.nil_append, Nat.reduceAdd, Nat.reduceSub, List.replicate, lg_, st1_, st2_, cn_, nl_, mk_, pk_, kd_, sl_, la_, ft_a, ft_i, ft_l, ft_o, ft_n, ft_b0, ft_b1, ft_bI, nr_0, nr_1, nr_bI, ro_, no_, if_true, if_false, ite_true, ite_false, reduceIte, Nat.reduceMod, Nat.reduceEqDiff, Nat.zero_add, Nat.add_zero, lk_, lit_, nI_add, nI_mul, ix_nI, fgk_0, fgk_1, fgk_2, fgk_3, fgk_4, fgk_5, fgk_6, fgk_7, fgk_8, fgk_9, fgk_10, fgk_11, fgk_12, fgk_13, fsk_0, fsk_1, fsk_2, fsk_3, fsk_4, fsk_5, fsk_6, fsk_7, fsk_8, fsk_9, fsk_10, fsk_11, fsk_12, fsk_13, ca_i, ca_r, ca_n, Nat.reduceLT, true_or, or_true, if_true, false_or, or_false, and_true, true_and, List.mem_singleton, eq_self, i1, i2, n10_, i3, i4, i5, i6, c0, g1, g3, hc, l1, l2]
      · have l2 : ¬ nI o = nI 0 := by rw [nI_eq (by omega) (by decide)]; exact c2
        rw [if_neg c2]
        by_cases c3 : o = x.2.1
        · have l3 : (nI o = nI x.2.1) = True := eq_true (by rw [c3])
          rw [if_pos c3]
          by_cases c4 : c < x.2.2
          · rw [if_pos c4]
            refine ⟨(some (.int (nI k)), some (.int (nI o)), some (.int c)), ?_⟩
            conv => lhs; rw [b302_1]
            simp (disch := first | assumption | omega | decide) only [K302_1, b302_2, K302_2, R_cons, go_nx, go_jp, go_rt, go_th, go_ca, go_no, go_ite, rr_v, rr_n, rr_x, hx_n, hx_p, hx_b, I_push, I_pushl, I_fc0, I_fc1, I_dc0, I_null, I_mask, I_iload, I_lload, I_dload, I_fload, I_aload, I_istore, I_lstore, I_dstore, I_fstore, I_astore, I_iinc, I_iadd, I_isub, I_imul, I_iand, I_ior, I_ixor, I_ishl, I_ishr, I_iushr, I_ineg, I_ladd, I_lsub, I_lmul, I_lxor, I_i2l, I_l2i, I_i2b, I_i2c, I_i2f, I_i2d, I_lcmp, I_fdiv, I_ddiv, I_f2d, I_dcmp, I_dup, I_pop, I_dup_x1, I_dup2, I_icne, I_iceq, I_iclt, I_icge, I_icgt, I_icle, I_ifnull, I_ifnonnull, I_ane, I_aeq, I_goto, I_lsw, I_iret, I_lret, I_fret, I_dret, I_vret, I_nret, I_aret, I_iald, I_bald, I_lald, I_aald, I_iast, I_bast, I_last, I_aast, I_alen, I_new, I_val, I_cast, I_inst, I_obj, I_throw, I_mkx, I_getf, I_putf, I_call, I_calli, I_callv, I_clone, I_getc, i_ifeq, i_ifne, i_iflt, i_ifge, i_ifgt, i_ifle, i_idiv, i_irem, i_newa, i_newo, i_abs, i_max, i_min, i_ldiv, en_, es_i, es_r, es_0, es_n, es_l, List.length_cons, List.length_nil, List.cons_append, List.nil_append, Nat.reduceAdd, Nat.reduceSub, List.replicate, lg_, st1_, st2_, cn_, nl_, mk_, pk_, kd_, sl_, la_, ft_a, ft_i, ft_l, ft_o, ft_n, ft_b0, ft_b1, ft_bI, nr_0, nr_1, nr_bI, ro_, no_, if_true, if_false, ite_true, ite_false, reduceIte, Nat.reduceMod, Nat.reduceEqDiff, Nat.zero_add, Nat.add_zero, lk_, lit_, nI_add, nI_mul, ix_nI, fgk_0, fgk_1, fgk_2, fgk_3, fgk_4, fgk_5, fgk_6, fgk_7, fgk_8, fgk_9, fgk_10, fgk_11, fgk_12, fgk_13, fsk_0, fsk_1, fsk_2, fsk_3, fsk_4, fsk_5, fsk_6, fsk_7, fsk_8, fsk_9, fsk_10, fsk_11, fsk_12, fsk_13, ca_i, ca_r, ca_n, Nat.reduceLT, true_or, or_true, if_true, false_or, or_false, and_true, true_and, List.mem_singleton, eq_self, i1, i2, n10_, i3, i4, i5, i6, c0, g1, g3, hc, l1, l2, l3, c4]
          · rw [if_neg c4]
            refine ⟨(some (.int (nI k)), some (.int (nI o)), some (.int c)), ?_⟩
            conv => lhs; rw [b302_1]
            simp (disch := first | assumption | omega | decide) only [K302_1, R_cons, go_nx, go_jp, go_rt, go_th, go_ca, go_no, go_ite, rr_v, rr_n, rr_x, hx_n, hx_p, hx_b, I_push, I_pushl, I_fc0, I_fc1, I_dc0, I_null, I_mask, I_iload, I_lload, I_dload, I_fload, I_aload, I_istore, I_lstore, I_dstore, I_fstore, I_astore, I_iinc, I_iadd, I_isub, I_imul, I_iand, I_ior, I_ixor, I_ishl, I_ishr, I_iushr, I_ineg, I_ladd, I_lsub, I_lmul, I_lxor, I_i2l, I_l2i, I_i2b, I_i2c, I_i2f, I_i2d, I_lcmp, I_fdiv, I_ddiv, I_f2d, I_dcmp, I_dup, I_pop, I_dup_x1, I_dup2, I_icne, I_iceq, I_iclt, I_icge, I_icgt, I_icle, I_ifnull, I_ifnonnull, I_ane, I_aeq, I_goto, I_lsw, I_iret, I_lret, I_fret, I_dret, I_vret, I_nret, I_aret, I_iald, I_bald, I_lald, I_aald, I_iast, I_bast, I_last, I_aast, I_alen, I_new, I_val, I_cast, I_inst, I_obj, I_throw, I_mkx, I_getf, I_putf, I_call, I_calli, I_callv, I_clone, I_getc, i_ifeq, i_ifne, i_iflt, i_ifge, i_ifgt, i_ifle, i_idiv, i_irem, i_newa, i_newo, i_abs, i_max, i_min, i_ldiv, en_, es_i, es_r, es_0, es_n, es_l, List.length_cons, List.length_nil, List.cons_append, List.nil_append, Nat.reduceAdd, Nat.reduceSub, List.replicate, lg_, st1_, st2_, cn_, nl_, mk_, pk_, kd_, sl_, la_, ft_a, ft_i, ft_l, ft_o, ft_n, ft_b0, ft_b1, ft_bI, nr_0, nr_1, nr_bI, ro_, no_, if_true, if_false, ite_true, ite_false, reduceIte, Nat.reduceMod, Nat.reduceEqDiff, Nat.zero_add, Nat.add_zero, lk_, lit_, nI_add, nI_mul, ix_nI, fgk_0, fgk_1, fgk_2, fgk_3, fgk_4, fgk_5, fgk_6, fgk_7, fgk_8, fgk_9, fgk_10, fgk_11, fgk_12, fgk_13, fsk_0, fsk_1, fsk_2, fsk_3, fsk_4, fsk_5, fsk_6, fsk_7, fsk_8, fsk_9, fsk_10, fsk_11, fsk_12, fsk_13, ca_i, ca_r, ca_n, Nat.reduceLT, true_or, or_true, if_true, false_or, or_false, and_true, true_and, List.mem_singleton, eq_self, i1, i2, n10_, i3, i4, i5, i6, c0, g1, g3, hc, l1, l2, l3, c4]
        · have l3 : ¬ nI o = nI x.2.1 := by rw [nI_eq (by omega) (by omega)]; exact c3
          rw [if_neg c3]
          refine ⟨(some (.int (nI k)), some (.int (nI o)), some (.int c)), ?_⟩
          conv => lhs; rw [b302_1]
          simp (disch := first | assumption | omega | decide) only [K302_1, b302_2, K302_2, R_cons, go_nx, go_jp, go_rt, go_th, go_ca, go_no, go_ite, rr_v, rr_n, rr_x, hx_n, hx_p, hx_b, I_push, I_pushl, I_fc0, I_fc1, I_dc0, I_null, I_mask, I_iload, I_lload, I_dload, I_fload, I_aload, I_istore, I_lstore, I_dstore, I_fstore, I_astore, I_iinc, I_iadd, I_isub, I_imul, I_iand, I_ior, I_ixor, I_ishl, I_ishr, I_iushr, I_ineg, I_ladd, I_lsub, I_lmul, I_lxor, I_i2l, I_l2i, I_i2b, I_i2c, I_i2f, I_i2d, I_lcmp, I_fdiv, I_ddiv, I_f2d, I_dcmp, I_dup, I_pop, I_dup_x1, I_dup2, I_icne, I_iceq, I_iclt, I_icge, I_icgt, I_icle, I_ifnull, I_ifnonnull, I_ane, I_aeq, I_goto, I_lsw, I_iret, I_lret, I_fret, I_dret, I_vret, I_nret, I_aret, I_iald, I_bald, I_lald, I_aald, I_iast, I_bast, I_last, I_aast, I_alen, I_new, I_val, I_cast, I_inst, I_obj, I_throw, I_mkx, I_getf, I_putf, I_call, I_calli, I_callv, I_clone, I_getc, i_ifeq, i_ifne, i_iflt, i_ifge, i_ifgt, i_ifle, i_idiv, i_irem, i_newa, i_newo, i_abs, i_max, i_min, i_ldiv, en_, es_i, es_r, es_0, es_n, es_l, List.length_cons, List.length_nil, List.cons_append, List.nil_append, Nat.reduceAdd, Nat.reduceSub, List.replicate, lg_, st1_, st2_, cn_, nl_, mk_, pk_, kd_, sl_, la_, ft_a, ft_i, ft_l, ft_o, ft_n, ft_b0, ft_b1, ft_bI, nr_0, nr_1, nr_bI, ro_, no_, if_true, if_false, ite_true, ite_false, reduceIte, Nat.reduceMod, Nat.reduceEqDiff, Nat.zero_add, Nat.add_zero, lk_, lit_, nI_add, nI_mul, ix_nI, fgk_0, fgk_1, fgk_2, fgk_3, fgk_4, fgk_5, fgk_6, fgk_7, fgk_8, fgk_9, fgk_10, fgk_11, fgk_12, fgk_13, fsk_0, fsk_1, fsk_2, fsk_3, fsk_4, fsk_5, fsk_6, fsk_7, fsk_8, fsk_9, fsk_10, fsk_11, fsk_12, fsk_13, ca_i, ca_r, ca_n, Nat.reduceLT, true_or, or_true, if_true, false_or, or_false, and_true, true_and, List.mem_singleton, eq_self, i1, i2, n10_, i3, i4, i5, i6, c0, g1, g3, hc, l1, l2, l3])
  obtain ⟨lc, h1⟩ := h.1
  have c0 := h1.1.1
  obtain ⟨σ', m1, m2, m3⟩ := j3 (-nI 1, 0, nI 0) (none, none, none) (by decide)
  refine ⟨σ', ?_, m2, m3⟩
  rw [← m1, D_run]
  simp (disch := omega) only [b302_0, K302_0, l302, R_cons, go_nx, go_jp, go_rt, go_th, go_ca, go_no, go_ite, rr_v, rr_n, rr_x, hx_n, hx_p, hx_b, I_push, I_pushl, I_fc0, I_fc1, I_dc0, I_null, I_mask, I_iload, I_lload, I_dload, I_fload, I_aload, I_istore, I_lstore, I_dstore, I_fstore, I_astore, I_iinc, I_iadd, I_isub, I_imul, I_iand, I_ior, I_ixor, I_ishl, I_ishr, I_iushr, I_ineg, I_ladd, I_lsub, I_lmul, I_lxor, I_i2l, I_l2i, I_i2b, I_i2c, I_i2f, I_i2d, I_lcmp, I_fdiv, I_ddiv, I_f2d, I_dcmp, I_dup, I_pop, I_dup_x1, I_dup2, I_icne, I_iceq, I_iclt, I_icge, I_icgt, I_icle, I_ifnull, I_ifnonnull, I_ane, I_aeq, I_goto, I_lsw, I_iret, I_lret, I_fret, I_dret, I_vret, I_nret, I_aret, I_iald, I_bald, I_lald, I_aald, I_iast, I_bast, I_last, I_aast, I_alen, I_new, I_val, I_cast, I_inst, I_obj, I_throw, I_mkx, I_getf, I_putf, I_call, I_calli, I_callv, I_clone, I_getc, i_ifeq, i_ifne, i_iflt, i_ifge, i_ifgt, i_ifle, i_idiv, i_irem, i_newa, i_newo, i_abs, i_max, i_min, i_ldiv, en_, es_i, es_r, es_0, es_n, es_l, List.length_cons, List.length_nil, List.cons_append, List.nil_append, Nat.reduceAdd, Nat.reduceSub, List.replicate, lg_, st1_, st2_, cn_, nl_, mk_, pk_, kd_, sl_, la_, ft_a, ft_i, ft_l, ft_o, ft_n, ft_b0, ft_b1, ft_bI, nr_0, nr_1, nr_bI, ro_, no_, if_true, if_false, ite_true, ite_false, reduceIte, Nat.reduceMod, Nat.reduceEqDiff, Nat.zero_add, Nat.add_zero, lk_, lit_, nI_add, nI_mul, ix_nI, fgk_0, fgk_1, fgk_2, fgk_3, fgk_4, fgk_5, fgk_6, fgk_7, fgk_8, fgk_9, fgk_10, fgk_11, fgk_12, fgk_13, fsk_0, fsk_1, fsk_2, fsk_3, fsk_4, fsk_5, fsk_6, fsk_7, fsk_8, fsk_9, fsk_10, fsk_11, fsk_12, fsk_13, ca_i, ca_r, ca_n, Nat.reduceLT, true_or, or_true, if_true, false_or, or_false, and_true, true_and, List.mem_singleton, eq_self, c0, j1]
/-- the two ways to look for the suspect agree -/
theorem sc_ss : ∀ (d k : Nat) (x : Option Nat × Nat × Int32), (∀ j, j < 144 → 0 < lwi_ r n s j true → ¬ ct_ r s j = 0) → k + d = 144 →
    ((∀ j, j < k → lwi_ r n s j true = 0) → x.2.1 = 0 → ((∀ j, j < 144 → lwi_ r n s j true = 0) → (fo_ (sc1_ r n s) d k (-nI 1, 0, nI 0)).1 = -nI 1) ∧ (¬ (∀ j, j < 144 → lwi_ r n s j true = 0) → (fo_ (sc1_ r n s) d k (-nI 1, 0, nI 0)).1 = oI_ (fo_ (ss1_ r n s) d k x).1)) ∧
    (∀ e, x.1 = some e → 0 < x.2.1 → (fo_ (sc1_ r n s) d k (nI e, x.2.1, x.2.2)).1 = oI_ (fo_ (ss1_ r n s) d k x).1) := by
  intro d
  induction d with
  | zero =>
    intro k x hct hk
    obtain rfl : k = 144 := by omega
    refine ⟨fun h0 hx => ⟨fun _ => rfl, fun hn => absurd (fun j hj => h0 j hj) hn⟩, fun e he _ => ?_⟩
    show nI e = oI_ x.1
    rw [he]
    rfl
  | succ d ih =>
    intro k x hct hk
    have hk144 : k < 144 := by omega
    obtain ⟨o, ho⟩ : ∃ o, o = lwi_ r n s k true := ⟨_, rfl⟩
    obtain ⟨c, hc⟩ : ∃ c, c = nI (lwi_ r n s k false) - nI o := ⟨_, rfl⟩
    refine ⟨fun h0 hx => ?_, fun e he hp => ?_⟩
    · rw [fo_, fo_]
      by_cases co : o = 0
      · have e1 : sc1_ r n s k (-nI 1, 0, nI 0) = (-nI 1, 0, nI 0) := by
          unfold sc1_
          rw [← ho]
          by_cases q : ct_ r s k = 0
          · rw [if_pos q]
          · rw [if_neg q, if_neg (by dsimp only; omega), if_pos co]
        rw [e1]
        have h0' : ∀ j, j < k + 1 → lwi_ r n s j true = 0 := fun j hj => by
          by_cases e : j = k
          · rw [e, ← ho]; exact co
          · exact h0 j (by omega)
        refine (ih (k + 1) (ss1_ r n s k x) hct (by omega)).1 h0' ?_
        unfold ss1_
        rw [← ho, ← hc]
        split
        · exact hx
        · split
          · exact co
          · split
            · exact hx
            · split
              · split
                · exact hx
                · exact co
              · exact co
      · have hcz := hct k hk144 (by omega)
        have e1 : sc1_ r n s k (-nI 1, 0, nI 0) = (nI k, o, c) := by
          unfold sc1_
          rw [if_neg hcz, ← ho, ← hc, if_neg (by dsimp only; omega), if_neg co, if_neg co]
        have e2 : ss1_ r n s k x = (some k, o, c) := by
          unfold ss1_
          rw [if_neg hcz, ← ho, ← hc]
          split
          · rfl
          · rw [if_neg (by omega), if_neg (by omega)]
        rw [e1, e2]
        have := (ih (k + 1) (some k, o, c) hct (by omega)).2 k rfl (by dsimp only; omega)
        exact ⟨fun h => absurd (ho.trans (h k hk144)) co, fun _ => this⟩
    · rw [fo_, fo_]
      have key : ∀ y : Option Nat × Nat × Int32, (∃ e', y.1 = some e' ∧ 0 < y.2.1 ∧ sc1_ r n s k (nI e, x.2.1, x.2.2) = (nI e', y.2.1, y.2.2)) → ss1_ r n s k x = y → (fo_ (sc1_ r n s) d (k + 1) (sc1_ r n s k (nI e, x.2.1, x.2.2))).1 = oI_ (fo_ (ss1_ r n s) d (k + 1) (ss1_ r n s k x)).1 := by
        intro y hy hs
        obtain ⟨e', y1, y2, y3⟩ := hy
        rw [hs, y3]
        exact (ih (k + 1) y hct (by omega)).2 e' y1 y2
      by_cases q : ct_ r s k = 0
      · refine key x ⟨e, he, hp, if_pos q⟩ (if_pos q)
      · have es : ss1_ r n s k x = if o < x.2.1 then x else if o = x.2.1 then (if x.2.2 ≤ c then x else (some k, o, c)) else (some k, o, c) := by
          unfold ss1_
          rw [if_neg q, ← ho, ← hc, he]
        have ec : sc1_ r n s k (nI e, x.2.1, x.2.2) = if o < x.2.1 then (nI e, x.2.1, x.2.2) else if o = 0 then (nI e, x.2.1, x.2.2) else if o = x.2.1 then (if c < x.2.2 then (nI k, o, c) else (nI e, x.2.1, x.2.2)) else (nI k, o, c) := by
          unfold sc1_
          rw [if_neg q, ← ho, ← hc]
        by_cases c1 : o < x.2.1
        · rw [if_pos c1] at es ec
          exact key x ⟨e, he, hp, ec⟩ es
        · rw [if_neg c1] at es ec
          rw [if_neg (by omega)] at ec
          by_cases c2 : o = x.2.1
          · rw [if_pos c2] at es ec
            by_cases c3 : c < x.2.2
            · rw [if_pos c3] at ec
              rw [if_neg (Int32.not_le.mpr c3)] at es
              exact key _ ⟨k, rfl, by dsimp only; omega, ec⟩ es
            · rw [if_neg c3] at ec
              rw [if_pos (Int32.not_lt.mp c3)] at es
              exact key x ⟨e, he, hp, ec⟩ es
          · rw [if_neg c2] at es ec
            exact key _ ⟨k, rfl, by dsimp only; omega, ec⟩ es
theorem cnt_zero {p : Nat → Bool} : ∀ (d i : Nat), cnt_ p d i 0 = 0 ↔ ∀ j, i ≤ j → j < i + d → p j = false := by
  intro d i
  rw [cnt_flt, Nat.zero_add, List.length_eq_zero_iff, List.filter_eq_nil_iff]
  constructor
  · intro h j h1 h2
    have := h j (List.mem_range'_1.mpr ⟨h1, h2⟩)
    simpa using this
  · intro h j hj
    have := List.mem_range'_1.mp hj
    rw [h j this.1 this.2]
    decide
theorem cnt_full {p : Nat → Bool} : ∀ (d i : Nat), cnt_ p d i 0 = d ↔ ∀ j, i ≤ j → j < i + d → p j = true := by
  intro d i
  rw [cnt_flt, Nat.zero_add]
  constructor
  · intro h j h1 h2
    have hl : ((List.range' i d).filter p).length = (List.range' i d).length := by rw [h, List.length_range']
    exact List.length_filter_eq_length_iff.mp hl j (List.mem_range'_1.mpr ⟨h1, h2⟩)
  · intro h
    have := (List.length_filter_eq_length_iff (p := p) (l := List.range' i d)).mpr (fun j hj => by
      have := List.mem_range'_1.mp hj
      exact h j this.1 this.2)
    rw [this, List.length_range']
theorem pin_tk {tk : Nat → Bool} {e : Nat} : ∀ (l : List Nat), wk_ tk l → pin_ e l = true → tk e = true := by
  intro l
  induction l with
  | nil => intro h; exact h.elim
  | cons x l ih =>
    intro h hp
    cases l with
    | nil => exact absurd hp (by unfold pin_; decide)
    | cons y l =>
      rw [wk_] at h
      have hp' : (decide (pa_ x y = e) || pin_ e (y :: l)) = true := hp
      rw [Bool.or_eq_true] at hp'
      rcases hp' with q | q
      · rw [← of_decide_eq_true q]
        exact h.1.2
      · exact ih h.2.2 q
theorem hed_ct {i j : Nat} (hW : Wr_ r n s) (hi : i < (lps_ r n s).length) (h : hed_ r n s i j = true) : ¬ ct_ r s j = 0 := by
  obtain ⟨_, _, _, p4, _, _, _, _, p9, _⟩ := lpw_spec hW hi
  unfold hed_ at h
  rw [Bool.or_eq_true] at h
  rcases h with q | q
  · rw [← of_decide_eq_true q]
    exact p9
  · exact ((kr_all (r := r) (n := n) (s := s) (wr_n12 hW)).2.2.2 j (pin_tk _ p4.1 q)).1
theorem sc_all (hW : Wr_ r n s) : (fo_ (sc1_ r n s) 144 0 (-nI 1, 0, nI 0)).1 = susq_ r n s := by
  have hlw : ∀ j, lwi_ r n s j true = 0 ↔ ∀ i, i < (lps_ r n s).length → hed_ r n s i j = true → cls_ r n s i = true := by
    intro j
    unfold lwi_
    rw [cnt_zero]
    constructor
    · intro h i hi hh
      have := h i (Nat.zero_le _) (by omega)
      rw [hh] at this
      simpa using this
    · intro h i _ hi
      cases hh : hed_ r n s i j with
      | false => rfl
      | true =>
        rw [h i (by omega) hh]
        rfl
  have hct : ∀ j, j < 144 → 0 < lwi_ r n s j true → ¬ ct_ r s j = 0 := by
    intro j hj hp hc
    have : lwi_ r n s j true = 0 := (hlw j).mpr (fun i hi hh => absurd hc (hed_ct hW hi hh))
    omega
  obtain ⟨h1, h2⟩ := (sc_ss 144 0 (none, 0, nI 0) hct rfl).1 (fun j hj => by omega) rfl
  unfold susq_
  by_cases hall : ∀ j, j < 144 → lwi_ r n s j true = 0
  · rw [h1 hall, if_pos]
    rw [cnt_full]
    intro i _ hi
    have hsp := lpw_spec hW (show i < (lps_ r n s).length by omega)
    refine (hlw (lpe_ r n s i)).mp (hall _ hsp.1) i (by omega) ?_
    unfold hed_
    rw [decide_eq_true rfl]
    rfl
  · rw [h2 hall, if_neg]
    intro q
    rw [cnt_full] at q
    exact hall (fun j _ => (hlw j).mpr (fun i hi _ => q i (Nat.zero_le _) (by omega)))
theorem N_suspect (hw0 : Wl_ E h0 w r ms ss) (h : Nx_ E h0 σ b bb q w N r n s ms ss) : ∃ σ', D_ E 302 [.ref b] σ = some (.inl (some (.int (susq_ r n s))), σ') ∧ Nx_ E h0 σ' b bb q w N r n s ms ss ∧ Sz_ 730 σ σ' := by
  have := N_suspect0 (E := E) hw0 h
  rw [sc_all h.2.2.2.2.2.2.1] at this
  exact this
end CNU
