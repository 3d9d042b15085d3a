section CNJ
variable {E : En_} {σ : As_} {w n s b bb q : Nat} {r : Nat → Int32} {ms ss : List Nat} {h0 : Nat → Option Ac_} {lc : Ac_} {N : Nat → Nat → Int32}
theorem N_layForest (hd : E7_ E h0) (h4 : E45_ E h0) (hwl : Wl_ E h0 w r ms ss) (hm : ms.length = n) (hW : Wr_ r n s) (h : NV_ h0 σ b bb q w lc N) (hN : ∀ p, p < 144 → N 0 p = nI (ct_ r s p)) (h5 : ∀ p, p < 144 → N 5 p = nI 0) (hlc : ∀ n q, lc ≠ .inl (4, n, q)) :
    ∃ σ' f g, D_ E 291 [.ref b] σ = some (.inl none, σ') ∧ NV_ h0 σ' b bb q w lc (um (um N 4 f) 5 g) ∧ (∀ j, j < 12 → f j = nI (prt_ r n s j)) ∧ (∀ p, p < 144 → g p = bI (tkn_ r n s p = true)) ∧ Sz_ 570 σ σ' := by
  have hq := NV_lt h
  have hbq := h.2.2.2.2
  have h1 := NV_new (k := 3) (c := .inr (11, [.int (nI 0), .null, .int (nI 0)])) h
  have hs1 : h0 σ.1 = none := h.2.2.2.1 _ (by omega)
  obtain ⟨d, d1, d2⟩ := IL_new (E := E) (σ := (σ.1 + 1, σ.2.1 + 3, up_ σ.2.2 σ.1 (.inr (11, [.int (nI 0), .null, .int (nI 0)])))) (a := σ.1) hd h1.2.1 h1.2.2.1 hs1 (up_s _ _ _)
  have h2 := NV_oth (x := σ.1) (c := .inr (11, [.int (nI 0), .ref d, .int (nI 0)])) h1 (up_s _ _ _) (by omega) (Or.inr (by omega))
  obtain ⟨σ3, j1, j2, j3, j4⟩ := N_iter (E := E) h2
  dsimp only at j1 j3 j4 d1 d2 h2
  have hF3 : Fr_ 6 (σ.1 + 1, σ.2.1 + 3, up_ (up_ σ.2.2 σ.1 (.inr (11, [.int (nI 0), .null, .int (nI 0)]))) σ.1 (.inr (11, [.int (nI 0), .ref d, .int (nI 0)]))) σ3 := by
    rw [j4]
    exact Fr_new h2.2.2.1
  have hI3 := IL_fr d2 hF3
  have hnk := nxk_le (c := N 0) 144 0
  obtain ⟨σ4, k1, k2, k3, k4⟩ := lf_lp (E := E) (s := s) hd h4 hwl hm hW hN hq (show σ.1 < σ.1 + 1 by omega) hlc 144 (nxk_ (N 0) 144 0) [] σ3 none none (by omega) (by omega) (fun e => nxk_nz (c := N 0) 144 0 (by omega)) j2 j3 hI3 (fun y hy => absurd hy List.not_mem_nil) (Nat.zero_le _)
  have esg : fo_ (sg1_ r s) (144 - nxk_ (N 0) 144 0) (nxk_ (N 0) 144 0) [] = sge_ r s := by
    have ec : nxk_ (N 0) 144 0 = nxk_ (fun j => if j < 144 then N 0 j else nI 1) 144 0 := nxk_co _ _ (fun j hj => by rw [if_pos (by omega)])
    have sk := fe_skip (c := fun j => if j < 144 then N 0 j else nI 1) (G := sg1_ r s) (fun j x h => by
      by_cases cj : j < 144
      · rw [if_pos cj, hN j cj] at h
        have h40 := ct_40 hW j
        rw [nI_eq (by omega) (by decide)] at h
        exact if_pos h
      · rw [if_neg cj] at h
        exact absurd h (by decide)) 144 0 []
    rw [← ec] at sk
    exact sk.symm
  rw [esg] at k3 k4
  have hs40 := wr_s40 hW
  have hse := sge_s (r := r) (s := s)
  have htt : tot_ (sge_ r s).length ≤ 149 := Nat.le_trans (tot_mono (by omega)) tot_40
  have ht0 : tot_ ([] : List Nat).length = 0 := rfl
  have hl0 : ([] : List Nat).length = 0 := rfl
  obtain ⟨σ5, f5, l1, l2, l3, l4, l5, l6⟩ := p5_lp (E := E) 12 0 N σ4 (by omega) k2 k3 (fun j hj => by omega)
  have hsp := sge_spec (r := r) (s := s)
  obtain ⟨σ6, f6, g6, m1, m2, m3, m4, m5, m6⟩ := k7_lp (E := E) (L := sge_ r s) (fun p hp => by have := (hsp.2 p).mp hp; omega) (by have := sge_len (r := r) (s := s); omega) (sge_ r s).length 0 id (fun _ => false) _ σ5 none none none none (by omega) l2 l3 (fun j hj => l4 j hj) (fun j hj => hj) (fun p hp => by rw [bI_f (by decide)]; exact h5 p hp)
  have hk := ks_all hW
  have hdr : (sge_ r s).drop 0 = sge_ r s := rfl
  rw [hdr, hk] at m3 m4
  refine ⟨σ6, f6, g6, ?_, ?_, m3, m4, ?_⟩
  · rw [← m1, D_run]
    obtain ⟨c0, _⟩ := h2
    have c0 := c0.1
    dsimp only at c0
    simp (disch := first | assumption | omega) only [b291_0, K291_0, l291, R_cons, go_nx, go_jp, go_rt, go_th, go_ca, go_no, go_ite, rr_v, rr_n, rr_x, hx_n, hx_p, hx_b, I_push, I_pushl, I_fc0, I_fc1, I_dc0, I_null, I_mask, I_iload, I_lload, I_dload, I_fload, I_aload, I_istore, I_lstore, I_dstore, I_fstore, I_astore, I_iinc, I_iadd, I_isub, I_imul, I_iand, I_ior, I_ixor, I_ishl, I_ishr, I_iushr, I_ineg, I_ladd, I_lsub, I_lmul, I_lxor, I_i2l, I_l2i, I_i2b, I_i2c, I_i2f, I_i2d, I_lcmp, I_fdiv, I_ddiv, I_f2d, I_dcmp, I_dup, I_pop, I_dup_x1, I_dup2, I_icne, I_iceq, I_iclt, I_icge, I_icgt, I_icle, I_ifnull, I_ifnonnull, I_ane, I_aeq, I_goto, I_lsw, I_iret, I_lret, I_fret, I_dret, I_vret, I_nret, I_aret, I_iald, I_bald, I_lald, I_aald, I_iast, I_bast, I_last, I_aast, I_alen, I_new, I_val, I_cast, I_inst, I_obj, I_throw, I_mkx, I_getf, I_putf, I_call, I_calli, I_callv, I_clone, I_getc, i_ifeq, i_ifne, i_iflt, i_ifge, i_ifgt, i_ifle, i_idiv, i_irem, i_newa, i_newo, i_abs, i_max, i_min, i_ldiv, en_, es_i, es_r, es_0, es_n, es_l, List.length_cons, List.length_nil, List.cons_append, List.nil_append, Nat.reduceAdd, Nat.reduceSub, List.replicate, lg_, st1_, st2_, cn_, nl_, mk_, pk_, kd_, sl_, la_, ft_a, ft_i, ft_l, ft_o, ft_n, ft_b0, ft_b1, ft_bI, nr_0, nr_1, nr_bI, ro_, no_, if_true, if_false, ite_true, ite_false, reduceIte, Nat.reduceMod, Nat.reduceEqDiff, Nat.zero_add, Nat.add_zero, lk_, lit_, nI_add, nI_mul, ix_nI, fgk_0, fgk_1, fgk_2, fgk_3, fgk_4, fgk_5, fgk_6, fgk_7, fgk_8, fgk_9, fgk_10, fgk_11, fgk_12, fgk_13, fsk_0, fsk_1, fsk_2, fsk_3, fsk_4, fsk_5, fsk_6, fsk_7, fsk_8, fsk_9, fsk_10, fsk_11, fsk_12, fsk_13, ca_i, ca_r, ca_n, Nat.reduceLT, true_or, or_true, if_true, false_or, or_false, and_true, true_and, List.mem_singleton, eq_self, d1, c0, j1]
    rw [k1, b291_4]
    simp (disch := first | assumption | omega) only [K291_4, R_cons, go_nx, go_jp, go_rt, go_th, go_ca, go_no, go_ite, rr_v, rr_n, rr_x, hx_n, hx_p, hx_b, I_push, I_pushl, I_fc0, I_fc1, I_dc0, I_null, I_mask, I_iload, I_lload, I_dload, I_fload, I_aload, I_istore, I_lstore, I_dstore, I_fstore, I_astore, I_iinc, I_iadd, I_isub, I_imul, I_iand, I_ior, I_ixor, I_ishl, I_ishr, I_iushr, I_ineg, I_ladd, I_lsub, I_lmul, I_lxor, I_i2l, I_l2i, I_i2b, I_i2c, I_i2f, I_i2d, I_lcmp, I_fdiv, I_ddiv, I_f2d, I_dcmp, I_dup, I_pop, I_dup_x1, I_dup2, I_icne, I_iceq, I_iclt, I_icge, I_icgt, I_icle, I_ifnull, I_ifnonnull, I_ane, I_aeq, I_goto, I_lsw, I_iret, I_lret, I_fret, I_dret, I_vret, I_nret, I_aret, I_iald, I_bald, I_lald, I_aald, I_iast, I_bast, I_last, I_aast, I_alen, I_new, I_val, I_cast, I_inst, I_obj, I_throw, I_mkx, I_getf, I_putf, I_call, I_calli, I_callv, I_clone, I_getc, i_ifeq, i_ifne, i_iflt, i_ifge, i_ifgt, i_ifle, i_idiv, i_irem, i_newa, i_newo, i_abs, i_max, i_min, i_ldiv, en_, es_i, es_r, es_0, es_n, es_l, List.length_cons, List.length_nil, List.cons_append, List.nil_append, Nat.reduceAdd, Nat.reduceSub, List.replicate, lg_, st1_, st2_, cn_, nl_, mk_, pk_, kd_, sl_, la_, ft_a, ft_i, ft_l, ft_o, ft_n, ft_b0, ft_b1, ft_bI, nr_0, nr_1, nr_bI, ro_, no_, if_true, if_false, ite_true, ite_false, reduceIte, Nat.reduceMod, Nat.reduceEqDiff, Nat.zero_add, Nat.add_zero, lk_, lit_, nI_add, nI_mul, ix_nI, fgk_0, fgk_1, fgk_2, fgk_3, fgk_4, fgk_5, fgk_6, fgk_7, fgk_8, fgk_9, fgk_10, fgk_11, fgk_12, fgk_13, fsk_0, fsk_1, fsk_2, fsk_3, fsk_4, fsk_5, fsk_6, fsk_7, fsk_8, fsk_9, fsk_10, fsk_11, fsk_12, fsk_13, ca_i, ca_r, ca_n, Nat.reduceLT, true_or, or_true, if_true, false_or, or_false, and_true, true_and, List.mem_singleton, eq_self]
    rw [l1, b291_6]
    simp (disch := first | assumption | omega) only [K291_6, R_cons, go_nx, go_jp, go_rt, go_th, go_ca, go_no, go_ite, rr_v, rr_n, rr_x, hx_n, hx_p, hx_b, I_push, I_pushl, I_fc0, I_fc1, I_dc0, I_null, I_mask, I_iload, I_lload, I_dload, I_fload, I_aload, I_istore, I_lstore, I_dstore, I_fstore, I_astore, I_iinc, I_iadd, I_isub, I_imul, I_iand, I_ior, I_ixor, I_ishl, I_ishr, I_iushr, I_ineg, I_ladd, I_lsub, I_lmul, I_lxor, I_i2l, I_l2i, I_i2b, I_i2c, I_i2f, I_i2d, I_lcmp, I_fdiv, I_ddiv, I_f2d, I_dcmp, I_dup, I_pop, I_dup_x1, I_dup2, I_icne, I_iceq, I_iclt, I_icge, I_icgt, I_icle, I_ifnull, I_ifnonnull, I_ane, I_aeq, I_goto, I_lsw, I_iret, I_lret, I_fret, I_dret, I_vret, I_nret, I_aret, I_iald, I_bald, I_lald, I_aald, I_iast, I_bast, I_last, I_aast, I_alen, I_new, I_val, I_cast, I_inst, I_obj, I_throw, I_mkx, I_getf, I_putf, I_call, I_calli, I_callv, I_clone, I_getc, i_ifeq, i_ifne, i_iflt, i_ifge, i_ifgt, i_ifle, i_idiv, i_irem, i_newa, i_newo, i_abs, i_max, i_min, i_ldiv, en_, es_i, es_r, es_0, es_n, es_l, List.length_cons, List.length_nil, List.cons_append, List.nil_append, Nat.reduceAdd, Nat.reduceSub, List.replicate, lg_, st1_, st2_, cn_, nl_, mk_, pk_, kd_, sl_, la_, ft_a, ft_i, ft_l, ft_o, ft_n, ft_b0, ft_b1, ft_bI, nr_0, nr_1, nr_bI, ro_, no_, if_true, if_false, ite_true, ite_false, reduceIte, Nat.reduceMod, Nat.reduceEqDiff, Nat.zero_add, Nat.add_zero, lk_, lit_, nI_add, nI_mul, ix_nI, fgk_0, fgk_1, fgk_2, fgk_3, fgk_4, fgk_5, fgk_6, fgk_7, fgk_8, fgk_9, fgk_10, fgk_11, fgk_12, fgk_13, fsk_0, fsk_1, fsk_2, fsk_3, fsk_4, fsk_5, fsk_6, fsk_7, fsk_8, fsk_9, fsk_10, fsk_11, fsk_12, fsk_13, ca_i, ca_r, ca_n, Nat.reduceLT, true_or, or_true, if_true, false_or, or_false, and_true, true_and, List.mem_singleton, eq_self]
  · rw [um_um] at m2
    exact m2
  · obtain ⟨s1, s2, s3⟩ := Fr_Sz hF3
    obtain ⟨t1, t2, t3⟩ := k4
    dsimp only at s1 s2 s3
    exact ⟨by omega, by omega, by omega⟩
end CNJ
