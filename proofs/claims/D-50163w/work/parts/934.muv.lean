section MUV
variable {E : En_} {σ : As_} {hl w p n s : Nat} {ns ws : List Nat} {r : Nat → Int32} {ms ss : List Nat} {sv : Value} {ft : List Value}
/-- an answer, an index refused, a state refused -/
def anS_ (p q : Prop) [Decidable p] [Decidable q] (v : Value) (a : Nat) : Rs_ := if p then (if q then .inl (some v) else .inr (21, a)) else .inr (19, a)
theorem S_free {x : Int32} (h : Sq_ E σ p w (sv :: .ref hl :: ft) r n s ms ss) (hH : Hi_ σ.2.2 hl ns ws) (hn : ns.length ≤ 10) (hW' : inN_ x n → Wr_ (upd r (8 + 5 * x.toNatClampNeg + 2) (nI 0)) n s) :
    ∃ σ' a, D_ E 391 [.ref p, .int x] σ = some (anS_ (inN_ x n) (r (8 + 5 * x.toNatClampNeg + 2) = nI 1) (.int (sum_ (fun k => upd r (8 + 5 * x.toNatClampNeg + 2) (nI 0) (8 + 5 * k + 2)) n 0 (nI 0))) a, σ') ∧ (inN_ x n → r (8 + 5 * x.toNatClampNeg + 2) = nI 1 → Mu_ E σ σ' p w hl sv ft ns ws (upd r (8 + 5 * x.toNatClampNeg + 2) (nI 0)) n s 748) ∧ (¬ (inN_ x n ∧ r (8 + 5 * x.toNatClampNeg + 2) = nI 1) → Fr_ 10 σ σ') := by
  have hp := h.1
  have hW := Sq_W h
  have h12 := wr_n12 hW
  obtain ⟨am0, as0, st0, fm0, fa0, g0, z1, z2, z3, z4, z5, z6, _, _, _, _, zm, zs⟩ := Sq_w h
  unfold anS_
  by_cases c : inN_ x n
  · have k0 := S_ckM1 h c
    have hWx := hW' c
    obtain ⟨i, hi, rfl⟩ := inN_nI c
    rw [nI_clamp (by omega)] at hWx ⊢
    obtain ⟨y, y1, nm0, y2, _⟩ := zm i hi
    by_cases cb : r (8 + 5 * i + 2) = nI 1
    · obtain ⟨σ1, m1, h0, w', am, em, as, es, st, mc, mc', ms', ss', ns', m0, m2, m3, m4, m5, m6, m7, m8, m9⟩ := S_remember h hH hn
      have m2' := m4.2.1 _ _ m2
      have hil : i < ms'.length := by omega
      have hxi := List.getElem?_eq_getElem hil
      obtain ⟨nm, x1, _⟩ := m4.1.2.2.2.2.1 i _ hxi
      have gx := J_get (E := E) (σ := σ1) m4.1.2.1 hil
      obtain ⟨_, _, _, l5, _⟩ := id m4.1.2.1
      have hw1 := m4.1.1
      have hY := WY_putM (r' := upd r (8 + 5 * i + 2) (nI 0)) m4 hxi x1 (fun j hj => upd_n (by omega)) (by omega)
      have e1 : upd r (8 + 5 * i + 2) (nI 0) (8 + 5 * i + 1) = r (8 + 5 * i + 1) := upd_n (by omega)
      have e3 : hgt_ (upd r (8 + 5 * i + 2) (nI 0)) i = hgt_ r i := by
        unfold hgt_
        rw [upd_n (by omega), upd_n (by omega)]
      rw [e1, upd_s, e3] at hY
      obtain ⟨σ2, b1, b2⟩ := W_benches (E := E) (WY_Wl hY) m5 hWx hY.2.2.1
      have hpx : p ≠ ms'[i] := fun q => by rw [q, x1] at m2'; cases m2'
      have hwx : w' ≠ ms'[i] := fun q => by rw [q, x1] at hw1; cases hw1
      refine ⟨σ2, 0, ?_, fun _ _ => Mu_post (c := 740) ⟨h0, w', am, em, as, es, st, mc, mc', ms', ss', ns', m0, m2, m3, hY, m5, m6, m7, m8, m9⟩ b2, fun q => absurd ⟨c, cb⟩ q⟩
      rw [if_pos c, if_pos cb, D_run]
      rw [cb] at y2 x1
      simp (disch := omega) only [l391, b391_0, K391_0, R_cons, go_nx, go_jp, go_rt, go_th, go_ca, go_no, go_ite, rr_v, rr_n, rr_x, hx_n, hx_p, hx_b, I_push, I_pushl, I_fc0, I_fc1, I_dc0, I_null, I_mask, I_iload, I_lload, I_dload, I_fload, I_aload, I_istore, I_lstore, I_dstore, I_fstore, I_astore, I_iinc, I_iadd, I_isub, I_imul, I_iand, I_ior, I_ixor, I_ishl, I_ishr, I_iushr, I_ineg, I_ladd, I_lsub, I_lmul, I_lxor, I_i2l, I_l2i, I_i2b, I_i2c, I_i2f, I_i2d, I_lcmp, I_fdiv, I_ddiv, I_f2d, I_dcmp, I_dup, I_pop, I_dup_x1, I_dup2, I_icne, I_iceq, I_iclt, I_icge, I_icgt, I_icle, I_ifnull, I_ifnonnull, I_ane, I_aeq, I_goto, I_lsw, I_iret, I_lret, I_fret, I_dret, I_vret, I_nret, I_aret, I_iald, I_bald, I_lald, I_aald, I_iast, I_bast, I_last, I_aast, I_alen, I_new, I_val, I_cast, I_inst, I_obj, I_throw, I_mkx, I_getf, I_putf, I_call, I_calli, I_callv, I_clone, I_getc, i_ifeq, i_ifne, i_iflt, i_ifge, i_ifgt, i_ifle, i_idiv, i_irem, i_newa, i_newo, i_abs, i_max, i_min, i_ldiv, en_, es_i, es_r, es_0, es_n, es_l, List.length_cons, List.length_nil, List.cons_append, List.nil_append, Nat.reduceAdd, Nat.reduceSub, List.replicate, lg_, st1_, st2_, cn_, nl_, mk_, pk_, kd_, sl_, la_, ft_a, ft_i, ft_l, ft_o, ft_n, ft_b0, ft_b1, ft_bI, nr_0, nr_1, nr_bI, ro_, no_, if_true, if_false, ite_true, ite_false, reduceIte, Nat.reduceMod, Nat.reduceEqDiff, Nat.zero_add, Nat.add_zero, lk_, lit_, nI_add, nI_mul, ix_nI, fgk_0, fgk_1, fgk_2, fgk_3, fgk_4, fgk_5, fgk_6, fgk_7, fgk_8, fgk_9, fgk_10, fgk_11, fgk_12, fgk_13, fsk_0, fsk_1, fsk_2, fsk_3, fsk_4, fsk_5, fsk_6, fsk_7, fsk_8, fsk_9, fsk_10, fsk_11, fsk_12, fsk_13, ca_i, ca_r, ca_n, Nat.reduceLT, true_or, or_true, if_true, false_or, or_false, and_true, true_and, List.mem_singleton, eq_self, hp, k0, z1, z2, y1, y2, S_cs1, m1, m2', hw1, l5, gx, x1, up_n, b1]
    · have cb0 : r (8 + 5 * i + 2) = nI 0 := (wr_mb hW hi).1.resolve_right cb
      refine ⟨thr_ σ 21, σ.1, ?_, fun _ q => absurd q cb, fun _ => Fr_thr (Sq_hw h)⟩
      rw [cb0] at y2
      rw [if_pos c, if_neg cb, D_run]
      simp (disch := omega) only [l391, b391_0, K391_0, R_cons, go_nx, go_jp, go_rt, go_th, go_ca, go_no, go_ite, rr_v, rr_n, rr_x, hx_n, hx_p, hx_b, I_push, I_pushl, I_fc0, I_fc1, I_dc0, I_null, I_mask, I_iload, I_lload, I_dload, I_fload, I_aload, I_istore, I_lstore, I_dstore, I_fstore, I_astore, I_iinc, I_iadd, I_isub, I_imul, I_iand, I_ior, I_ixor, I_ishl, I_ishr, I_iushr, I_ineg, I_ladd, I_lsub, I_lmul, I_lxor, I_i2l, I_l2i, I_i2b, I_i2c, I_i2f, I_i2d, I_lcmp, I_fdiv, I_ddiv, I_f2d, I_dcmp, I_dup, I_pop, I_dup_x1, I_dup2, I_icne, I_iceq, I_iclt, I_icge, I_icgt, I_icle, I_ifnull, I_ifnonnull, I_ane, I_aeq, I_goto, I_lsw, I_iret, I_lret, I_fret, I_dret, I_vret, I_nret, I_aret, I_iald, I_bald, I_lald, I_aald, I_iast, I_bast, I_last, I_aast, I_alen, I_new, I_val, I_cast, I_inst, I_obj, I_throw, I_mkx, I_getf, I_putf, I_call, I_calli, I_callv, I_clone, I_getc, i_ifeq, i_ifne, i_iflt, i_ifge, i_ifgt, i_ifle, i_idiv, i_irem, i_newa, i_newo, i_abs, i_max, i_min, i_ldiv, en_, es_i, es_r, es_0, es_n, es_l, List.length_cons, List.length_nil, List.cons_append, List.nil_append, Nat.reduceAdd, Nat.reduceSub, List.replicate, lg_, st1_, st2_, cn_, nl_, mk_, pk_, kd_, sl_, la_, ft_a, ft_i, ft_l, ft_o, ft_n, ft_b0, ft_b1, ft_bI, nr_0, nr_1, nr_bI, ro_, no_, if_true, if_false, ite_true, ite_false, reduceIte, Nat.reduceMod, Nat.reduceEqDiff, Nat.zero_add, Nat.add_zero, lk_, lit_, nI_add, nI_mul, ix_nI, fgk_0, fgk_1, fgk_2, fgk_3, fgk_4, fgk_5, fgk_6, fgk_7, fgk_8, fgk_9, fgk_10, fgk_11, fgk_12, fgk_13, fsk_0, fsk_1, fsk_2, fsk_3, fsk_4, fsk_5, fsk_6, fsk_7, fsk_8, fsk_9, fsk_10, fsk_11, fsk_12, fsk_13, ca_i, ca_r, ca_n, Nat.reduceLT, true_or, or_true, if_true, false_or, or_false, and_true, true_and, List.mem_singleton, eq_self, hp, k0, z1, z2, y1, y2, S_cs0]
  · refine ⟨thr_ σ 19, σ.1, ?_, fun q => absurd q c, fun _ => Fr_thr (Sq_hw h)⟩
    have k1 := S_ckM0 h c
    rw [if_neg c, D_run]
    simp (disch := omega) only [l391, b391_0, K391_0, R_cons, go_nx, go_jp, go_rt, go_th, go_ca, go_no, go_ite, rr_v, rr_n, rr_x, hx_n, hx_p, hx_b, I_push, I_pushl, I_fc0, I_fc1, I_dc0, I_null, I_mask, I_iload, I_lload, I_dload, I_fload, I_aload, I_istore, I_lstore, I_dstore, I_fstore, I_astore, I_iinc, I_iadd, I_isub, I_imul, I_iand, I_ior, I_ixor, I_ishl, I_ishr, I_iushr, I_ineg, I_ladd, I_lsub, I_lmul, I_lxor, I_i2l, I_l2i, I_i2b, I_i2c, I_i2f, I_i2d, I_lcmp, I_fdiv, I_ddiv, I_f2d, I_dcmp, I_dup, I_pop, I_dup_x1, I_dup2, I_icne, I_iceq, I_iclt, I_icge, I_icgt, I_icle, I_ifnull, I_ifnonnull, I_ane, I_aeq, I_goto, I_lsw, I_iret, I_lret, I_fret, I_dret, I_vret, I_nret, I_aret, I_iald, I_bald, I_lald, I_aald, I_iast, I_bast, I_last, I_aast, I_alen, I_new, I_val, I_cast, I_inst, I_obj, I_throw, I_mkx, I_getf, I_putf, I_call, I_calli, I_callv, I_clone, I_getc, i_ifeq, i_ifne, i_iflt, i_ifge, i_ifgt, i_ifle, i_idiv, i_irem, i_newa, i_newo, i_abs, i_max, i_min, i_ldiv, en_, es_i, es_r, es_0, es_n, es_l, List.length_cons, List.length_nil, List.cons_append, List.nil_append, Nat.reduceAdd, Nat.reduceSub, List.replicate, lg_, st1_, st2_, cn_, nl_, mk_, pk_, kd_, sl_, la_, ft_a, ft_i, ft_l, ft_o, ft_n, ft_b0, ft_b1, ft_bI, nr_0, nr_1, nr_bI, ro_, no_, if_true, if_false, ite_true, ite_false, reduceIte, Nat.reduceMod, Nat.reduceEqDiff, Nat.zero_add, Nat.add_zero, lk_, lit_, nI_add, nI_mul, ix_nI, fgk_0, fgk_1, fgk_2, fgk_3, fgk_4, fgk_5, fgk_6, fgk_7, fgk_8, fgk_9, fgk_10, fgk_11, fgk_12, fgk_13, fsk_0, fsk_1, fsk_2, fsk_3, fsk_4, fsk_5, fsk_6, fsk_7, fsk_8, fsk_9, fsk_10, fsk_11, fsk_12, fsk_13, ca_i, ca_r, ca_n, Nat.reduceLT, true_or, or_true, if_true, false_or, or_false, and_true, true_and, List.mem_singleton, eq_self, hp, k1]
/-- a net on the wall that a change has made -/
theorem Mu_net {σ1 : As_} {w' am em as es st : Nat} {mc mc' : Int32} {ms' ss' : List Nat} {h0 : Nat → Option Ac_} {fp : List Value} (hW : Wr_ r n s) (h7 : E7_ E h0) (h4 : E45_ E h0) (hp : h0 p = some (.inr (0, .ref w' :: fp))) (hY : WY_ E h0 σ1 w' r am em as es st mc mc' ms' ss') (hm : ms'.length = n) (hss : ss'.length = s) :
    ∃ σ2 q N, D_ E 339 [.ref p] σ1 = some (.inl (some (.ref σ1.1)), σ2) ∧ Nx_ E σ1.2.2 σ2 σ1.1 σ1.1 q w' N r n s ms' ss' ∧ WY_ E h0 (σ1.1 + 1, σ1.2.1, σ1.2.2) w' r am em as es st mc mc' ms' ss' ∧ Sz_ 4620 σ1 σ2 := by
  have hp1 := hY.2.1 _ _ hp
  have hlt : p < σ1.1 := Hw_lt hY.2.2.1 hp1
  obtain ⟨σ2, q, N, n1, n2, n3, n4⟩ := net_Y (E := E) hY hm hss hW h7 h4
  refine ⟨σ2, q, N, ?_, n2, n3, n4⟩
  unfold n0_ at n1
  rw [D_run]
  simp (disch := omega) only [l339, b339_0, K339_0, R_cons, go_nx, go_jp, go_rt, go_th, go_ca, go_no, go_ite, rr_v, rr_n, rr_x, hx_n, hx_p, hx_b, I_push, I_pushl, I_fc0, I_fc1, I_dc0, I_null, I_mask, I_iload, I_lload, I_dload, I_fload, I_aload, I_istore, I_lstore, I_dstore, I_fstore, I_astore, I_iinc, I_iadd, I_isub, I_imul, I_iand, I_ior, I_ixor, I_ishl, I_ishr, I_iushr, I_ineg, I_ladd, I_lsub, I_lmul, I_lxor, I_i2l, I_l2i, I_i2b, I_i2c, I_i2f, I_i2d, I_lcmp, I_fdiv, I_ddiv, I_f2d, I_dcmp, I_dup, I_pop, I_dup_x1, I_dup2, I_icne, I_iceq, I_iclt, I_icge, I_icgt, I_icle, I_ifnull, I_ifnonnull, I_ane, I_aeq, I_goto, I_lsw, I_iret, I_lret, I_fret, I_dret, I_vret, I_nret, I_aret, I_iald, I_bald, I_lald, I_aald, I_iast, I_bast, I_last, I_aast, I_alen, I_new, I_val, I_cast, I_inst, I_obj, I_throw, I_mkx, I_getf, I_putf, I_call, I_calli, I_callv, I_clone, I_getc, i_ifeq, i_ifne, i_iflt, i_ifge, i_ifgt, i_ifle, i_idiv, i_irem, i_newa, i_newo, i_abs, i_max, i_min, i_ldiv, en_, es_i, es_r, es_0, es_n, es_l, List.length_cons, List.length_nil, List.cons_append, List.nil_append, Nat.reduceAdd, Nat.reduceSub, List.replicate, lg_, st1_, st2_, cn_, nl_, mk_, pk_, kd_, sl_, la_, ft_a, ft_i, ft_l, ft_o, ft_n, ft_b0, ft_b1, ft_bI, nr_0, nr_1, nr_bI, ro_, no_, if_true, if_false, ite_true, ite_false, reduceIte, Nat.reduceMod, Nat.reduceEqDiff, Nat.zero_add, Nat.add_zero, lk_, lit_, nI_add, nI_mul, ix_nI, fgk_0, fgk_1, fgk_2, fgk_3, fgk_4, fgk_5, fgk_6, fgk_7, fgk_8, fgk_9, fgk_10, fgk_11, fgk_12, fgk_13, fsk_0, fsk_1, fsk_2, fsk_3, fsk_4, fsk_5, fsk_6, fsk_7, fsk_8, fsk_9, fsk_10, fsk_11, fsk_12, fsk_13, ca_i, ca_r, ca_n, Nat.reduceLT, true_or, or_true, if_true, false_or, or_false, and_true, true_and, List.mem_singleton, eq_self, hp1, up_n, J_rnn, n1]
theorem S_level (h : Sq_ E σ p w (sv :: .ref hl :: ft) r n s ms ss) (hH : Hi_ σ.2.2 hl ns ws) (hn : ns.length ≤ 10) (hB : Bn_ r n) :
    ∃ σ', D_ E 355 [.ref p] σ = some (.inl (some (.int (nI (cnt_ (fun k => decide (lev_ r n s (8 + 5 * k + 3) = nI 1)) n 0 0)))), σ') ∧ Mu_ E σ σ' p w hl sv ft ns ws (lev_ r n s) n s 5400 := by
  have hp := h.1
  have hW := Sq_W h
  have h12 := wr_n12 hW
  have hM := Mc_of hp hH
  obtain ⟨σ1, m1, h0, w', am, em, as, es, st, mc, mc', ms', ss', ns', m0, m2, m3, m4, m5, m6, m7, m8, m9⟩ := S_remember h hH hn
  have m2' := m4.2.1 _ _ m2
  obtain ⟨σ2, q, N, n1, n2, n3, n4⟩ := Mu_net (E := E) hW (E7_mono m0 (E7_rsh hM h.2.2.2.2.2.2.1)) (E45_mono m0 (E45_rsh hM h.2.2.2.2.2.2.2.1)) m2 m4 m5 m6
  obtain ⟨σ3, g', v1, v2, v3, v4, v5, v6⟩ := N_level (E := E) n2 n3 (Bn_Bh hB) (by omega)
  have nb := NX_7 n2
  have hgl := v2.1.choose_spec.2.1
  have hY3 : WY_ E h0 σ3 w' (lev_ r n s) am em as es st mc mc' ms' ss' := WY_up v3 hgl v2.1.choose_spec.2.2.1
  obtain ⟨lv1, lv2, lv3⟩ := lev_all hW hB
  obtain ⟨σ4, u1, u2⟩ := W_heights (E := E) (WY_Wl hY3) m5 lv2 (Bh_ok lv1 (by decide)) hY3.2.2.1
  have hp3 := hY3.2.1 _ _ m2
  have hw3 := hY3.1.1
  have hpn := n2.1.choose_spec.2.1 _ _ m2'
  refine ⟨σ4, ?_, ?_⟩
  · rw [D_run]
    simp (disch := omega) only [l355, b355_0, K355_0, R_cons, go_nx, go_jp, go_rt, go_th, go_ca, go_no, go_ite, rr_v, rr_n, rr_x, hx_n, hx_p, hx_b, I_push, I_pushl, I_fc0, I_fc1, I_dc0, I_null, I_mask, I_iload, I_lload, I_dload, I_fload, I_aload, I_istore, I_lstore, I_dstore, I_fstore, I_astore, I_iinc, I_iadd, I_isub, I_imul, I_iand, I_ior, I_ixor, I_ishl, I_ishr, I_iushr, I_ineg, I_ladd, I_lsub, I_lmul, I_lxor, I_i2l, I_l2i, I_i2b, I_i2c, I_i2f, I_i2d, I_lcmp, I_fdiv, I_ddiv, I_f2d, I_dcmp, I_dup, I_pop, I_dup_x1, I_dup2, I_icne, I_iceq, I_iclt, I_icge, I_icgt, I_icle, I_ifnull, I_ifnonnull, I_ane, I_aeq, I_goto, I_lsw, I_iret, I_lret, I_fret, I_dret, I_vret, I_nret, I_aret, I_iald, I_bald, I_lald, I_aald, I_iast, I_bast, I_last, I_aast, I_alen, I_new, I_val, I_cast, I_inst, I_obj, I_throw, I_mkx, I_getf, I_putf, I_call, I_calli, I_callv, I_clone, I_getc, i_ifeq, i_ifne, i_iflt, i_ifge, i_ifgt, i_ifle, i_idiv, i_irem, i_newa, i_newo, i_abs, i_max, i_min, i_ldiv, en_, es_i, es_r, es_0, es_n, es_l, List.length_cons, List.length_nil, List.cons_append, List.nil_append, Nat.reduceAdd, Nat.reduceSub, List.replicate, lg_, st1_, st2_, cn_, nl_, mk_, pk_, kd_, sl_, la_, ft_a, ft_i, ft_l, ft_o, ft_n, ft_b0, ft_b1, ft_bI, nr_0, nr_1, nr_bI, ro_, no_, if_true, if_false, ite_true, ite_false, reduceIte, Nat.reduceMod, Nat.reduceEqDiff, Nat.zero_add, Nat.add_zero, lk_, lit_, nI_add, nI_mul, ix_nI, fgk_0, fgk_1, fgk_2, fgk_3, fgk_4, fgk_5, fgk_6, fgk_7, fgk_8, fgk_9, fgk_10, fgk_11, fgk_12, fgk_13, fsk_0, fsk_1, fsk_2, fsk_3, fsk_4, fsk_5, fsk_6, fsk_7, fsk_8, fsk_9, fsk_10, fsk_11, fsk_12, fsk_13, ca_i, ca_r, ca_n, Nat.reduceLT, true_or, or_true, if_true, false_or, or_false, and_true, true_and, List.mem_singleton, eq_self, hp, m1, m2', n1, nb, v1, hp3, hw3, u1]
  · have hz : Sz_ 5384 σ σ3 := by
      unfold Sz_ at m9 n4 v4 ⊢
      omega
    have := Mu_post (c := 5384) (d := 8) (⟨h0, w', am, em, as, es, st, mc, mc', ms', ss', ns', m0, m2, m3, hY3, m5, m6, m7, m8, hz⟩ : Mu_ E σ σ3 p w hl sv ft ns ws (lev_ r n s) n s 5384) u2
    obtain ⟨h0, w', am, em, as, es, st, mc, mc', ms', ss', ns', m0, m2, m3, m4, m5, m6, m7, m8, m9⟩ := this
    exact ⟨h0, w', am, em, as, es, st, mc, mc', ms', ss', ns', m0, m2, m3, m4, m5, m6, m7, m8, Sz_le m9 (by decide)⟩
theorem S_relax {x : Int32} {I : Nat → (Nat → Int32) → Prop} (h : Sq_ E σ p w (sv :: .ref hl :: ft) r n s ms ss) (hH : Hi_ σ.2.2 hl ns ws) (hn : ns.length ≤ 10) (h1 : ∀ j r, j ≤ 600 → I j r → Hok_ r n) (h2 : ∀ j r' k, j < 600 → k < n → hs_ r r' → Wr_ r' n s → r' (8 + 5 * k + 3) = nI 1 → ¬ r' (8 + 5 * k + 2) = nI 1 → I j r' → I (j + 1) (rxr_ r' (err_ r n s) n s k)) (h3 : ∀ j r, j < 600 → I j r → I (j + 1) r) (hI : I 0 r) :
    ∃ σ' a, D_ E 392 [.ref p, .int x] σ = some (anA_ (inr_ x 1 50) (.int (nI (rnd_ r n s x.toNatClampNeg).2)) a, σ') ∧ (inr_ x 1 50 → Mu_ E σ σ' p w hl sv ft ns ws (rnd_ r n s x.toNatClampNeg).1 n s 5400 ∧ ∃ j, j ≤ 600 ∧ I j (rnd_ r n s x.toNatClampNeg).1) ∧ (¬ inr_ x 1 50 → Fr_ 10 σ σ') := by
  have hp := h.1
  have hW := Sq_W h
  have h12 := wr_n12 hW
  have hM := Mc_of hp hH
  unfold anA_
  by_cases c : inr_ x 1 50
  · have e : bI (nI 1 ≤ x ∧ x ≤ nI 50) = nI 1 := bI_t (inrR.2 c)
    have hx : ∃ m, m ≤ 50 ∧ x = nI m := by
      unfold inr_ at c
      obtain ⟨m, hm, rfl⟩ := inN_nI (n := 51) (x := x) ⟨by omega, by omega⟩
      exact ⟨m, by omega, rfl⟩
    obtain ⟨m, hm, rfl⟩ := hx
    obtain ⟨σ1, m1, h0, w', am, em, as, es, st, mc, mc', ms', ss', ns', m0, m2, m3, m4, m5, m6, m7, m8, m9⟩ := S_remember h hH hn
    have m2' := m4.2.1 _ _ m2
    obtain ⟨σ2, q, N, n1, n2, n3, n4⟩ := Mu_net (E := E) hW (E7_mono m0 (E7_rsh hM h.2.2.2.2.2.2.1)) (E45_mono m0 (E45_rsh hM h.2.2.2.2.2.2.2.1)) m2 m4 m5 m6
    obtain ⟨σ3, g', j', u1, u2, u3, u4, u5, u6, u7, u8⟩ := N_relax (E := E) (I := I) (m := m) h1 h2 h3 hm hI n2 n3
    have nb := NX_7 n2
    have hgl := u5.1.choose_spec.2.1
    have hY3 : WY_ E h0 σ3 w' (rnd_ r n s m).1 am em as es st mc mc' ms' ss' := WY_up u6 hgl u5.1.choose_spec.2.2.1
    refine ⟨σ3, 0, ?_, fun _ => ?_, fun q => absurd c q⟩
    · rw [if_pos c, nI_clamp (by omega), D_run]
      simp (disch := omega) only [l392, b392_0, K392_0, R_cons, go_nx, go_jp, go_rt, go_th, go_ca, go_no, go_ite, rr_v, rr_n, rr_x, hx_n, hx_p, hx_b, I_push, I_pushl, I_fc0, I_fc1, I_dc0, I_null, I_mask, I_iload, I_lload, I_dload, I_fload, I_aload, I_istore, I_lstore, I_dstore, I_fstore, I_astore, I_iinc, I_iadd, I_isub, I_imul, I_iand, I_ior, I_ixor, I_ishl, I_ishr, I_iushr, I_ineg, I_ladd, I_lsub, I_lmul, I_lxor, I_i2l, I_l2i, I_i2b, I_i2c, I_i2f, I_i2d, I_lcmp, I_fdiv, I_ddiv, I_f2d, I_dcmp, I_dup, I_pop, I_dup_x1, I_dup2, I_icne, I_iceq, I_iclt, I_icge, I_icgt, I_icle, I_ifnull, I_ifnonnull, I_ane, I_aeq, I_goto, I_lsw, I_iret, I_lret, I_fret, I_dret, I_vret, I_nret, I_aret, I_iald, I_bald, I_lald, I_aald, I_iast, I_bast, I_last, I_aast, I_alen, I_new, I_val, I_cast, I_inst, I_obj, I_throw, I_mkx, I_getf, I_putf, I_call, I_calli, I_callv, I_clone, I_getc, i_ifeq, i_ifne, i_iflt, i_ifge, i_ifgt, i_ifle, i_idiv, i_irem, i_newa, i_newo, i_abs, i_max, i_min, i_ldiv, en_, es_i, es_r, es_0, es_n, es_l, List.length_cons, List.length_nil, List.cons_append, List.nil_append, Nat.reduceAdd, Nat.reduceSub, List.replicate, lg_, st1_, st2_, cn_, nl_, mk_, pk_, kd_, sl_, la_, ft_a, ft_i, ft_l, ft_o, ft_n, ft_b0, ft_b1, ft_bI, nr_0, nr_1, nr_bI, ro_, no_, if_true, if_false, ite_true, ite_false, reduceIte, Nat.reduceMod, Nat.reduceEqDiff, Nat.zero_add, Nat.add_zero, lk_, lit_, nI_add, nI_mul, ix_nI, fgk_0, fgk_1, fgk_2, fgk_3, fgk_4, fgk_5, fgk_6, fgk_7, fgk_8, fgk_9, fgk_10, fgk_11, fgk_12, fgk_13, fsk_0, fsk_1, fsk_2, fsk_3, fsk_4, fsk_5, fsk_6, fsk_7, fsk_8, fsk_9, fsk_10, fsk_11, fsk_12, fsk_13, ca_i, ca_r, ca_n, Nat.reduceLT, true_or, or_true, if_true, false_or, or_false, and_true, true_and, List.mem_singleton, eq_self, S_inRange, e, S_ca1, hp, m1, m2', n1, nb, u1]
    · rw [nI_clamp (by omega)]
      refine ⟨⟨h0, w', am, em, as, es, st, mc, mc', ms', ss', ns', m0, m2, m3, hY3, m5, m6, m7, m8, ?_⟩, j', u2, u4⟩
      unfold Sz_ at m9 n4 ⊢
      omega
  · have e : bI (nI 1 ≤ x ∧ x ≤ nI 50) = nI 0 := bI_f (fun q => c (inrR.1 q))
    refine ⟨thr_ σ 20, σ.1, ?_, fun q => absurd q c, fun _ => Fr_thr (Sq_hw h)⟩
    rw [if_neg c, D_run]
    simp (disch := omega) only [l392, b392_0, K392_0, R_cons, go_nx, go_jp, go_rt, go_th, go_ca, go_no, go_ite, rr_v, rr_n, rr_x, hx_n, hx_p, hx_b, I_push, I_pushl, I_fc0, I_fc1, I_dc0, I_null, I_mask, I_iload, I_lload, I_dload, I_fload, I_aload, I_istore, I_lstore, I_dstore, I_fstore, I_astore, I_iinc, I_iadd, I_isub, I_imul, I_iand, I_ior, I_ixor, I_ishl, I_ishr, I_iushr, I_ineg, I_ladd, I_lsub, I_lmul, I_lxor, I_i2l, I_l2i, I_i2b, I_i2c, I_i2f, I_i2d, I_lcmp, I_fdiv, I_ddiv, I_f2d, I_dcmp, I_dup, I_pop, I_dup_x1, I_dup2, I_icne, I_iceq, I_iclt, I_icge, I_icgt, I_icle, I_ifnull, I_ifnonnull, I_ane, I_aeq, I_goto, I_lsw, I_iret, I_lret, I_fret, I_dret, I_vret, I_nret, I_aret, I_iald, I_bald, I_lald, I_aald, I_iast, I_bast, I_last, I_aast, I_alen, I_new, I_val, I_cast, I_inst, I_obj, I_throw, I_mkx, I_getf, I_putf, I_call, I_calli, I_callv, I_clone, I_getc, i_ifeq, i_ifne, i_iflt, i_ifge, i_ifgt, i_ifle, i_idiv, i_irem, i_newa, i_newo, i_abs, i_max, i_min, i_ldiv, en_, es_i, es_r, es_0, es_n, es_l, List.length_cons, List.length_nil, List.cons_append, List.nil_append, Nat.reduceAdd, Nat.reduceSub, List.replicate, lg_, st1_, st2_, cn_, nl_, mk_, pk_, kd_, sl_, la_, ft_a, ft_i, ft_l, ft_o, ft_n, ft_b0, ft_b1, ft_bI, nr_0, nr_1, nr_bI, ro_, no_, if_true, if_false, ite_true, ite_false, reduceIte, Nat.reduceMod, Nat.reduceEqDiff, Nat.zero_add, Nat.add_zero, lk_, lit_, nI_add, nI_mul, ix_nI, fgk_0, fgk_1, fgk_2, fgk_3, fgk_4, fgk_5, fgk_6, fgk_7, fgk_8, fgk_9, fgk_10, fgk_11, fgk_12, fgk_13, fsk_0, fsk_1, fsk_2, fsk_3, fsk_4, fsk_5, fsk_6, fsk_7, fsk_8, fsk_9, fsk_10, fsk_11, fsk_12, fsk_13, ca_i, ca_r, ca_n, Nat.reduceLT, true_or, or_true, if_true, false_or, or_false, and_true, true_and, List.mem_singleton, eq_self, S_inRange, e, S_ca0]
end MUV
