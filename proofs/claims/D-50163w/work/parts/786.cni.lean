section CNI
variable {E : En_} {σ : As_} {w n s b bb q : Nat} {r : Nat → Int32} {ms ss : List Nat} {h0 : Nat → Option Ac_} {lc : Ac_} {N : Nat → Nat → Int32}
/-- writing an array of numbers leaves a list as it is -/
theorem IL_arr {a x ty m : Nat} {l : List Int32} {f : Nat → Int32} {c : Ac_} (h : IL_ E h0 σ a l) (hb : σ.2.2 x = some (tI_ ty m f)) (h0b : h0 x = none) : IL_ E h0 (σ.1, σ.2.1, up_ σ.2.2 x c) a l := by
  obtain ⟨mc, e, xs, ⟨cap, f, tt, a1, a2, a3, a4, a5, a6, a7, a8⟩, y2, y3, y4, y5, y6, y7⟩ := h
  have hab : a ≠ x := fun q => by rw [q, hb] at a1; cases a1
  have heb : e ≠ x := fun q => by rw [q, hb] at a2; cases a2
  refine ⟨mc, e, xs, ⟨cap, f, tt, ?_, ?_, a3, a4, a5, a6, fun y hy => ?_, a8⟩, y2, fun j y hj => ?_, y4, y5, le_up h0b y6, Hw_put y7 hb⟩
  · dsimp only
    rw [up_n hab]
    exact a1
  · dsimp only
    rw [up_n heb]
    exact a2
  · obtain ⟨c, fs, o1, o2⟩ := a7 y hy
    refine ⟨c, fs, ?_, o2⟩
    dsimp only
    rw [up_n (fun q => by rw [q, hb] at o1; cases o1)]
    exact o1
  · obtain ⟨v, v1, c, v2, v3⟩ := y3 j y hj
    refine ⟨v, v1, c, ?_, v3⟩
    dsimp only
    rw [up_n (fun q => by rw [q, hb] at v2; cases v2)]
    exact v2
theorem p5_lp {a : Nat} {l : List Int32} : ∀ (d k : Nat) (N : Nat → Nat → Int32) (σ : As_), k + d = 12 → NV_ h0 σ b bb q w lc N → IL_ E h0 σ a l → (∀ j, j < k → N 4 j = nI j) →
    ∃ σ' f, R_ E 291 (B_ E 291 5) [some (.ref b), some (.ref a), some (.int (nI k)), none, none, none, none] [] σ = R_ E 291 (B_ E 291 6) [some (.ref b), some (.ref a), some (.int (nI 12)), none, none, none, none] [] σ' ∧ NV_ h0 σ' b bb q w lc (um N 4 f) ∧ IL_ E h0 σ' a l ∧ (∀ j, j < 12 → f j = nI j) ∧ σ'.1 = σ.1 ∧ σ'.2.1 = σ.2.1 := by
  intro d
  induction d with
  | zero =>
    intro k N σ hk h hL hf
    obtain rfl : k = 12 := by omega
    obtain ⟨⟨c0, c1, c2, c3, c4, c5, c6, _⟩, _⟩ := id h
    refine ⟨σ, N 4, ?_, by rw [um_id]; exact h, hL, hf, rfl, rfl⟩
    conv => lhs; rw [b291_5]
    simp (disch := omega) only [K291_5, R_cons, go_nx, go_jp, go_rt, go_th, go_ca, go_no, go_ite, rr_v, rr_n, rr_x, hx_n, hx_p, hx_b, I_push, I_pushl, I_fc0, I_fc1, I_dc0, I_null, I_mask, I_iload, I_lload, I_dload, I_fload, I_aload, I_istore, I_lstore, I_dstore, I_fstore, I_astore, I_iinc, I_iadd, I_isub, I_imul, I_iand, I_ior, I_ixor, I_ishl, I_ishr, I_iushr, I_ineg, I_ladd, I_lsub, I_lmul, I_lxor, I_i2l, I_l2i, I_i2b, I_i2c, I_i2f, I_i2d, I_lcmp, I_fdiv, I_ddiv, I_f2d, I_dcmp, I_dup, I_pop, I_dup_x1, I_dup2, I_icne, I_iceq, I_iclt, I_icge, I_icgt, I_icle, I_ifnull, I_ifnonnull, I_ane, I_aeq, I_goto, I_lsw, I_iret, I_lret, I_fret, I_dret, I_vret, I_nret, I_aret, I_iald, I_bald, I_lald, I_aald, I_iast, I_bast, I_last, I_aast, I_alen, I_new, I_val, I_cast, I_inst, I_obj, I_throw, I_mkx, I_getf, I_putf, I_call, I_calli, I_callv, I_clone, I_getc, i_ifeq, i_ifne, i_iflt, i_ifge, i_ifgt, i_ifle, i_idiv, i_irem, i_newa, i_newo, i_abs, i_max, i_min, i_ldiv, en_, es_i, es_r, es_0, es_n, es_l, List.length_cons, List.length_nil, List.cons_append, List.nil_append, Nat.reduceAdd, Nat.reduceSub, List.replicate, lg_, st1_, st2_, cn_, nl_, mk_, pk_, kd_, sl_, la_, ft_a, ft_i, ft_l, ft_o, ft_n, ft_b0, ft_b1, ft_bI, nr_0, nr_1, nr_bI, ro_, no_, if_true, if_false, ite_true, ite_false, reduceIte, Nat.reduceMod, Nat.reduceEqDiff, Nat.zero_add, Nat.add_zero, lk_, lit_, nI_add, nI_mul, ix_nI, fgk_0, fgk_1, fgk_2, fgk_3, fgk_4, fgk_5, fgk_6, fgk_7, fgk_8, fgk_9, fgk_10, fgk_11, fgk_12, fgk_13, fsk_0, fsk_1, fsk_2, fsk_3, fsk_4, fsk_5, fsk_6, fsk_7, fsk_8, fsk_9, fsk_10, fsk_11, fsk_12, fsk_13, ca_i, ca_r, ca_n, Nat.reduceLT, true_or, or_true, if_true, false_or, or_false, and_true, true_and, List.mem_singleton, eq_self, c0, c5, nf_4, nI_leI, Nat.le_refl]
  | succ d ih =>
    intro k N σ hk h hL hf
    have hlt : ¬ 12 ≤ k := by omega
    obtain ⟨⟨c0, c1, c2, c3, c4, c5, c6, _⟩, _⟩ := id h
    have h2 := NV_4 (f := upd (N 4) k (nI k)) h
    have hL2 := IL_arr (c := tI_ 0 12 (upd (N 4) k (nI k))) hL c5 (h.2.2.2.1 _ (by omega))
    obtain ⟨σ', f, g1, g2, g3, g4, g5, g6⟩ := ih (k + 1) _ _ (by omega) h2 hL2 (fun j hj => by
      show upd (N 4) k (nI k) j = nI j
      by_cases e : j = k
      · rw [e, upd_s]
      · rw [upd_n e]; exact hf j (by omega))
    rw [um_um] at g2
    refine ⟨σ', f, ?_, g2, g3, g4, g5, g6⟩
    rw [← g1]
    conv => lhs; rw [b291_5]
    simp (disch := omega) only [K291_5, R_cons, go_nx, go_jp, go_rt, go_th, go_ca, go_no, go_ite, rr_v, rr_n, rr_x, hx_n, hx_p, hx_b, I_push, I_pushl, I_fc0, I_fc1, I_dc0, I_null, I_mask, I_iload, I_lload, I_dload, I_fload, I_aload, I_istore, I_lstore, I_dstore, I_fstore, I_astore, I_iinc, I_iadd, I_isub, I_imul, I_iand, I_ior, I_ixor, I_ishl, I_ishr, I_iushr, I_ineg, I_ladd, I_lsub, I_lmul, I_lxor, I_i2l, I_l2i, I_i2b, I_i2c, I_i2f, I_i2d, I_lcmp, I_fdiv, I_ddiv, I_f2d, I_dcmp, I_dup, I_pop, I_dup_x1, I_dup2, I_icne, I_iceq, I_iclt, I_icge, I_icgt, I_icle, I_ifnull, I_ifnonnull, I_ane, I_aeq, I_goto, I_lsw, I_iret, I_lret, I_fret, I_dret, I_vret, I_nret, I_aret, I_iald, I_bald, I_lald, I_aald, I_iast, I_bast, I_last, I_aast, I_alen, I_new, I_val, I_cast, I_inst, I_obj, I_throw, I_mkx, I_getf, I_putf, I_call, I_calli, I_callv, I_clone, I_getc, i_ifeq, i_ifne, i_iflt, i_ifge, i_ifgt, i_ifle, i_idiv, i_irem, i_newa, i_newo, i_abs, i_max, i_min, i_ldiv, en_, es_i, es_r, es_0, es_n, es_l, List.length_cons, List.length_nil, List.cons_append, List.nil_append, Nat.reduceAdd, Nat.reduceSub, List.replicate, lg_, st1_, st2_, cn_, nl_, mk_, pk_, kd_, sl_, la_, ft_a, ft_i, ft_l, ft_o, ft_n, ft_b0, ft_b1, ft_bI, nr_0, nr_1, nr_bI, ro_, no_, if_true, if_false, ite_true, ite_false, reduceIte, Nat.reduceMod, Nat.reduceEqDiff, Nat.zero_add, Nat.add_zero, lk_, lit_, nI_add, nI_mul, ix_nI, fgk_0, fgk_1, fgk_2, fgk_3, fgk_4, fgk_5, fgk_6, fgk_7, fgk_8, fgk_9, fgk_10, fgk_11, fgk_12, fgk_13, fsk_0, fsk_1, fsk_2, fsk_3, fsk_4, fsk_5, fsk_6, fsk_7, fsk_8, fsk_9, fsk_10, fsk_11, fsk_12, fsk_13, ca_i, ca_r, ca_n, Nat.reduceLT, true_or, or_true, if_true, false_or, or_false, and_true, true_and, List.mem_singleton, eq_self, c0, c5, nf_4, nI_leI, hlt, ix_nI, nI_1]
/-- two parts become one -/
theorem j9_lp {a u v k : Nat} {l : List Int32} {pt : Nat → Nat} (hpt : ∀ j, j < 12 → pt j < 12) (hu : u < 12) (hv : v < 12) : ∀ (d j : Nat) (N : Nat → Nat → Int32) (σ : As_) (u3 : Option Value), j + d = 12 → NV_ h0 σ b bb q w lc N → IL_ E h0 σ a l → (∀ i, i < j → N 4 i = nI (joi_ pt u v i)) → (∀ i, j ≤ i → i < 12 → N 4 i = nI (pt i)) →
    ∃ σ' f, R_ E 291 (B_ E 291 9) [some (.ref b), some (.ref a), some (.int (nI k)), u3, some (.int (nI (pt u))), some (.int (nI (pt v))), some (.int (nI j))] [] σ = R_ E 291 (B_ E 291 12) [some (.ref b), some (.ref a), some (.int (nI k)), none, some (.int (nI (pt u))), some (.int (nI (pt v))), some (.int (nI 12))] [] σ' ∧ NV_ h0 σ' b bb q w lc (um N 4 f) ∧ IL_ E h0 σ' a l ∧ (∀ j, j < 12 → f j = nI (joi_ pt u v j)) ∧ σ'.1 = σ.1 ∧ σ'.2.1 = σ.2.1 := by
  have hmn : mn_ (nI (pt u)) (nI (pt v)) = nI (min (pt u) (pt v)) := by
    have := hpt u hu
    have := hpt v hv
    unfold mn_
    by_cases c : pt v < pt u
    · rw [if_pos (by rw [nIltI (by omega) (by omega)]; exact c), Nat.min_eq_right (by omega)]
    · rw [if_neg (by rw [nIltI (by omega) (by omega)]; exact c), Nat.min_eq_left (by omega)]
  intro d
  induction d with
  | zero =>
    intro j N σ u3 hk h hL hf hg
    obtain rfl : j = 12 := by omega
    obtain ⟨⟨c0, c1, c2, c3, c4, c5, c6, _⟩, _⟩ := id h
    refine ⟨σ, N 4, ?_, by rw [um_id]; exact h, hL, hf, rfl, rfl⟩
    conv => lhs; rw [b291_9]
    simp (disch := omega) only [K291_9, R_cons, go_nx, go_jp, go_rt, go_th, go_ca, go_no, go_ite, rr_v, rr_n, rr_x, hx_n, hx_p, hx_b, I_push, I_pushl, I_fc0, I_fc1, I_dc0, I_null, I_mask, I_iload, I_lload, I_dload, I_fload, I_aload, I_istore, I_lstore, I_dstore, I_fstore, I_astore, I_iinc, I_iadd, I_isub, I_imul, I_iand, I_ior, I_ixor, I_ishl, I_ishr, I_iushr, I_ineg, I_ladd, I_lsub, I_lmul, I_lxor, I_i2l, I_l2i, I_i2b, I_i2c, I_i2f, I_i2d, I_lcmp, I_fdiv, I_ddiv, I_f2d, I_dcmp, I_dup, I_pop, I_dup_x1, I_dup2, I_icne, I_iceq, I_iclt, I_icge, I_icgt, I_icle, I_ifnull, I_ifnonnull, I_ane, I_aeq, I_goto, I_lsw, I_iret, I_lret, I_fret, I_dret, I_vret, I_nret, I_aret, I_iald, I_bald, I_lald, I_aald, I_iast, I_bast, I_last, I_aast, I_alen, I_new, I_val, I_cast, I_inst, I_obj, I_throw, I_mkx, I_getf, I_putf, I_call, I_calli, I_callv, I_clone, I_getc, i_ifeq, i_ifne, i_iflt, i_ifge, i_ifgt, i_ifle, i_idiv, i_irem, i_newa, i_newo, i_abs, i_max, i_min, i_ldiv, en_, es_i, es_r, es_0, es_n, es_l, List.length_cons, List.length_nil, List.cons_append, List.nil_append, Nat.reduceAdd, Nat.reduceSub, List.replicate, lg_, st1_, st2_, cn_, nl_, mk_, pk_, kd_, sl_, la_, ft_a, ft_i, ft_l, ft_o, ft_n, ft_b0, ft_b1, ft_bI, nr_0, nr_1, nr_bI, ro_, no_, if_true, if_false, ite_true, ite_false, reduceIte, Nat.reduceMod, Nat.reduceEqDiff, Nat.zero_add, Nat.add_zero, lk_, lit_, nI_add, nI_mul, ix_nI, fgk_0, fgk_1, fgk_2, fgk_3, fgk_4, fgk_5, fgk_6, fgk_7, fgk_8, fgk_9, fgk_10, fgk_11, fgk_12, fgk_13, fsk_0, fsk_1, fsk_2, fsk_3, fsk_4, fsk_5, fsk_6, fsk_7, fsk_8, fsk_9, fsk_10, fsk_11, fsk_12, fsk_13, ca_i, ca_r, ca_n, Nat.reduceLT, true_or, or_true, if_true, false_or, or_false, and_true, true_and, List.mem_singleton, eq_self, c0, c5, nf_4, nI_leI, Nat.le_refl]
  | succ d ih =>
    intro j N σ u3 hk h hL hf hg
    have hlt : ¬ 12 ≤ j := by omega
    have hpj := hpt j (by omega)
    have hpu := hpt u hu
    have hpv := hpt v hv
    have hj := hg j (Nat.le_refl _) (by omega)
    obtain ⟨⟨c0, c1, c2, c3, c4, c5, c6, _⟩, _⟩ := id h
    have hstep : ∀ (x : Int32), x = nI (joi_ pt u v j) → ∃ σ' f, R_ E 291 (B_ E 291 9) [some (.ref b), some (.ref a), some (.int (nI k)), none, some (.int (nI (pt u))), some (.int (nI (pt v))), some (.int (nI (j + 1)))] [] (σ.1, σ.2.1, up_ σ.2.2 (bb + 5) (tI_ 0 12 (upd (N 4) j x))) = R_ E 291 (B_ E 291 12) [some (.ref b), some (.ref a), some (.int (nI k)), none, some (.int (nI (pt u))), some (.int (nI (pt v))), some (.int (nI 12))] [] σ' ∧ NV_ h0 σ' b bb q w lc (um N 4 f) ∧ IL_ E h0 σ' a l ∧ (∀ j, j < 12 → f j = nI (joi_ pt u v j)) ∧ σ'.1 = σ.1 ∧ σ'.2.1 = σ.2.1 := by
      intro x hx
      have h2 := NV_4 (f := upd (N 4) j x) h
      have hL2 := IL_arr (c := tI_ 0 12 (upd (N 4) j x)) hL c5 (h.2.2.2.1 _ (by omega))
      obtain ⟨σ', f, g1, g2, g3, g4, g5, g6⟩ := ih (j + 1) _ _ none (by omega) h2 hL2 (fun i hi => by
        show upd (N 4) j x i = _
        by_cases e : i = j
        · rw [e, upd_s]; exact hx
        · rw [upd_n e]; exact hf i (by omega)) (fun i hi hi2 => by
        show upd (N 4) j x i = _
        rw [upd_n (by omega)]; exact hg i (by omega) hi2)
      rw [um_um] at g2
      exact ⟨σ', f, g1, g2, g3, g4, g5, g6⟩
    by_cases c1 : pt j = pt u
    · obtain ⟨σ', f, g1, g2⟩ := hstep (nI (min (pt u) (pt v))) (by
        unfold joi_
        rw [c1]
        by_cases q : pt u = max (pt u) (pt v)
        · rw [if_pos q]
        · rw [if_neg q]; congr 1; omega)
      refine ⟨σ', f, ?_, g2⟩
      rw [← g1]
      conv => lhs; rw [b291_9]
      simp (disch := omega) only [K291_9, b291_10, K291_10, b291_11, K291_11, R_cons, go_nx, go_jp, go_rt, go_th, go_ca, go_no, go_ite, rr_v, rr_n, rr_x, hx_n, hx_p, hx_b, I_push, I_pushl, I_fc0, I_fc1, I_dc0, I_null, I_mask, I_iload, I_lload, I_dload, I_fload, I_aload, I_istore, I_lstore, I_dstore, I_fstore, I_astore, I_iinc, I_iadd, I_isub, I_imul, I_iand, I_ior, I_ixor, I_ishl, I_ishr, I_iushr, I_ineg, I_ladd, I_lsub, I_lmul, I_lxor, I_i2l, I_l2i, I_i2b, I_i2c, I_i2f, I_i2d, I_lcmp, I_fdiv, I_ddiv, I_f2d, I_dcmp, I_dup, I_pop, I_dup_x1, I_dup2, I_icne, I_iceq, I_iclt, I_icge, I_icgt, I_icle, I_ifnull, I_ifnonnull, I_ane, I_aeq, I_goto, I_lsw, I_iret, I_lret, I_fret, I_dret, I_vret, I_nret, I_aret, I_iald, I_bald, I_lald, I_aald, I_iast, I_bast, I_last, I_aast, I_alen, I_new, I_val, I_cast, I_inst, I_obj, I_throw, I_mkx, I_getf, I_putf, I_call, I_calli, I_callv, I_clone, I_getc, i_ifeq, i_ifne, i_iflt, i_ifge, i_ifgt, i_ifle, i_idiv, i_irem, i_newa, i_newo, i_abs, i_max, i_min, i_ldiv, en_, es_i, es_r, es_0, es_n, es_l, List.length_cons, List.length_nil, List.cons_append, List.nil_append, Nat.reduceAdd, Nat.reduceSub, List.replicate, lg_, st1_, st2_, cn_, nl_, mk_, pk_, kd_, sl_, la_, ft_a, ft_i, ft_l, ft_o, ft_n, ft_b0, ft_b1, ft_bI, nr_0, nr_1, nr_bI, ro_, no_, if_true, if_false, ite_true, ite_false, reduceIte, Nat.reduceMod, Nat.reduceEqDiff, Nat.zero_add, Nat.add_zero, lk_, lit_, nI_add, nI_mul, ix_nI, fgk_0, fgk_1, fgk_2, fgk_3, fgk_4, fgk_5, fgk_6, fgk_7, fgk_8, fgk_9, fgk_10, fgk_11, fgk_12, fgk_13, fsk_0, fsk_1, fsk_2, fsk_3, fsk_4, fsk_5, fsk_6, fsk_7, fsk_8, fsk_9, fsk_10, fsk_11, fsk_12, fsk_13, ca_i, ca_r, ca_n, Nat.reduceLT, true_or, or_true, if_true, false_or, or_false, and_true, true_and, List.mem_singleton, eq_self, c0, c5, nf_4, nI_leI, hlt, ix_nI, hj, c1, nI_1, hmn]
    · have c1' : ¬ nI (pt j) = nI (pt u) := by rw [nI_eq (by omega) (by omega)]; exact c1
      by_cases c2 : pt j = pt v
      · obtain ⟨σ', f, g1, g2⟩ := hstep (nI (min (pt u) (pt v))) (by
          unfold joi_
          rw [c2]
          by_cases q : pt v = max (pt u) (pt v)
          · rw [if_pos q]
          · rw [if_neg q]; congr 1; omega)
        refine ⟨σ', f, ?_, g2⟩
        rw [← g1]
        conv => lhs; rw [b291_9]
        have c3 : ¬ nI (pt v) = nI (pt u) := by rw [← c2]; exact c1'
        simp (disch := omega) only [K291_9, b291_10, K291_10, b291_11, K291_11, R_cons, go_nx, go_jp, go_rt, go_th, go_ca, go_no, go_ite, rr_v, rr_n, rr_x, hx_n, hx_p, hx_b, I_push, I_pushl, I_fc0, I_fc1, I_dc0, I_null, I_mask, I_iload, I_lload, I_dload, I_fload, I_aload, I_istore, I_lstore, I_dstore, I_fstore, I_astore, I_iinc, I_iadd, I_isub, I_imul, I_iand, I_ior, I_ixor, I_ishl, I_ishr, I_iushr, I_ineg, I_ladd, I_lsub, I_lmul, I_lxor, I_i2l, I_l2i, I_i2b, I_i2c, I_i2f, I_i2d, I_lcmp, I_fdiv, I_ddiv, I_f2d, I_dcmp, I_dup, I_pop, I_dup_x1, I_dup2, I_icne, I_iceq, I_iclt, I_icge, I_icgt, I_icle, I_ifnull, I_ifnonnull, I_ane, I_aeq, I_goto, I_lsw, I_iret, I_lret, I_fret, I_dret, I_vret, I_nret, I_aret, I_iald, I_bald, I_lald, I_aald, I_iast, I_bast, I_last, I_aast, I_alen, I_new, I_val, I_cast, I_inst, I_obj, I_throw, I_mkx, I_getf, I_putf, I_call, I_calli, I_callv, I_clone, I_getc, i_ifeq, i_ifne, i_iflt, i_ifge, i_ifgt, i_ifle, i_idiv, i_irem, i_newa, i_newo, i_abs, i_max, i_min, i_ldiv, en_, es_i, es_r, es_0, es_n, es_l, List.length_cons, List.length_nil, List.cons_append, List.nil_append, Nat.reduceAdd, Nat.reduceSub, List.replicate, lg_, st1_, st2_, cn_, nl_, mk_, pk_, kd_, sl_, la_, ft_a, ft_i, ft_l, ft_o, ft_n, ft_b0, ft_b1, ft_bI, nr_0, nr_1, nr_bI, ro_, no_, if_true, if_false, ite_true, ite_false, reduceIte, Nat.reduceMod, Nat.reduceEqDiff, Nat.zero_add, Nat.add_zero, lk_, lit_, nI_add, nI_mul, ix_nI, fgk_0, fgk_1, fgk_2, fgk_3, fgk_4, fgk_5, fgk_6, fgk_7, fgk_8, fgk_9, fgk_10, fgk_11, fgk_12, fgk_13, fsk_0, fsk_1, fsk_2, fsk_3, fsk_4, fsk_5, fsk_6, fsk_7, fsk_8, fsk_9, fsk_10, fsk_11, fsk_12, fsk_13, ca_i, ca_r, ca_n, Nat.reduceLT, true_or, or_true, if_true, false_or, or_false, and_true, true_and, List.mem_singleton, eq_self, c0, c5, nf_4, nI_leI, hlt, ix_nI, hj, c2, c3, nI_1, hmn]
      · have c2' : ¬ nI (pt j) = nI (pt v) := by rw [nI_eq (by omega) (by omega)]; exact c2
        obtain ⟨σ', f, g1, g2, g3, g4, g5, g6⟩ := ih (j + 1) N σ none (by omega) h hL (fun i hi => by
          by_cases e : i = j
          · rw [e, hj]
            unfold joi_
            by_cases q : pt j = max (pt u) (pt v)
            · rw [if_pos q]; congr 1; omega
            · rw [if_neg q]
          · exact hf i (by omega)) (fun i hi hi2 => hg i (by omega) hi2)
        refine ⟨σ', f, ?_, g2, g3, g4, g5, g6⟩
        rw [← g1]
        conv => lhs; rw [b291_9]
        simp (disch := omega) only [K291_9, b291_11, K291_11, R_cons, go_nx, go_jp, go_rt, go_th, go_ca, go_no, go_ite, rr_v, rr_n, rr_x, hx_n, hx_p, hx_b, I_push, I_pushl, I_fc0, I_fc1, I_dc0, I_null, I_mask, I_iload, I_lload, I_dload, I_fload, I_aload, I_istore, I_lstore, I_dstore, I_fstore, I_astore, I_iinc, I_iadd, I_isub, I_imul, I_iand, I_ior, I_ixor, I_ishl, I_ishr, I_iushr, I_ineg, I_ladd, I_lsub, I_lmul, I_lxor, I_i2l, I_l2i, I_i2b, I_i2c, I_i2f, I_i2d, I_lcmp, I_fdiv, I_ddiv, I_f2d, I_dcmp, I_dup, I_pop, I_dup_x1, I_dup2, I_icne, I_iceq, I_iclt, I_icge, I_icgt, I_icle, I_ifnull, I_ifnonnull, I_ane, I_aeq, I_goto, I_lsw, I_iret, I_lret, I_fret, I_dret, I_vret, I_nret, I_aret, I_iald, I_bald, I_lald, I_aald, I_iast, I_bast, I_last, I_aast, I_alen, I_new, I_val, I_cast, I_inst, I_obj, I_throw, I_mkx, I_getf, I_putf, I_call, I_calli, I_callv, I_clone, I_getc, i_ifeq, i_ifne, i_iflt, i_ifge, i_ifgt, i_ifle, i_idiv, i_irem, i_newa, i_newo, i_abs, i_max, i_min, i_ldiv, en_, es_i, es_r, es_0, es_n, es_l, List.length_cons, List.length_nil, List.cons_append, List.nil_append, Nat.reduceAdd, Nat.reduceSub, List.replicate, lg_, st1_, st2_, cn_, nl_, mk_, pk_, kd_, sl_, la_, ft_a, ft_i, ft_l, ft_o, ft_n, ft_b0, ft_b1, ft_bI, nr_0, nr_1, nr_bI, ro_, no_, if_true, if_false, ite_true, ite_false, reduceIte, Nat.reduceMod, Nat.reduceEqDiff, Nat.zero_add, Nat.add_zero, lk_, lit_, nI_add, nI_mul, ix_nI, fgk_0, fgk_1, fgk_2, fgk_3, fgk_4, fgk_5, fgk_6, fgk_7, fgk_8, fgk_9, fgk_10, fgk_11, fgk_12, fgk_13, fsk_0, fsk_1, fsk_2, fsk_3, fsk_4, fsk_5, fsk_6, fsk_7, fsk_8, fsk_9, fsk_10, fsk_11, fsk_12, fsk_13, ca_i, ca_r, ca_n, Nat.reduceLT, true_or, or_true, if_true, false_or, or_false, and_true, true_and, List.mem_singleton, eq_self, c0, c5, nf_4, nI_leI, hlt, ix_nI, hj, c1', c2', nI_1]
theorem k7_lp {a : Nat} {L : List Nat} (hL : ∀ p ∈ L, p / 12 < 12) (hlen : L.length < 400) : ∀ (d k : Nat) (pt : Nat → Nat) (tk : Nat → Bool) (N : Nat → Nat → Int32) (σ : As_) (u3 u4 u5 u6 : Option Value), k + d = L.length → NV_ h0 σ b bb q w lc N → IL_ E h0 σ a (L.map nI) → (∀ j, j < 12 → N 4 j = nI (pt j)) → (∀ j, j < 12 → pt j < 12) → (∀ p, p < 144 → N 5 p = bI (tk p = true)) →
    ∃ σ' f g, R_ E 291 (B_ E 291 7) [some (.ref b), some (.ref a), some (.int (nI k)), u3, u4, u5, u6] [] σ = some (.inl none, σ') ∧ NV_ h0 σ' b bb q w lc (um (um N 4 f) 5 g) ∧ (∀ j, j < 12 → f j = nI ((ksf_ (L.drop k) (pt, tk)).1 j)) ∧ (∀ p, p < 144 → g p = bI ((ksf_ (L.drop k) (pt, tk)).2 p = true)) ∧ σ'.1 = σ.1 ∧ σ'.2.1 = σ.2.1 := by
  intro d
  induction d with
  | zero =>
    intro k pt tk N σ u3 u4 u5 u6 hk h hI h4 hpt h5
    obtain rfl : k = L.length := by omega
    have hsz := IL_size (E := E) hI
    obtain ⟨fs, hc⟩ := IL_cell hI
    rw [List.drop_length]
    refine ⟨σ, N 4, N 5, ?_, by rw [um_id, show N 5 = N 5 from rfl, um_id]; exact h, h4, h5, rfl, rfl⟩
    conv => lhs; rw [b291_7]
    simp (disch := omega) only [K291_7, b291_13, K291_13, R_cons, go_nx, go_jp, go_rt, go_th, go_ca, go_no, go_ite, rr_v, rr_n, rr_x, hx_n, hx_p, hx_b, I_push, I_pushl, I_fc0, I_fc1, I_dc0, I_null, I_mask, I_iload, I_lload, I_dload, I_fload, I_aload, I_istore, I_lstore, I_dstore, I_fstore, I_astore, I_iinc, I_iadd, I_isub, I_imul, I_iand, I_ior, I_ixor, I_ishl, I_ishr, I_iushr, I_ineg, I_ladd, I_lsub, I_lmul, I_lxor, I_i2l, I_l2i, I_i2b, I_i2c, I_i2f, I_i2d, I_lcmp, I_fdiv, I_ddiv, I_f2d, I_dcmp, I_dup, I_pop, I_dup_x1, I_dup2, I_icne, I_iceq, I_iclt, I_icge, I_icgt, I_icle, I_ifnull, I_ifnonnull, I_ane, I_aeq, I_goto, I_lsw, I_iret, I_lret, I_fret, I_dret, I_vret, I_nret, I_aret, I_iald, I_bald, I_lald, I_aald, I_iast, I_bast, I_last, I_aast, I_alen, I_new, I_val, I_cast, I_inst, I_obj, I_throw, I_mkx, I_getf, I_putf, I_call, I_calli, I_callv, I_clone, I_getc, i_ifeq, i_ifne, i_iflt, i_ifge, i_ifgt, i_ifle, i_idiv, i_irem, i_newa, i_newo, i_abs, i_max, i_min, i_ldiv, en_, es_i, es_r, es_0, es_n, es_l, List.length_cons, List.length_nil, List.cons_append, List.nil_append, Nat.reduceAdd, Nat.reduceSub, List.replicate, lg_, st1_, st2_, cn_, nl_, mk_, pk_, kd_, sl_, la_, ft_a, ft_i, ft_l, ft_o, ft_n, ft_b0, ft_b1, ft_bI, nr_0, nr_1, nr_bI, ro_, no_, if_true, if_false, ite_true, ite_false, reduceIte, Nat.reduceMod, Nat.reduceEqDiff, Nat.zero_add, Nat.add_zero, lk_, lit_, nI_add, nI_mul, ix_nI, fgk_0, fgk_1, fgk_2, fgk_3, fgk_4, fgk_5, fgk_6, fgk_7, fgk_8, fgk_9, fgk_10, fgk_11, fgk_12, fgk_13, fsk_0, fsk_1, fsk_2, fsk_3, fsk_4, fsk_5, fsk_6, fsk_7, fsk_8, fsk_9, fsk_10, fsk_11, fsk_12, fsk_13, ca_i, ca_r, ca_n, Nat.reduceLT, true_or, or_true, if_true, false_or, or_false, and_true, true_and, List.mem_singleton, eq_self, hc, hsz, List.length_map, nI_leI, Nat.le_refl]
  | succ d ih =>
    intro k pt tk N σ u3 u4 u5 u6 hk h hI h4 hpt h5
    have hkl : k < L.length := by omega
    have hlt : ¬ L.length ≤ k := by omega
    have hsz := IL_size (E := E) hI
    obtain ⟨fs, hc⟩ := IL_cell hI
    obtain ⟨y, y1, cy, y2, y3⟩ := IL_get hI (show k < (L.map nI).length by rw [List.length_map]; exact hkl)
    rw [List.getElem_map] at y2
    have hv := J_intValue (E := E) (σ := σ) ⟨cy, y2, y3⟩
    have hp12 := hL _ (List.getElem_mem hkl)
    obtain ⟨p, hp⟩ : ∃ p, p = L[k] := ⟨_, rfl⟩
    rw [← hp] at hv y2 hp12
    have hp144 : p < 144 := by omega
    obtain ⟨⟨c0, c1, c2, c3, c4, c5, c6, _⟩, _⟩ := id h
    have eu := h4 (p / 12) hp12
    have ev := h4 (p % 12) (by omega)
    have hpu := hpt (p / 12) hp12
    have hpv := hpt (p % 12) (by omega)
    have ed : ksf_ (L.drop k) (pt, tk) = ksf_ (L.drop (k + 1)) (ks1_ p (pt, tk)) := by
      rw [List.drop_eq_getElem_cons hkl, ← hp]
      rfl
    rw [ed]
    by_cases c : pt (p / 12) = pt (p % 12)
    · have e : ks1_ p (pt, tk) = (pt, tk) := if_pos c
      rw [e]
      obtain ⟨σ', f, g, g1, g2⟩ := ih (k + 1) pt tk N σ none none none none (by omega) h hI h4 hpt h5
      refine ⟨σ', f, g, ?_, g2⟩
      rw [← g1]
      conv => lhs; rw [b291_7]
      simp (disch := first | assumption | omega | decide) only [K291_7, b291_12, K291_12, R_cons, go_nx, go_jp, go_rt, go_th, go_ca, go_no, go_ite, rr_v, rr_n, rr_x, hx_n, hx_p, hx_b, I_push, I_pushl, I_fc0, I_fc1, I_dc0, I_null, I_mask, I_iload, I_lload, I_dload, I_fload, I_aload, I_istore, I_lstore, I_dstore, I_fstore, I_astore, I_iinc, I_iadd, I_isub, I_imul, I_iand, I_ior, I_ixor, I_ishl, I_ishr, I_iushr, I_ineg, I_ladd, I_lsub, I_lmul, I_lxor, I_i2l, I_l2i, I_i2b, I_i2c, I_i2f, I_i2d, I_lcmp, I_fdiv, I_ddiv, I_f2d, I_dcmp, I_dup, I_pop, I_dup_x1, I_dup2, I_icne, I_iceq, I_iclt, I_icge, I_icgt, I_icle, I_ifnull, I_ifnonnull, I_ane, I_aeq, I_goto, I_lsw, I_iret, I_lret, I_fret, I_dret, I_vret, I_nret, I_aret, I_iald, I_bald, I_lald, I_aald, I_iast, I_bast, I_last, I_aast, I_alen, I_new, I_val, I_cast, I_inst, I_obj, I_throw, I_mkx, I_getf, I_putf, I_call, I_calli, I_callv, I_clone, I_getc, i_ifeq, i_ifne, i_iflt, i_ifge, i_ifgt, i_ifle, i_idiv, i_irem, i_newa, i_newo, i_abs, i_max, i_min, i_ldiv, en_, es_i, es_r, es_0, es_n, es_l, List.length_cons, List.length_nil, List.cons_append, List.nil_append, Nat.reduceAdd, Nat.reduceSub, List.replicate, lg_, st1_, st2_, cn_, nl_, mk_, pk_, kd_, sl_, la_, ft_a, ft_i, ft_l, ft_o, ft_n, ft_b0, ft_b1, ft_bI, nr_0, nr_1, nr_bI, ro_, no_, if_true, if_false, ite_true, ite_false, reduceIte, Nat.reduceMod, Nat.reduceEqDiff, Nat.zero_add, Nat.add_zero, lk_, lit_, nI_add, nI_mul, ix_nI, fgk_0, fgk_1, fgk_2, fgk_3, fgk_4, fgk_5, fgk_6, fgk_7, fgk_8, fgk_9, fgk_10, fgk_11, fgk_12, fgk_13, fsk_0, fsk_1, fsk_2, fsk_3, fsk_4, fsk_5, fsk_6, fsk_7, fsk_8, fsk_9, fsk_10, fsk_11, fsk_12, fsk_13, ca_i, ca_r, ca_n, Nat.reduceLT, true_or, or_true, if_true, false_or, or_false, and_true, true_and, List.mem_singleton, eq_self, hc, hsz, List.length_map, nI_leI, hlt, y1, y2, y3, hv, c0, c5, nf_4, pk_div, nI_rm, ix_nI, eu, ev, c, nI_1]
    · have c' : ¬ nI (pt (p / 12)) = nI (pt (p % 12)) := by rw [nI_eq (by omega) (by omega)]; exact c
      have e : ks1_ p (pt, tk) = (joi_ pt (p / 12) (p % 12), fun k => if k = p then true else tk k) := if_neg c
      rw [e]
      have h2 := NV_5 (f := upd (N 5) p (nI 1)) h
      have hI2 := IL_arr (c := tI_ 2 144 (upd (N 5) p (nI 1))) hI c6 (h.2.2.2.1 _ (by omega))
      obtain ⟨σ1, f1, j1, j2, j3, j4, j5, j6⟩ := j9_lp (E := E) (k := k) hpt hp12 (show p % 12 < 12 by omega) 12 0 _ _ (some (.int (nI p))) (by omega) h2 hI2 (fun i hi => by omega) (fun i _ hi => h4 i hi)
      obtain ⟨σ', f, g, g1, g2, g3, g4, g5, g6⟩ := ih (k + 1) (joi_ pt (p / 12) (p % 12)) (fun k => if k = p then true else tk k) _ σ1 none none none none (by omega) j2 j3 j4 (fun j hj => by
        have := hpt j hj
        unfold joi_
        split <;> omega) (fun i hi => by
        show upd (N 5) p (nI 1) i = _
        by_cases q : i = p
        · rw [q, upd_s, if_pos rfl]; rfl
        · rw [upd_n q, if_neg q]; exact h5 i hi)
      refine ⟨σ', f, g, ?_, ?_, g3, g4, g5.trans j5, g6.trans j6⟩
      · rw [← g1]
        have n1 : nI 1 &&& nI 1 = nI 1 := by decide
        conv => lhs; rw [b291_7]
        simp (disch := first | assumption | omega | decide) only [K291_7, b291_8, K291_8, R_cons, go_nx, go_jp, go_rt, go_th, go_ca, go_no, go_ite, rr_v, rr_n, rr_x, hx_n, hx_p, hx_b, I_push, I_pushl, I_fc0, I_fc1, I_dc0, I_null, I_mask, I_iload, I_lload, I_dload, I_fload, I_aload, I_istore, I_lstore, I_dstore, I_fstore, I_astore, I_iinc, I_iadd, I_isub, I_imul, I_iand, I_ior, I_ixor, I_ishl, I_ishr, I_iushr, I_ineg, I_ladd, I_lsub, I_lmul, I_lxor, I_i2l, I_l2i, I_i2b, I_i2c, I_i2f, I_i2d, I_lcmp, I_fdiv, I_ddiv, I_f2d, I_dcmp, I_dup, I_pop, I_dup_x1, I_dup2, I_icne, I_iceq, I_iclt, I_icge, I_icgt, I_icle, I_ifnull, I_ifnonnull, I_ane, I_aeq, I_goto, I_lsw, I_iret, I_lret, I_fret, I_dret, I_vret, I_nret, I_aret, I_iald, I_bald, I_lald, I_aald, I_iast, I_bast, I_last, I_aast, I_alen, I_new, I_val, I_cast, I_inst, I_obj, I_throw, I_mkx, I_getf, I_putf, I_call, I_calli, I_callv, I_clone, I_getc, i_ifeq, i_ifne, i_iflt, i_ifge, i_ifgt, i_ifle, i_idiv, i_irem, i_newa, i_newo, i_abs, i_max, i_min, i_ldiv, en_, es_i, es_r, es_0, es_n, es_l, List.length_cons, List.length_nil, List.cons_append, List.nil_append, Nat.reduceAdd, Nat.reduceSub, List.replicate, lg_, st1_, st2_, cn_, nl_, mk_, pk_, kd_, sl_, la_, ft_a, ft_i, ft_l, ft_o, ft_n, ft_b0, ft_b1, ft_bI, nr_0, nr_1, nr_bI, ro_, no_, if_true, if_false, ite_true, ite_false, reduceIte, Nat.reduceMod, Nat.reduceEqDiff, Nat.zero_add, Nat.add_zero, lk_, lit_, nI_add, nI_mul, ix_nI, fgk_0, fgk_1, fgk_2, fgk_3, fgk_4, fgk_5, fgk_6, fgk_7, fgk_8, fgk_9, fgk_10, fgk_11, fgk_12, fgk_13, fsk_0, fsk_1, fsk_2, fsk_3, fsk_4, fsk_5, fsk_6, fsk_7, fsk_8, fsk_9, fsk_10, fsk_11, fsk_12, fsk_13, ca_i, ca_r, ca_n, Nat.reduceLT, true_or, or_true, if_true, false_or, or_false, and_true, true_and, List.mem_singleton, eq_self, hc, hsz, List.length_map, nI_leI, hlt, y1, y2, y3, hv, c0, c5, nf_4, pk_div, nI_rm, ix_nI, eu, ev, c', c6, nf_5, n1]
        rw [j1]
        conv => lhs; rw [b291_12]
        simp (disch := omega) only [K291_12, R_cons, go_nx, go_jp, go_rt, go_th, go_ca, go_no, go_ite, rr_v, rr_n, rr_x, hx_n, hx_p, hx_b, I_push, I_pushl, I_fc0, I_fc1, I_dc0, I_null, I_mask, I_iload, I_lload, I_dload, I_fload, I_aload, I_istore, I_lstore, I_dstore, I_fstore, I_astore, I_iinc, I_iadd, I_isub, I_imul, I_iand, I_ior, I_ixor, I_ishl, I_ishr, I_iushr, I_ineg, I_ladd, I_lsub, I_lmul, I_lxor, I_i2l, I_l2i, I_i2b, I_i2c, I_i2f, I_i2d, I_lcmp, I_fdiv, I_ddiv, I_f2d, I_dcmp, I_dup, I_pop, I_dup_x1, I_dup2, I_icne, I_iceq, I_iclt, I_icge, I_icgt, I_icle, I_ifnull, I_ifnonnull, I_ane, I_aeq, I_goto, I_lsw, I_iret, I_lret, I_fret, I_dret, I_vret, I_nret, I_aret, I_iald, I_bald, I_lald, I_aald, I_iast, I_bast, I_last, I_aast, I_alen, I_new, I_val, I_cast, I_inst, I_obj, I_throw, I_mkx, I_getf, I_putf, I_call, I_calli, I_callv, I_clone, I_getc, i_ifeq, i_ifne, i_iflt, i_ifge, i_ifgt, i_ifle, i_idiv, i_irem, i_newa, i_newo, i_abs, i_max, i_min, i_ldiv, en_, es_i, es_r, es_0, es_n, es_l, List.length_cons, List.length_nil, List.cons_append, List.nil_append, Nat.reduceAdd, Nat.reduceSub, List.replicate, lg_, st1_, st2_, cn_, nl_, mk_, pk_, kd_, sl_, la_, ft_a, ft_i, ft_l, ft_o, ft_n, ft_b0, ft_b1, ft_bI, nr_0, nr_1, nr_bI, ro_, no_, if_true, if_false, ite_true, ite_false, reduceIte, Nat.reduceMod, Nat.reduceEqDiff, Nat.zero_add, Nat.add_zero, lk_, lit_, nI_add, nI_mul, ix_nI, fgk_0, fgk_1, fgk_2, fgk_3, fgk_4, fgk_5, fgk_6, fgk_7, fgk_8, fgk_9, fgk_10, fgk_11, fgk_12, fgk_13, fsk_0, fsk_1, fsk_2, fsk_3, fsk_4, fsk_5, fsk_6, fsk_7, fsk_8, fsk_9, fsk_10, fsk_11, fsk_12, fsk_13, ca_i, ca_r, ca_n, Nat.reduceLT, true_or, or_true, if_true, false_or, or_false, and_true, true_and, List.mem_singleton, eq_self, nI_1]
      · have e1 : um (um (um (um N 5 (upd (N 5) p (nI 1))) 4 f1) 4 f) 5 g = um (um N 4 f) 5 g := by
          funext i
          unfold um
          by_cases q5 : i = 5
          · rw [if_pos q5, if_pos q5]
          · rw [if_neg q5, if_neg q5]
            by_cases q4 : i = 4
            · rw [if_pos q4, if_pos q4, if_neg q5]
            · simp only [if_neg q4, if_neg q5]
        rw [← e1]; exact g2
end CNI
