/-! depths: the forest is hung on its roots -/
def urc_ (D : Nat → Int32) : Nat → Nat
  | 0 => 0
  | k + 1 => urc_ D k + (if D k = -nI 1 then 1 else 0)
theorem nI_nm1 {d : Nat} (h : d < 2 ^ 31) : ¬ nI d = -nI 1 := fun q => by
  have h2 := congrArg Int32.toInt q
  rw [nI_toInt h] at h2
  have : (-nI 1).toInt = -1 := by decide
  omega
theorem urc_up {D : Nat → Int32} {x : Nat} {v : Int32} (hx : D x = -nI 1) (hv : ¬ v = -nI 1) : ∀ m, (x < m → urc_ (upd D x v) m + 1 = urc_ D m) ∧ (m ≤ x → urc_ (upd D x v) m = urc_ D m) := by
  intro m
  induction m with
  | zero => exact ⟨fun h => by omega, fun _ => rfl⟩
  | succ m ih =>
    rw [urc_, urc_]
    by_cases c : m = x
    · subst c
      rw [upd_s, if_neg hv, if_pos hx, ih.2 (Nat.le_refl _)]
      exact ⟨fun _ => rfl, fun h => by omega⟩
    · rw [upd_n c]
      refine ⟨fun h => ?_, fun h => ?_⟩
      · have := ih.1 (by omega)
        omega
      · rw [ih.2 (by omega)]
/-- the rows of hangsOn and depths, after c hangings -/
def Dp_ (n : Nat) (pt : Nat → Nat) (tk : Nat → Bool) (H D : Nat → Int32) (c : Nat) : Prop :=
  (∀ k, k < 12 → (D k = -nI 1 ∧ ¬ pt k = k) ∨ (∃ d, d ≤ c ∧ D k = nI d ∧ ((d = 0 ∧ pt k = k) ∨ (0 < d ∧ ∃ y, y < n ∧ H k = nI y ∧ adj_ tk k y ∧ D y = nI (d - 1))))) ∧ c + urc_ D 12 ≤ 12
theorem Dp_hang {n c x y : Nat} {pt : Nat → Nat} {tk : Nat → Bool} {H D : Nat → Int32} (hn : n ≤ 12) (h : Dp_ n pt tk H D c) (hx : x < n) (hy : y < n) (ha : adj_ tk x y) (h1 : D x = -nI 1) (h2 : ¬ D y = -nI 1) : Dp_ n pt tk (upd H x (nI y)) (upd D x (D y + nI 1)) (c + 1) ∧ urc_ (upd D x (D y + nI 1)) 12 < urc_ D 12 := by
  obtain ⟨g1, g2⟩ := h
  have hc12 : c ≤ 12 := by omega
  obtain ⟨dy, dy1, dy2⟩ : ∃ d, d ≤ c ∧ D y = nI d := by
    rcases g1 y (by omega) with ⟨q, _⟩ | ⟨d, q1, q2, _⟩
    · exact absurd q h2
    · exact ⟨d, q1, q2⟩
  have ev : D y + nI 1 = nI (dy + 1) := by rw [dy2, nI_add]
  have hu := (urc_up (D := D) (x := x) (v := D y + nI 1) h1 (by rw [ev]; exact nI_nm1 (by omega)) 12).1 (by omega)
  have hxy : ¬ y = x := fun q => h2 (by rw [q]; exact h1)
  refine ⟨⟨fun k hk => ?_, by omega⟩, by omega⟩
  by_cases e : k = x
  · subst e
    refine Or.inr ⟨dy + 1, by omega, by rw [upd_s]; exact ev, Or.inr ⟨by omega, y, hy, by rw [upd_s], ha, ?_⟩⟩
    rw [upd_n hxy]
    exact dy2
  · rw [upd_n e, upd_n e]
    rcases g1 k hk with ⟨q, q'⟩ | ⟨d, q1, q2, q3⟩
    · exact Or.inl ⟨q, q'⟩
    · refine Or.inr ⟨d, by omega, q2, ?_⟩
      rcases q3 with q3 | ⟨q3, z, z1, z2, z3, z4⟩
      · exact Or.inl q3
      · refine Or.inr ⟨q3, z, z1, z2, z3, ?_⟩
        rw [upd_n (fun q => by rw [q, h1] at z4; exact nI_nm1 (by omega) z4.symm)]
        exact z4
section CNK
variable {E : En_} {σ : As_} {w n s b bb q : Nat} {r : Nat → Int32} {ms ss : List Nat} {h0 : Nat → Option Ac_} {lc : Ac_} {N : Nat → Nat → Int32} {pt : Nat → Nat} {tk : Nat → Bool}
theorem N_hangs1 {x y : Nat} (h : NV_ h0 σ b bb q w lc N) (hx : x < 12) (hy : y < 12) (h1 : N 9 x = -nI 1) (h2 : ¬ N 9 y = -nI 1) : ∃ σ', D_ E 294 [.ref b, .int (nI x), .int (nI y)] σ = some (.inl (some (.int (nI 1))), σ') ∧ NV_ h0 σ' b bb q w lc (um (um N 8 (upd (N 8) x (nI y))) 9 (upd (N 9) x (N 9 y + nI 1))) ∧ σ'.1 = σ.1 ∧ σ'.2.1 = σ.2.1 := by
  obtain ⟨⟨c0, c1, c2, c3, c4, c5, c6, c8, c9, c10, _⟩, _⟩ := id h
  have hA := NV_8 (f := upd (N 8) x (nI y)) h
  have hB := NV_9 (f := upd (N 9) x (N 9 y + nI 1)) hA
  refine ⟨_, ?_, hB, rfl, rfl⟩
  rw [D_run]
  have ne1 : b ≠ q := by have := h.2.2.2.2; omega
  have ne2 : q + 1 ≠ q := by omega
  simp (disch := first | assumption | omega) only [l294, b294_0, K294_0, b294_1, K294_1, b294_2, K294_2, R_cons, go_nx, go_jp, go_rt, go_th, go_ca, go_no, go_ite, rr_v, rr_n, rr_x, hx_n, hx_p, hx_b, I_push, I_pushl, I_fc0, I_fc1, I_dc0, I_null, I_mask, I_iload, I_lload, I_dload, I_fload, I_aload, I_istore, I_lstore, I_dstore, I_fstore, I_astore, I_iinc, I_iadd, I_isub, I_imul, I_iand, I_ior, I_ixor, I_ishl, I_ishr, I_iushr, I_ineg, I_ladd, I_lsub, I_lmul, I_lxor, I_i2l, I_l2i, I_i2b, I_i2c, I_i2f, I_i2d, I_lcmp, I_fdiv, I_ddiv, I_f2d, I_dcmp, I_dup, I_pop, I_dup_x1, I_dup2, I_icne, I_iceq, I_iclt, I_icge, I_icgt, I_icle, I_ifnull, I_ifnonnull, I_ane, I_aeq, I_goto, I_lsw, I_iret, I_lret, I_fret, I_dret, I_vret, I_nret, I_aret, I_iald, I_bald, I_lald, I_aald, I_iast, I_bast, I_last, I_aast, I_alen, I_new, I_val, I_cast, I_inst, I_obj, I_throw, I_mkx, I_getf, I_putf, I_call, I_calli, I_callv, I_clone, I_getc, i_ifeq, i_ifne, i_iflt, i_ifge, i_ifgt, i_ifle, i_idiv, i_irem, i_newa, i_newo, i_abs, i_max, i_min, i_ldiv, en_, es_i, es_r, es_0, es_n, es_l, List.length_cons, List.length_nil, List.cons_append, List.nil_append, Nat.reduceAdd, Nat.reduceSub, List.replicate, lg_, st1_, st2_, cn_, nl_, mk_, pk_, kd_, sl_, la_, ft_a, ft_i, ft_l, ft_o, ft_n, ft_b0, ft_b1, ft_bI, nr_0, nr_1, nr_bI, ro_, no_, if_true, if_false, ite_true, ite_false, reduceIte, Nat.reduceMod, Nat.reduceEqDiff, Nat.zero_add, Nat.add_zero, lk_, lit_, nI_add, nI_mul, ix_nI, fgk_0, fgk_1, fgk_2, fgk_3, fgk_4, fgk_5, fgk_6, fgk_7, fgk_8, fgk_9, fgk_10, fgk_11, fgk_12, fgk_13, fsk_0, fsk_1, fsk_2, fsk_3, fsk_4, fsk_5, fsk_6, fsk_7, fsk_8, fsk_9, fsk_10, fsk_11, fsk_12, fsk_13, ca_i, ca_r, ca_n, Nat.reduceLT, true_or, or_true, if_true, false_or, or_false, and_true, true_and, List.mem_singleton, eq_self, c0, c9, c8, nf_9, nf_8, ix_nI, h1, h2, up_s, up_n]
theorem N_hangs0 {x y : Nat} (h : NV_ h0 σ b bb q w lc N) (hx : x < 12) (hy : y < 12) (h1 : ¬ (N 9 x = -nI 1 ∧ ¬ N 9 y = -nI 1)) : D_ E 294 [.ref b, .int (nI x), .int (nI y)] σ = some (.inl (some (.int (nI 0))), σ) := by
  obtain ⟨⟨c0, c1, c2, c3, c4, c5, c6, c8, c9, c10, _⟩, _⟩ := id h
  rw [D_run]
  by_cases e1 : N 9 x = -nI 1
  · have e2 : N 9 y = -nI 1 := Classical.byContradiction fun q => h1 ⟨e1, q⟩
    simp (disch := first | assumption | omega) only [l294, b294_0, K294_0, b294_1, K294_1, b294_2, K294_2, R_cons, go_nx, go_jp, go_rt, go_th, go_ca, go_no, go_ite, rr_v, rr_n, rr_x, hx_n, hx_p, hx_b, I_push, I_pushl, I_fc0, I_fc1, I_dc0, I_null, I_mask, I_iload, I_lload, I_dload, I_fload, I_aload, I_istore, I_lstore, I_dstore, I_fstore, I_astore, I_iinc, I_iadd, I_isub, I_imul, I_iand, I_ior, I_ixor, I_ishl, I_ishr, I_iushr, I_ineg, I_ladd, I_lsub, I_lmul, I_lxor, I_i2l, I_l2i, I_i2b, I_i2c, I_i2f, I_i2d, I_lcmp, I_fdiv, I_ddiv, I_f2d, I_dcmp, I_dup, I_pop, I_dup_x1, I_dup2, I_icne, I_iceq, I_iclt, I_icge, I_icgt, I_icle, I_ifnull, I_ifnonnull, I_ane, I_aeq, I_goto, I_lsw, I_iret, I_lret, I_fret, I_dret, I_vret, I_nret, I_aret, I_iald, I_bald, I_lald, I_aald, I_iast, I_bast, I_last, I_aast, I_alen, I_new, I_val, I_cast, I_inst, I_obj, I_throw, I_mkx, I_getf, I_putf, I_call, I_calli, I_callv, I_clone, I_getc, i_ifeq, i_ifne, i_iflt, i_ifge, i_ifgt, i_ifle, i_idiv, i_irem, i_newa, i_newo, i_abs, i_max, i_min, i_ldiv, en_, es_i, es_r, es_0, es_n, es_l, List.length_cons, List.length_nil, List.cons_append, List.nil_append, Nat.reduceAdd, Nat.reduceSub, List.replicate, lg_, st1_, st2_, cn_, nl_, mk_, pk_, kd_, sl_, la_, ft_a, ft_i, ft_l, ft_o, ft_n, ft_b0, ft_b1, ft_bI, nr_0, nr_1, nr_bI, ro_, no_, if_true, if_false, ite_true, ite_false, reduceIte, Nat.reduceMod, Nat.reduceEqDiff, Nat.zero_add, Nat.add_zero, lk_, lit_, nI_add, nI_mul, ix_nI, fgk_0, fgk_1, fgk_2, fgk_3, fgk_4, fgk_5, fgk_6, fgk_7, fgk_8, fgk_9, fgk_10, fgk_11, fgk_12, fgk_13, fsk_0, fsk_1, fsk_2, fsk_3, fsk_4, fsk_5, fsk_6, fsk_7, fsk_8, fsk_9, fsk_10, fsk_11, fsk_12, fsk_13, ca_i, ca_r, ca_n, Nat.reduceLT, true_or, or_true, if_true, false_or, or_false, and_true, true_and, List.mem_singleton, eq_self, c0, c9, c8, nf_9, nf_8, ix_nI, e1, e2]
  · simp (disch := first | assumption | omega) only [l294, b294_0, K294_0, b294_1, K294_1, b294_2, K294_2, R_cons, go_nx, go_jp, go_rt, go_th, go_ca, go_no, go_ite, rr_v, rr_n, rr_x, hx_n, hx_p, hx_b, I_push, I_pushl, I_fc0, I_fc1, I_dc0, I_null, I_mask, I_iload, I_lload, I_dload, I_fload, I_aload, I_istore, I_lstore, I_dstore, I_fstore, I_astore, I_iinc, I_iadd, I_isub, I_imul, I_iand, I_ior, I_ixor, I_ishl, I_ishr, I_iushr, I_ineg, I_ladd, I_lsub, I_lmul, I_lxor, I_i2l, I_l2i, I_i2b, I_i2c, I_i2f, I_i2d, I_lcmp, I_fdiv, I_ddiv, I_f2d, I_dcmp, I_dup, I_pop, I_dup_x1, I_dup2, I_icne, I_iceq, I_iclt, I_icge, I_icgt, I_icle, I_ifnull, I_ifnonnull, I_ane, I_aeq, I_goto, I_lsw, I_iret, I_lret, I_fret, I_dret, I_vret, I_nret, I_aret, I_iald, I_bald, I_lald, I_aald, I_iast, I_bast, I_last, I_aast, I_alen, I_new, I_val, I_cast, I_inst, I_obj, I_throw, I_mkx, I_getf, I_putf, I_call, I_calli, I_callv, I_clone, I_getc, i_ifeq, i_ifne, i_iflt, i_ifge, i_ifgt, i_ifle, i_idiv, i_irem, i_newa, i_newo, i_abs, i_max, i_min, i_ldiv, en_, es_i, es_r, es_0, es_n, es_l, List.length_cons, List.length_nil, List.cons_append, List.nil_append, Nat.reduceAdd, Nat.reduceSub, List.replicate, lg_, st1_, st2_, cn_, nl_, mk_, pk_, kd_, sl_, la_, ft_a, ft_i, ft_l, ft_o, ft_n, ft_b0, ft_b1, ft_bI, nr_0, nr_1, nr_bI, ro_, no_, if_true, if_false, ite_true, ite_false, reduceIte, Nat.reduceMod, Nat.reduceEqDiff, Nat.zero_add, Nat.add_zero, lk_, lit_, nI_add, nI_mul, ix_nI, fgk_0, fgk_1, fgk_2, fgk_3, fgk_4, fgk_5, fgk_6, fgk_7, fgk_8, fgk_9, fgk_10, fgk_11, fgk_12, fgk_13, fsk_0, fsk_1, fsk_2, fsk_3, fsk_4, fsk_5, fsk_6, fsk_7, fsk_8, fsk_9, fsk_10, fsk_11, fsk_12, fsk_13, ca_i, ca_r, ca_n, Nat.reduceLT, true_or, or_true, if_true, false_or, or_false, and_true, true_and, List.mem_singleton, eq_self, c0, c9, c8, nf_9, nf_8, ix_nI, e1]
/-- a pass over the forest -/
theorem d6_lp (hn : n ≤ 12) (htk : ∀ k, tk k = true → k / 12 < k % 12 ∧ k % 12 < n) (hadj : ∀ k, tk k = true → adj_ tk (k / 12) (k % 12)) : ∀ (d p c : Nat) (N : Nat → Nat → Int32) (σ : As_) (ch : Int32), p + d = 144 → NV_ h0 σ b bb q w lc N → (∀ p, p < 144 → N 5 p = bI (tk p = true)) → Dp_ n pt tk (N 8) (N 9) c → (ch = nI 0 ∨ ch = nI 1) →
    ∃ σ' f g ch' c', R_ E 293 (B_ E 293 6) [some (.ref b), some (.int ch), some (.int (nI p))] [] σ = R_ E 293 (B_ E 293 9) [some (.ref b), some (.int ch'), some (.int (nI 144))] [] σ' ∧ NV_ h0 σ' b bb q w lc (um (um N 8 f) 9 g) ∧ Dp_ n pt tk f g c' ∧ (ch' = nI 0 ∨ ch' = nI 1) ∧ urc_ g 12 ≤ urc_ (N 9) 12 ∧ (ch' = nI 1 → ch = nI 1 ∨ urc_ g 12 < urc_ (N 9) 12) ∧ (ch' = nI 0 → ch = nI 0 ∧ g = N 9 ∧ ∀ i, p ≤ i → i < 144 → tk i = true → (N 9 (i / 12) = -nI 1 ↔ N 9 (i % 12) = -nI 1)) ∧ σ'.1 = σ.1 ∧ σ'.2.1 = σ.2.1 := by
  have n01 : ¬ nI 1 = nI 0 := by decide
  intro d
  induction d with
  | zero =>
    intro p c N σ ch hp h h5 hD hch
    obtain rfl : p = 144 := by omega
    obtain ⟨⟨c0, c1, c2, c3, c4, c5, c6, c8, c9, c10, _⟩, _⟩ := id h
    refine ⟨σ, N 8, N 9, ch, c, ?_, ?_, hD, hch, Nat.le_refl _, fun e => Or.inl e, fun e => ⟨e, rfl, fun i h1 h2 => by omega⟩, rfl, rfl⟩
    · conv => lhs; rw [b293_6]
      simp (disch := omega) only [K293_6, R_cons, go_nx, go_jp, go_rt, go_th, go_ca, go_no, go_ite, rr_v, rr_n, rr_x, hx_n, hx_p, hx_b, I_push, I_pushl, I_fc0, I_fc1, I_dc0, I_null, I_mask, I_iload, I_lload, I_dload, I_fload, I_aload, I_istore, I_lstore, I_dstore, I_fstore, I_astore, I_iinc, I_iadd, I_isub, I_imul, I_iand, I_ior, I_ixor, I_ishl, I_ishr, I_iushr, I_ineg, I_ladd, I_lsub, I_lmul, I_lxor, I_i2l, I_l2i, I_i2b, I_i2c, I_i2f, I_i2d, I_lcmp, I_fdiv, I_ddiv, I_f2d, I_dcmp, I_dup, I_pop, I_dup_x1, I_dup2, I_icne, I_iceq, I_iclt, I_icge, I_icgt, I_icle, I_ifnull, I_ifnonnull, I_ane, I_aeq, I_goto, I_lsw, I_iret, I_lret, I_fret, I_dret, I_vret, I_nret, I_aret, I_iald, I_bald, I_lald, I_aald, I_iast, I_bast, I_last, I_aast, I_alen, I_new, I_val, I_cast, I_inst, I_obj, I_throw, I_mkx, I_getf, I_putf, I_call, I_calli, I_callv, I_clone, I_getc, i_ifeq, i_ifne, i_iflt, i_ifge, i_ifgt, i_ifle, i_idiv, i_irem, i_newa, i_newo, i_abs, i_max, i_min, i_ldiv, en_, es_i, es_r, es_0, es_n, es_l, List.length_cons, List.length_nil, List.cons_append, List.nil_append, Nat.reduceAdd, Nat.reduceSub, List.replicate, lg_, st1_, st2_, cn_, nl_, mk_, pk_, kd_, sl_, la_, ft_a, ft_i, ft_l, ft_o, ft_n, ft_b0, ft_b1, ft_bI, nr_0, nr_1, nr_bI, ro_, no_, if_true, if_false, ite_true, ite_false, reduceIte, Nat.reduceMod, Nat.reduceEqDiff, Nat.zero_add, Nat.add_zero, lk_, lit_, nI_add, nI_mul, ix_nI, fgk_0, fgk_1, fgk_2, fgk_3, fgk_4, fgk_5, fgk_6, fgk_7, fgk_8, fgk_9, fgk_10, fgk_11, fgk_12, fgk_13, fsk_0, fsk_1, fsk_2, fsk_3, fsk_4, fsk_5, fsk_6, fsk_7, fsk_8, fsk_9, fsk_10, fsk_11, fsk_12, fsk_13, ca_i, ca_r, ca_n, Nat.reduceLT, true_or, or_true, if_true, false_or, or_false, and_true, true_and, List.mem_singleton, eq_self, c0, c6, nf_5, nI_leI, Nat.le_refl]
    · rw [um_id, um_id]
      exact h
  | succ d ih =>
    intro p c N σ ch hp h h5 hD hch
    have hlt : ¬ 144 ≤ p := by omega
    obtain ⟨⟨c0, c1, c2, c3, c4, c5, c6, c8, c9, c10, _⟩, _⟩ := id h
    have e5 := h5 p (by omega)
    by_cases ct : tk p = true
    · rw [bI_t ct] at e5
      have hpp := htk p ct
      have had := hadj p ct
      have hA : ∀ (x y : Nat), x < n → y < n → adj_ tk x y → N 9 x = -nI 1 → ¬ N 9 y = -nI 1 → ∀ σ1, NV_ h0 σ1 b bb q w lc (um (um N 8 (upd (N 8) x (nI y))) 9 (upd (N 9) x (N 9 y + nI 1))) → σ1.1 = σ.1 → σ1.2.1 = σ.2.1 → ∃ σ' f g ch' c', R_ E 293 (B_ E 293 6) [some (.ref b), some (.int (nI 1)), some (.int (nI (p + 1)))] [] σ1 = R_ E 293 (B_ E 293 9) [some (.ref b), some (.int ch'), some (.int (nI 144))] [] σ' ∧ NV_ h0 σ' b bb q w lc (um (um N 8 f) 9 g) ∧ Dp_ n pt tk f g c' ∧ (ch' = nI 0 ∨ ch' = nI 1) ∧ urc_ g 12 ≤ urc_ (N 9) 12 ∧ (ch' = nI 1 → ch = nI 1 ∨ urc_ g 12 < urc_ (N 9) 12) ∧ (ch' = nI 0 → ch = nI 0 ∧ g = N 9 ∧ ∀ i, p ≤ i → i < 144 → tk i = true → (N 9 (i / 12) = -nI 1 ↔ N 9 (i % 12) = -nI 1)) ∧ σ'.1 = σ.1 ∧ σ'.2.1 = σ.2.1 := by
        intro x y hx hy hxy h1 h2 σ1 hN1 hs1 hs2
        obtain ⟨hD1, hu1⟩ := Dp_hang hn hD hx hy hxy h1 h2
        obtain ⟨σ', f, g, ch', c', g1, g2, g3, g4, g5, g6, g7, g8, g9⟩ := ih (p + 1) (c + 1) _ σ1 (nI 1) (by omega) hN1 h5 hD1 (Or.inr rfl)
        have e9 : um (um N 8 (upd (N 8) x (nI y))) 9 (upd (N 9) x (N 9 y + nI 1)) 9 = upd (N 9) x (N 9 y + nI 1) := um_s
        rw [e9] at g5 g6 g7
        refine ⟨σ', f, g, ch', c', g1, ?_, g3, g4, by omega, fun _ => Or.inr (by omega), fun e => ?_, g8.trans hs1, g9.trans hs2⟩
        · have e1 : um (um (um (um N 8 (upd (N 8) x (nI y))) 9 (upd (N 9) x (N 9 y + nI 1))) 8 f) 9 g = um (um N 8 f) 9 g := by
            funext i
            unfold um
            by_cases q9 : i = 9
            · simp only [if_pos q9]
            · simp only [if_neg q9]
              by_cases q8 : i = 8
              · simp only [if_pos q8]
              · simp only [if_neg q8]
          rw [← e1]
          exact g2
        · exact absurd (g7 e).1 n01
      by_cases cA : N 9 (p / 12) = -nI 1 ∧ ¬ N 9 (p % 12) = -nI 1
      · obtain ⟨σ1, a1, a2, a3, a4⟩ := N_hangs1 (E := E) h (show p / 12 < 12 by omega) (show p % 12 < 12 by omega) cA.1 cA.2
        obtain ⟨σ', f, g, ch', c', g1, g2⟩ := hA _ _ (by omega) hpp.2 had cA.1 cA.2 σ1 a2 a3 a4
        refine ⟨σ', f, g, ch', c', ?_, g2⟩
        rw [← g1]
        conv => lhs; rw [b293_6]
        simp (disch := first | assumption | omega | decide) only [K293_6, b293_7, K293_7, b293_8, K293_8, R_cons, go_nx, go_jp, go_rt, go_th, go_ca, go_no, go_ite, rr_v, rr_n, rr_x, hx_n, hx_p, hx_b, I_push, I_pushl, I_fc0, I_fc1, I_dc0, I_null, I_mask, I_iload, I_lload, I_dload, I_fload, I_aload, I_istore, I_lstore, I_dstore, I_fstore, I_astore, I_iinc, I_iadd, I_isub, I_imul, I_iand, I_ior, I_ixor, I_ishl, I_ishr, I_iushr, I_ineg, I_ladd, I_lsub, I_lmul, I_lxor, I_i2l, I_l2i, I_i2b, I_i2c, I_i2f, I_i2d, I_lcmp, I_fdiv, I_ddiv, I_f2d, I_dcmp, I_dup, I_pop, I_dup_x1, I_dup2, I_icne, I_iceq, I_iclt, I_icge, I_icgt, I_icle, I_ifnull, I_ifnonnull, I_ane, I_aeq, I_goto, I_lsw, I_iret, I_lret, I_fret, I_dret, I_vret, I_nret, I_aret, I_iald, I_bald, I_lald, I_aald, I_iast, I_bast, I_last, I_aast, I_alen, I_new, I_val, I_cast, I_inst, I_obj, I_throw, I_mkx, I_getf, I_putf, I_call, I_calli, I_callv, I_clone, I_getc, i_ifeq, i_ifne, i_iflt, i_ifge, i_ifgt, i_ifle, i_idiv, i_irem, i_newa, i_newo, i_abs, i_max, i_min, i_ldiv, en_, es_i, es_r, es_0, es_n, es_l, List.length_cons, List.length_nil, List.cons_append, List.nil_append, Nat.reduceAdd, Nat.reduceSub, List.replicate, lg_, st1_, st2_, cn_, nl_, mk_, pk_, kd_, sl_, la_, ft_a, ft_i, ft_l, ft_o, ft_n, ft_b0, ft_b1, ft_bI, nr_0, nr_1, nr_bI, ro_, no_, if_true, if_false, ite_true, ite_false, reduceIte, Nat.reduceMod, Nat.reduceEqDiff, Nat.zero_add, Nat.add_zero, lk_, lit_, nI_add, nI_mul, ix_nI, fgk_0, fgk_1, fgk_2, fgk_3, fgk_4, fgk_5, fgk_6, fgk_7, fgk_8, fgk_9, fgk_10, fgk_11, fgk_12, fgk_13, fsk_0, fsk_1, fsk_2, fsk_3, fsk_4, fsk_5, fsk_6, fsk_7, fsk_8, fsk_9, fsk_10, fsk_11, fsk_12, fsk_13, ca_i, ca_r, ca_n, Nat.reduceLT, true_or, or_true, if_true, false_or, or_false, and_true, true_and, List.mem_singleton, eq_self, c0, c6, nf_5, nI_leI, hlt, ix_nI, e5, n10_, pk_div, nI_rm, a1, nI_1]
      · have b1 := N_hangs0 (E := E) h (show p / 12 < 12 by omega) (show p % 12 < 12 by omega) cA
        by_cases cB : N 9 (p % 12) = -nI 1 ∧ ¬ N 9 (p / 12) = -nI 1
        · obtain ⟨σ1, a1, a2, a3, a4⟩ := N_hangs1 (E := E) h (show p % 12 < 12 by omega) (show p / 12 < 12 by omega) cB.1 cB.2
          obtain ⟨σ', f, g, ch', c', g1, g2⟩ := hA _ _ hpp.2 (by omega) (adj_co had) cB.1 cB.2 σ1 a2 a3 a4
          refine ⟨σ', f, g, ch', c', ?_, g2⟩
          rw [← g1]
          conv => lhs; rw [b293_6]
          simp (disch := first | assumption | omega | decide) only [K293_6, b293_7, K293_7, b293_8, K293_8, R_cons, go_nx, go_jp, go_rt, go_th, go_ca, go_no, go_ite, rr_v, rr_n, rr_x, hx_n, hx_p, hx_b, I_push, I_pushl, I_fc0, I_fc1, I_dc0, I_null, I_mask, I_iload, I_lload, I_dload, I_fload, I_aload, I_istore, I_lstore, I_dstore, I_fstore, I_astore, I_iinc, I_iadd, I_isub, I_imul, I_iand, I_ior, I_ixor, I_ishl, I_ishr, I_iushr, I_ineg, I_ladd, I_lsub, I_lmul, I_lxor, I_i2l, I_l2i, I_i2b, I_i2c, I_i2f, I_i2d, I_lcmp, I_fdiv, I_ddiv, I_f2d, I_dcmp, I_dup, I_pop, I_dup_x1, I_dup2, I_icne, I_iceq, I_iclt, I_icge, I_icgt, I_icle, I_ifnull, I_ifnonnull, I_ane, I_aeq, I_goto, I_lsw, I_iret, I_lret, I_fret, I_dret, I_vret, I_nret, I_aret, I_iald, I_bald, I_lald, I_aald, I_iast, I_bast, I_last, I_aast, I_alen, I_new, I_val, I_cast, I_inst, I_obj, I_throw, I_mkx, I_getf, I_putf, I_call, I_calli, I_callv, I_clone, I_getc, i_ifeq, i_ifne, i_iflt, i_ifge, i_ifgt, i_ifle, i_idiv, i_irem, i_newa, i_newo, i_abs, i_max, i_min, i_ldiv, en_, es_i, es_r, es_0, es_n, es_l, List.length_cons, List.length_nil, List.cons_append, List.nil_append, Nat.reduceAdd, Nat.reduceSub, List.replicate, lg_, st1_, st2_, cn_, nl_, mk_, pk_, kd_, sl_, la_, ft_a, ft_i, ft_l, ft_o, ft_n, ft_b0, ft_b1, ft_bI, nr_0, nr_1, nr_bI, ro_, no_, if_true, if_false, ite_true, ite_false, reduceIte, Nat.reduceMod, Nat.reduceEqDiff, Nat.zero_add, Nat.add_zero, lk_, lit_, nI_add, nI_mul, ix_nI, fgk_0, fgk_1, fgk_2, fgk_3, fgk_4, fgk_5, fgk_6, fgk_7, fgk_8, fgk_9, fgk_10, fgk_11, fgk_12, fgk_13, fsk_0, fsk_1, fsk_2, fsk_3, fsk_4, fsk_5, fsk_6, fsk_7, fsk_8, fsk_9, fsk_10, fsk_11, fsk_12, fsk_13, ca_i, ca_r, ca_n, Nat.reduceLT, true_or, or_true, if_true, false_or, or_false, and_true, true_and, List.mem_singleton, eq_self, c0, c6, nf_5, nI_leI, hlt, ix_nI, e5, n10_, pk_div, nI_rm, b1, a1, nI_1]
        · have b2 := N_hangs0 (E := E) h (show p % 12 < 12 by omega) (show p / 12 < 12 by omega) cB
          obtain ⟨σ', f, g, ch', c', g1, g2, g3, g4, g5, g6, g7, g8⟩ := ih (p + 1) c N σ ch (by omega) h h5 hD hch
          refine ⟨σ', f, g, ch', c', ?_, g2, g3, g4, g5, g6, fun e => ⟨(g7 e).1, (g7 e).2.1, fun i h1 h2 h3 => ?_⟩, g8⟩
          · rw [← g1]
            conv => lhs; rw [b293_6]
            simp (disch := first | assumption | omega | decide) only [K293_6, b293_8, K293_8, R_cons, go_nx, go_jp, go_rt, go_th, go_ca, go_no, go_ite, rr_v, rr_n, rr_x, hx_n, hx_p, hx_b, I_push, I_pushl, I_fc0, I_fc1, I_dc0, I_null, I_mask, I_iload, I_lload, I_dload, I_fload, I_aload, I_istore, I_lstore, I_dstore, I_fstore, I_astore, I_iinc, I_iadd, I_isub, I_imul, I_iand, I_ior, I_ixor, I_ishl, I_ishr, I_iushr, I_ineg, I_ladd, I_lsub, I_lmul, I_lxor, I_i2l, I_l2i, I_i2b, I_i2c, I_i2f, I_i2d, I_lcmp, I_fdiv, I_ddiv, I_f2d, I_dcmp, I_dup, I_pop, I_dup_x1, I_dup2, I_icne, I_iceq, I_iclt, I_icge, I_icgt, I_icle, I_ifnull, I_ifnonnull, I_ane, I_aeq, I_goto, I_lsw, I_iret, I_lret, I_fret, I_dret, I_vret, I_nret, I_aret, I_iald, I_bald, I_lald, I_aald, I_iast, I_bast, I_last, I_aast, I_alen, I_new, I_val, I_cast, I_inst, I_obj, I_throw, I_mkx, I_getf, I_putf, I_call, I_calli, I_callv, I_clone, I_getc, i_ifeq, i_ifne, i_iflt, i_ifge, i_ifgt, i_ifle, i_idiv, i_irem, i_newa, i_newo, i_abs, i_max, i_min, i_ldiv, en_, es_i, es_r, es_0, es_n, es_l, List.length_cons, List.length_nil, List.cons_append, List.nil_append, Nat.reduceAdd, Nat.reduceSub, List.replicate, lg_, st1_, st2_, cn_, nl_, mk_, pk_, kd_, sl_, la_, ft_a, ft_i, ft_l, ft_o, ft_n, ft_b0, ft_b1, ft_bI, nr_0, nr_1, nr_bI, ro_, no_, if_true, if_false, ite_true, ite_false, reduceIte, Nat.reduceMod, Nat.reduceEqDiff, Nat.zero_add, Nat.add_zero, lk_, lit_, nI_add, nI_mul, ix_nI, fgk_0, fgk_1, fgk_2, fgk_3, fgk_4, fgk_5, fgk_6, fgk_7, fgk_8, fgk_9, fgk_10, fgk_11, fgk_12, fgk_13, fsk_0, fsk_1, fsk_2, fsk_3, fsk_4, fsk_5, fsk_6, fsk_7, fsk_8, fsk_9, fsk_10, fsk_11, fsk_12, fsk_13, ca_i, ca_r, ca_n, Nat.reduceLT, true_or, or_true, if_true, false_or, or_false, and_true, true_and, List.mem_singleton, eq_self, c0, c6, nf_5, nI_leI, hlt, ix_nI, e5, n10_, pk_div, nI_rm, b1, b2, nI_1]
          · by_cases ei : i = p
            · subst ei
              exact ⟨fun q => Classical.byContradiction fun q2 => cA ⟨q, q2⟩, fun q => Classical.byContradiction fun q2 => cB ⟨q, q2⟩⟩
            · exact (g7 e).2.2 i (by omega) h2 h3
    · rw [bI_f ct] at e5
      obtain ⟨σ', f, g, ch', c', g1, g2, g3, g4, g5, g6, g7, g8⟩ := ih (p + 1) c N σ ch (by omega) h h5 hD hch
      refine ⟨σ', f, g, ch', c', ?_, g2, g3, g4, g5, g6, fun e => ⟨(g7 e).1, (g7 e).2.1, fun i h1 h2 h3 => ?_⟩, g8⟩
      · rw [← g1]
        conv => lhs; rw [b293_6]
        simp (disch := first | assumption | omega | decide) only [K293_6, b293_8, K293_8, R_cons, go_nx, go_jp, go_rt, go_th, go_ca, go_no, go_ite, rr_v, rr_n, rr_x, hx_n, hx_p, hx_b, I_push, I_pushl, I_fc0, I_fc1, I_dc0, I_null, I_mask, I_iload, I_lload, I_dload, I_fload, I_aload, I_istore, I_lstore, I_dstore, I_fstore, I_astore, I_iinc, I_iadd, I_isub, I_imul, I_iand, I_ior, I_ixor, I_ishl, I_ishr, I_iushr, I_ineg, I_ladd, I_lsub, I_lmul, I_lxor, I_i2l, I_l2i, I_i2b, I_i2c, I_i2f, I_i2d, I_lcmp, I_fdiv, I_ddiv, I_f2d, I_dcmp, I_dup, I_pop, I_dup_x1, I_dup2, I_icne, I_iceq, I_iclt, I_icge, I_icgt, I_icle, I_ifnull, I_ifnonnull, I_ane, I_aeq, I_goto, I_lsw, I_iret, I_lret, I_fret, I_dret, I_vret, I_nret, I_aret, I_iald, I_bald, I_lald, I_aald, I_iast, I_bast, I_last, I_aast, I_alen, I_new, I_val, I_cast, I_inst, I_obj, I_throw, I_mkx, I_getf, I_putf, I_call, I_calli, I_callv, I_clone, I_getc, i_ifeq, i_ifne, i_iflt, i_ifge, i_ifgt, i_ifle, i_idiv, i_irem, i_newa, i_newo, i_abs, i_max, i_min, i_ldiv, en_, es_i, es_r, es_0, es_n, es_l, List.length_cons, List.length_nil, List.cons_append, List.nil_append, Nat.reduceAdd, Nat.reduceSub, List.replicate, lg_, st1_, st2_, cn_, nl_, mk_, pk_, kd_, sl_, la_, ft_a, ft_i, ft_l, ft_o, ft_n, ft_b0, ft_b1, ft_bI, nr_0, nr_1, nr_bI, ro_, no_, if_true, if_false, ite_true, ite_false, reduceIte, Nat.reduceMod, Nat.reduceEqDiff, Nat.zero_add, Nat.add_zero, lk_, lit_, nI_add, nI_mul, ix_nI, fgk_0, fgk_1, fgk_2, fgk_3, fgk_4, fgk_5, fgk_6, fgk_7, fgk_8, fgk_9, fgk_10, fgk_11, fgk_12, fgk_13, fsk_0, fsk_1, fsk_2, fsk_3, fsk_4, fsk_5, fsk_6, fsk_7, fsk_8, fsk_9, fsk_10, fsk_11, fsk_12, fsk_13, ca_i, ca_r, ca_n, Nat.reduceLT, true_or, or_true, if_true, false_or, or_false, and_true, true_and, List.mem_singleton, eq_self, c0, c6, nf_5, nI_leI, hlt, ix_nI, e5, nI_1]
      · have ei : i ≠ p := fun q => ct (by rw [← q]; exact h3)
        exact (g7 e).2.2 i (by omega) h2 h3
end CNK
section CNK2
variable {E : En_} {σ : As_} {w n s b bb q : Nat} {r : Nat → Int32} {ms ss : List Nat} {h0 : Nat → Option Ac_} {lc : Ac_} {N : Nat → Nat → Int32} {pt : Nat → Nat} {tk : Nat → Bool}
theorem d1_lp (hpt : ∀ j, j < 12 → pt j < 12) : ∀ (d k : Nat) (N : Nat → Nat → Int32) (σ : As_) (u2 : Option Value), k + d = 12 → NV_ h0 σ b bb q w lc N → (∀ j, j < 12 → N 4 j = nI (pt j)) → (∀ j, j < k → N 9 j = if pt j = j then nI 0 else -nI 1) →
    ∃ σ' f g, R_ E 293 (B_ E 293 1) [some (.ref b), some (.int (nI k)), u2] [] σ = R_ E 293 (B_ E 293 4) [some (.ref b), some (.int (nI 12)), none] [] σ' ∧ NV_ h0 σ' b bb q w lc (um (um N 8 f) 9 g) ∧ (∀ j, j < 12 → g j = if pt j = j then nI 0 else -nI 1) ∧ σ'.1 = σ.1 ∧ σ'.2.1 = σ.2.1 := by
  intro d
  induction d with
  | zero =>
    intro k N σ u2 hk h h4 h9
    obtain rfl : k = 12 := by omega
    refine ⟨σ, N 8, N 9, ?_, by rw [um_id, um_id]; exact h, h9, rfl, rfl⟩
    conv => lhs; rw [b293_1]
    simp (disch := omega) only [K293_1, R_cons, go_nx, go_jp, go_rt, go_th, go_ca, go_no, go_ite, rr_v, rr_n, rr_x, hx_n, hx_p, hx_b, I_push, I_pushl, I_fc0, I_fc1, I_dc0, I_null, I_mask, I_iload, I_lload, I_dload, I_fload, I_aload, I_istore, I_lstore, I_dstore, I_fstore, I_astore, I_iinc, I_iadd, I_isub, I_imul, I_iand, I_ior, I_ixor, I_ishl, I_ishr, I_iushr, I_ineg, I_ladd, I_lsub, I_lmul, I_lxor, I_i2l, I_l2i, I_i2b, I_i2c, I_i2f, I_i2d, I_lcmp, I_fdiv, I_ddiv, I_f2d, I_dcmp, I_dup, I_pop, I_dup_x1, I_dup2, I_icne, I_iceq, I_iclt, I_icge, I_icgt, I_icle, I_ifnull, I_ifnonnull, I_ane, I_aeq, I_goto, I_lsw, I_iret, I_lret, I_fret, I_dret, I_vret, I_nret, I_aret, I_iald, I_bald, I_lald, I_aald, I_iast, I_bast, I_last, I_aast, I_alen, I_new, I_val, I_cast, I_inst, I_obj, I_throw, I_mkx, I_getf, I_putf, I_call, I_calli, I_callv, I_clone, I_getc, i_ifeq, i_ifne, i_iflt, i_ifge, i_ifgt, i_ifle, i_idiv, i_irem, i_newa, i_newo, i_abs, i_max, i_min, i_ldiv, en_, es_i, es_r, es_0, es_n, es_l, List.length_cons, List.length_nil, List.cons_append, List.nil_append, Nat.reduceAdd, Nat.reduceSub, List.replicate, lg_, st1_, st2_, cn_, nl_, mk_, pk_, kd_, sl_, la_, ft_a, ft_i, ft_l, ft_o, ft_n, ft_b0, ft_b1, ft_bI, nr_0, nr_1, nr_bI, ro_, no_, if_true, if_false, ite_true, ite_false, reduceIte, Nat.reduceMod, Nat.reduceEqDiff, Nat.zero_add, Nat.add_zero, lk_, lit_, nI_add, nI_mul, ix_nI, fgk_0, fgk_1, fgk_2, fgk_3, fgk_4, fgk_5, fgk_6, fgk_7, fgk_8, fgk_9, fgk_10, fgk_11, fgk_12, fgk_13, fsk_0, fsk_1, fsk_2, fsk_3, fsk_4, fsk_5, fsk_6, fsk_7, fsk_8, fsk_9, fsk_10, fsk_11, fsk_12, fsk_13, ca_i, ca_r, ca_n, Nat.reduceLT, true_or, or_true, if_true, false_or, or_false, and_true, true_and, List.mem_singleton, eq_self, nI_leI, Nat.le_refl]
  | succ d ih =>
    intro k N σ u2 hk h h4 h9
    have hlt : ¬ 12 ≤ k := by omega
    have hpk := hpt k (by omega)
    have e4 := h4 k (by omega)
    obtain ⟨⟨c0, c1, c2, c3, c4, c5, c6, c8, c9, c10, _⟩, _⟩ := id h
    have hbq := h.2.2.2.2
    have ne0 : b ≠ q := by omega
    have ne1 : q + 1 ≠ q := by omega
    have ne2 : bb + 5 ≠ q := by omega
    have hN := NV_9 (f := upd (N 9) k (if pt k = k then nI 0 else -nI 1)) (NV_8 (f := upd (N 8) k (-nI 1)) h)
    obtain ⟨σ', f, g, g1, g2, g3, g4, g5⟩ := ih (k + 1) _ _ none (by omega) hN h4 (fun j hj => by
      show upd (N 9) k (if pt k = k then nI 0 else -nI 1) j = _
      by_cases e : j = k
      · rw [e, upd_s]
      · rw [upd_n e]; exact h9 j (by omega))
    have e1 : um (um (um (um N 8 (upd (N 8) k (-nI 1))) 9 (upd (N 9) k (if pt k = k then nI 0 else -nI 1))) 8 f) 9 g = um (um N 8 f) 9 g := by
      funext i
      unfold um
      by_cases q9 : i = 9
      · simp only [if_pos q9]
      · simp only [if_neg q9]
        by_cases q8 : i = 8
        · simp only [if_pos q8]
        · simp only [if_neg q8]
    rw [e1] at g2
    refine ⟨σ', f, g, ?_, g2, g3, g4, g5⟩
    rw [← g1]
    conv => lhs; rw [b293_1]
    by_cases c : pt k = k
    · rw [if_pos c]
      rw [c] at e4
      simp (disch := first | assumption | omega) only [K293_1, b293_3, K293_3, R_cons, go_nx, go_jp, go_rt, go_th, go_ca, go_no, go_ite, rr_v, rr_n, rr_x, hx_n, hx_p, hx_b, I_push, I_pushl, I_fc0, I_fc1, I_dc0, I_null, I_mask, I_iload, I_lload, I_dload, I_fload, I_aload, I_istore, I_lstore, I_dstore, I_fstore, I_astore, I_iinc, I_iadd, I_isub, I_imul, I_iand, I_ior, I_ixor, I_ishl, I_ishr, I_iushr, I_ineg, I_ladd, I_lsub, I_lmul, I_lxor, I_i2l, I_l2i, I_i2b, I_i2c, I_i2f, I_i2d, I_lcmp, I_fdiv, I_ddiv, I_f2d, I_dcmp, I_dup, I_pop, I_dup_x1, I_dup2, I_icne, I_iceq, I_iclt, I_icge, I_icgt, I_icle, I_ifnull, I_ifnonnull, I_ane, I_aeq, I_goto, I_lsw, I_iret, I_lret, I_fret, I_dret, I_vret, I_nret, I_aret, I_iald, I_bald, I_lald, I_aald, I_iast, I_bast, I_last, I_aast, I_alen, I_new, I_val, I_cast, I_inst, I_obj, I_throw, I_mkx, I_getf, I_putf, I_call, I_calli, I_callv, I_clone, I_getc, i_ifeq, i_ifne, i_iflt, i_ifge, i_ifgt, i_ifle, i_idiv, i_irem, i_newa, i_newo, i_abs, i_max, i_min, i_ldiv, en_, es_i, es_r, es_0, es_n, es_l, List.length_cons, List.length_nil, List.cons_append, List.nil_append, Nat.reduceAdd, Nat.reduceSub, List.replicate, lg_, st1_, st2_, cn_, nl_, mk_, pk_, kd_, sl_, la_, ft_a, ft_i, ft_l, ft_o, ft_n, ft_b0, ft_b1, ft_bI, nr_0, nr_1, nr_bI, ro_, no_, if_true, if_false, ite_true, ite_false, reduceIte, Nat.reduceMod, Nat.reduceEqDiff, Nat.zero_add, Nat.add_zero, lk_, lit_, nI_add, nI_mul, ix_nI, fgk_0, fgk_1, fgk_2, fgk_3, fgk_4, fgk_5, fgk_6, fgk_7, fgk_8, fgk_9, fgk_10, fgk_11, fgk_12, fgk_13, fsk_0, fsk_1, fsk_2, fsk_3, fsk_4, fsk_5, fsk_6, fsk_7, fsk_8, fsk_9, fsk_10, fsk_11, fsk_12, fsk_13, ca_i, ca_r, ca_n, Nat.reduceLT, true_or, or_true, if_true, false_or, or_false, and_true, true_and, List.mem_singleton, eq_self, nI_leI, hlt, c0, c8, c9, c5, nf_8, nf_9, nf_4, ix_nI, up_s, up_n, e4, nI_1]
    · rw [if_neg c]
      have c' : ¬ nI (pt k) = nI k := by rw [nI_eq (by omega) (by omega)]; exact c
      simp (disch := first | assumption | omega) only [K293_1, b293_2, K293_2, b293_3, K293_3, R_cons, go_nx, go_jp, go_rt, go_th, go_ca, go_no, go_ite, rr_v, rr_n, rr_x, hx_n, hx_p, hx_b, I_push, I_pushl, I_fc0, I_fc1, I_dc0, I_null, I_mask, I_iload, I_lload, I_dload, I_fload, I_aload, I_istore, I_lstore, I_dstore, I_fstore, I_astore, I_iinc, I_iadd, I_isub, I_imul, I_iand, I_ior, I_ixor, I_ishl, I_ishr, I_iushr, I_ineg, I_ladd, I_lsub, I_lmul, I_lxor, I_i2l, I_l2i, I_i2b, I_i2c, I_i2f, I_i2d, I_lcmp, I_fdiv, I_ddiv, I_f2d, I_dcmp, I_dup, I_pop, I_dup_x1, I_dup2, I_icne, I_iceq, I_iclt, I_icge, I_icgt, I_icle, I_ifnull, I_ifnonnull, I_ane, I_aeq, I_goto, I_lsw, I_iret, I_lret, I_fret, I_dret, I_vret, I_nret, I_aret, I_iald, I_bald, I_lald, I_aald, I_iast, I_bast, I_last, I_aast, I_alen, I_new, I_val, I_cast, I_inst, I_obj, I_throw, I_mkx, I_getf, I_putf, I_call, I_calli, I_callv, I_clone, I_getc, i_ifeq, i_ifne, i_iflt, i_ifge, i_ifgt, i_ifle, i_idiv, i_irem, i_newa, i_newo, i_abs, i_max, i_min, i_ldiv, en_, es_i, es_r, es_0, es_n, es_l, List.length_cons, List.length_nil, List.cons_append, List.nil_append, Nat.reduceAdd, Nat.reduceSub, List.replicate, lg_, st1_, st2_, cn_, nl_, mk_, pk_, kd_, sl_, la_, ft_a, ft_i, ft_l, ft_o, ft_n, ft_b0, ft_b1, ft_bI, nr_0, nr_1, nr_bI, ro_, no_, if_true, if_false, ite_true, ite_false, reduceIte, Nat.reduceMod, Nat.reduceEqDiff, Nat.zero_add, Nat.add_zero, lk_, lit_, nI_add, nI_mul, ix_nI, fgk_0, fgk_1, fgk_2, fgk_3, fgk_4, fgk_5, fgk_6, fgk_7, fgk_8, fgk_9, fgk_10, fgk_11, fgk_12, fgk_13, fsk_0, fsk_1, fsk_2, fsk_3, fsk_4, fsk_5, fsk_6, fsk_7, fsk_8, fsk_9, fsk_10, fsk_11, fsk_12, fsk_13, ca_i, ca_r, ca_n, Nat.reduceLT, true_or, or_true, if_true, false_or, or_false, and_true, true_and, List.mem_singleton, eq_self, nI_leI, hlt, c0, c8, c9, c5, nf_8, nf_9, nf_4, ix_nI, up_s, up_n, e4, c', nI_1]
theorem d5_lp (hn : n ≤ 12) (htk : ∀ k, tk k = true → k / 12 < k % 12 ∧ k % 12 < n) (hadj : ∀ k, tk k = true → adj_ tk (k / 12) (k % 12)) : ∀ (m c : Nat) (N : Nat → Nat → Int32) (σ : As_) (u2 : Option Value), urc_ (N 9) 12 < m → NV_ h0 σ b bb q w lc N → (∀ p, p < 144 → N 5 p = bI (tk p = true)) → Dp_ n pt tk (N 8) (N 9) c →
    ∃ σ' f g c', R_ E 293 (B_ E 293 5) [some (.ref b), some (.int (nI 1)), u2] [] σ = some (.inl none, σ') ∧ NV_ h0 σ' b bb q w lc (um (um N 8 f) 9 g) ∧ Dp_ n pt tk f g c' ∧ (∀ i, i < 144 → tk i = true → (g (i / 12) = -nI 1 ↔ g (i % 12) = -nI 1)) ∧ σ'.1 = σ.1 ∧ σ'.2.1 = σ.2.1 := by
  intro m
  induction m with
  | zero => intro c N σ u2 hm; omega
  | succ m ih =>
    intro c N σ u2 hm h h5 hD
    obtain ⟨σ1, f, g, ch, c', g1, g2, g3, g4, g5, g6, g7, g8, g9⟩ := d6_lp (E := E) hn htk hadj 144 0 c N σ (nI 0) (by omega) h h5 hD (Or.inl rfl)
    rcases g4 with e | e
    · obtain ⟨_, x1, x2⟩ := g7 e
      refine ⟨σ1, f, g, c', ?_, g2, g3, fun i hi ht => by rw [x1]; exact x2 i (Nat.zero_le _) hi ht, g8, g9⟩
      rw [b293_5]
      simp (disch := omega) only [K293_5, R_cons, go_nx, go_jp, go_rt, go_th, go_ca, go_no, go_ite, rr_v, rr_n, rr_x, hx_n, hx_p, hx_b, I_push, I_pushl, I_fc0, I_fc1, I_dc0, I_null, I_mask, I_iload, I_lload, I_dload, I_fload, I_aload, I_istore, I_lstore, I_dstore, I_fstore, I_astore, I_iinc, I_iadd, I_isub, I_imul, I_iand, I_ior, I_ixor, I_ishl, I_ishr, I_iushr, I_ineg, I_ladd, I_lsub, I_lmul, I_lxor, I_i2l, I_l2i, I_i2b, I_i2c, I_i2f, I_i2d, I_lcmp, I_fdiv, I_ddiv, I_f2d, I_dcmp, I_dup, I_pop, I_dup_x1, I_dup2, I_icne, I_iceq, I_iclt, I_icge, I_icgt, I_icle, I_ifnull, I_ifnonnull, I_ane, I_aeq, I_goto, I_lsw, I_iret, I_lret, I_fret, I_dret, I_vret, I_nret, I_aret, I_iald, I_bald, I_lald, I_aald, I_iast, I_bast, I_last, I_aast, I_alen, I_new, I_val, I_cast, I_inst, I_obj, I_throw, I_mkx, I_getf, I_putf, I_call, I_calli, I_callv, I_clone, I_getc, i_ifeq, i_ifne, i_iflt, i_ifge, i_ifgt, i_ifle, i_idiv, i_irem, i_newa, i_newo, i_abs, i_max, i_min, i_ldiv, en_, es_i, es_r, es_0, es_n, es_l, List.length_cons, List.length_nil, List.cons_append, List.nil_append, Nat.reduceAdd, Nat.reduceSub, List.replicate, lg_, st1_, st2_, cn_, nl_, mk_, pk_, kd_, sl_, la_, ft_a, ft_i, ft_l, ft_o, ft_n, ft_b0, ft_b1, ft_bI, nr_0, nr_1, nr_bI, ro_, no_, if_true, if_false, ite_true, ite_false, reduceIte, Nat.reduceMod, Nat.reduceEqDiff, Nat.zero_add, Nat.add_zero, lk_, lit_, nI_add, nI_mul, ix_nI, fgk_0, fgk_1, fgk_2, fgk_3, fgk_4, fgk_5, fgk_6, fgk_7, fgk_8, fgk_9, fgk_10, fgk_11, fgk_12, fgk_13, fsk_0, fsk_1, fsk_2, fsk_3, fsk_4, fsk_5, fsk_6, fsk_7, fsk_8, fsk_9, fsk_10, fsk_11, fsk_12, fsk_13, ca_i, ca_r, ca_n, Nat.reduceLT, true_or, or_true, if_true, false_or, or_false, and_true, true_and, List.mem_singleton, eq_self, n10_]
      rw [g1, e, b293_9]
      simp (disch := omega) only [K293_9, b293_5, K293_5, b293_10, K293_10, R_cons, go_nx, go_jp, go_rt, go_th, go_ca, go_no, go_ite, rr_v, rr_n, rr_x, hx_n, hx_p, hx_b, I_push, I_pushl, I_fc0, I_fc1, I_dc0, I_null, I_mask, I_iload, I_lload, I_dload, I_fload, I_aload, I_istore, I_lstore, I_dstore, I_fstore, I_astore, I_iinc, I_iadd, I_isub, I_imul, I_iand, I_ior, I_ixor, I_ishl, I_ishr, I_iushr, I_ineg, I_ladd, I_lsub, I_lmul, I_lxor, I_i2l, I_l2i, I_i2b, I_i2c, I_i2f, I_i2d, I_lcmp, I_fdiv, I_ddiv, I_f2d, I_dcmp, I_dup, I_pop, I_dup_x1, I_dup2, I_icne, I_iceq, I_iclt, I_icge, I_icgt, I_icle, I_ifnull, I_ifnonnull, I_ane, I_aeq, I_goto, I_lsw, I_iret, I_lret, I_fret, I_dret, I_vret, I_nret, I_aret, I_iald, I_bald, I_lald, I_aald, I_iast, I_bast, I_last, I_aast, I_alen, I_new, I_val, I_cast, I_inst, I_obj, I_throw, I_mkx, I_getf, I_putf, I_call, I_calli, I_callv, I_clone, I_getc, i_ifeq, i_ifne, i_iflt, i_ifge, i_ifgt, i_ifle, i_idiv, i_irem, i_newa, i_newo, i_abs, i_max, i_min, i_ldiv, en_, es_i, es_r, es_0, es_n, es_l, List.length_cons, List.length_nil, List.cons_append, List.nil_append, Nat.reduceAdd, Nat.reduceSub, List.replicate, lg_, st1_, st2_, cn_, nl_, mk_, pk_, kd_, sl_, la_, ft_a, ft_i, ft_l, ft_o, ft_n, ft_b0, ft_b1, ft_bI, nr_0, nr_1, nr_bI, ro_, no_, if_true, if_false, ite_true, ite_false, reduceIte, Nat.reduceMod, Nat.reduceEqDiff, Nat.zero_add, Nat.add_zero, lk_, lit_, nI_add, nI_mul, ix_nI, fgk_0, fgk_1, fgk_2, fgk_3, fgk_4, fgk_5, fgk_6, fgk_7, fgk_8, fgk_9, fgk_10, fgk_11, fgk_12, fgk_13, fsk_0, fsk_1, fsk_2, fsk_3, fsk_4, fsk_5, fsk_6, fsk_7, fsk_8, fsk_9, fsk_10, fsk_11, fsk_12, fsk_13, ca_i, ca_r, ca_n, Nat.reduceLT, true_or, or_true, if_true, false_or, or_false, and_true, true_and, List.mem_singleton, eq_self]
    · have hlt : urc_ g 12 < urc_ (N 9) 12 := by
        rcases g6 e with q | q
        · exact absurd q (by decide)
        · exact q
      obtain ⟨σ', f', g', c'', j1, j2, j3, j4, j5, j6⟩ := ih c' (um (um N 8 f) 9 g) σ1 none (by show urc_ g 12 < m; omega) g2 h5 g3
      have e1 : um (um (um (um N 8 f) 9 g) 8 f') 9 g' = um (um N 8 f') 9 g' := by
        funext i
        unfold um
        by_cases q9 : i = 9
        · simp only [if_pos q9]
        · simp only [if_neg q9]
          by_cases q8 : i = 8
          · simp only [if_pos q8]
          · simp only [if_neg q8]
      rw [e1] at j2
      refine ⟨σ', f', g', c'', ?_, j2, j3, j4, j5.trans g8, j6.trans g9⟩
      rw [← j1]
      conv => lhs; rw [b293_5]
      simp (disch := omega) only [K293_5, R_cons, go_nx, go_jp, go_rt, go_th, go_ca, go_no, go_ite, rr_v, rr_n, rr_x, hx_n, hx_p, hx_b, I_push, I_pushl, I_fc0, I_fc1, I_dc0, I_null, I_mask, I_iload, I_lload, I_dload, I_fload, I_aload, I_istore, I_lstore, I_dstore, I_fstore, I_astore, I_iinc, I_iadd, I_isub, I_imul, I_iand, I_ior, I_ixor, I_ishl, I_ishr, I_iushr, I_ineg, I_ladd, I_lsub, I_lmul, I_lxor, I_i2l, I_l2i, I_i2b, I_i2c, I_i2f, I_i2d, I_lcmp, I_fdiv, I_ddiv, I_f2d, I_dcmp, I_dup, I_pop, I_dup_x1, I_dup2, I_icne, I_iceq, I_iclt, I_icge, I_icgt, I_icle, I_ifnull, I_ifnonnull, I_ane, I_aeq, I_goto, I_lsw, I_iret, I_lret, I_fret, I_dret, I_vret, I_nret, I_aret, I_iald, I_bald, I_lald, I_aald, I_iast, I_bast, I_last, I_aast, I_alen, I_new, I_val, I_cast, I_inst, I_obj, I_throw, I_mkx, I_getf, I_putf, I_call, I_calli, I_callv, I_clone, I_getc, i_ifeq, i_ifne, i_iflt, i_ifge, i_ifgt, i_ifle, i_idiv, i_irem, i_newa, i_newo, i_abs, i_max, i_min, i_ldiv, en_, es_i, es_r, es_0, es_n, es_l, List.length_cons, List.length_nil, List.cons_append, List.nil_append, Nat.reduceAdd, Nat.reduceSub, List.replicate, lg_, st1_, st2_, cn_, nl_, mk_, pk_, kd_, sl_, la_, ft_a, ft_i, ft_l, ft_o, ft_n, ft_b0, ft_b1, ft_bI, nr_0, nr_1, nr_bI, ro_, no_, if_true, if_false, ite_true, ite_false, reduceIte, Nat.reduceMod, Nat.reduceEqDiff, Nat.zero_add, Nat.add_zero, lk_, lit_, nI_add, nI_mul, ix_nI, fgk_0, fgk_1, fgk_2, fgk_3, fgk_4, fgk_5, fgk_6, fgk_7, fgk_8, fgk_9, fgk_10, fgk_11, fgk_12, fgk_13, fsk_0, fsk_1, fsk_2, fsk_3, fsk_4, fsk_5, fsk_6, fsk_7, fsk_8, fsk_9, fsk_10, fsk_11, fsk_12, fsk_13, ca_i, ca_r, ca_n, Nat.reduceLT, true_or, or_true, if_true, false_or, or_false, and_true, true_and, List.mem_singleton, eq_self, n10_]
      rw [g1, e, b293_9]
      simp (disch := omega) only [K293_9, R_cons, go_nx, go_jp, go_rt, go_th, go_ca, go_no, go_ite, rr_v, rr_n, rr_x, hx_n, hx_p, hx_b, I_push, I_pushl, I_fc0, I_fc1, I_dc0, I_null, I_mask, I_iload, I_lload, I_dload, I_fload, I_aload, I_istore, I_lstore, I_dstore, I_fstore, I_astore, I_iinc, I_iadd, I_isub, I_imul, I_iand, I_ior, I_ixor, I_ishl, I_ishr, I_iushr, I_ineg, I_ladd, I_lsub, I_lmul, I_lxor, I_i2l, I_l2i, I_i2b, I_i2c, I_i2f, I_i2d, I_lcmp, I_fdiv, I_ddiv, I_f2d, I_dcmp, I_dup, I_pop, I_dup_x1, I_dup2, I_icne, I_iceq, I_iclt, I_icge, I_icgt, I_icle, I_ifnull, I_ifnonnull, I_ane, I_aeq, I_goto, I_lsw, I_iret, I_lret, I_fret, I_dret, I_vret, I_nret, I_aret, I_iald, I_bald, I_lald, I_aald, I_iast, I_bast, I_last, I_aast, I_alen, I_new, I_val, I_cast, I_inst, I_obj, I_throw, I_mkx, I_getf, I_putf, I_call, I_calli, I_callv, I_clone, I_getc, i_ifeq, i_ifne, i_iflt, i_ifge, i_ifgt, i_ifle, i_idiv, i_irem, i_newa, i_newo, i_abs, i_max, i_min, i_ldiv, en_, es_i, es_r, es_0, es_n, es_l, List.length_cons, List.length_nil, List.cons_append, List.nil_append, Nat.reduceAdd, Nat.reduceSub, List.replicate, lg_, st1_, st2_, cn_, nl_, mk_, pk_, kd_, sl_, la_, ft_a, ft_i, ft_l, ft_o, ft_n, ft_b0, ft_b1, ft_bI, nr_0, nr_1, nr_bI, ro_, no_, if_true, if_false, ite_true, ite_false, reduceIte, Nat.reduceMod, Nat.reduceEqDiff, Nat.zero_add, Nat.add_zero, lk_, lit_, nI_add, nI_mul, ix_nI, fgk_0, fgk_1, fgk_2, fgk_3, fgk_4, fgk_5, fgk_6, fgk_7, fgk_8, fgk_9, fgk_10, fgk_11, fgk_12, fgk_13, fsk_0, fsk_1, fsk_2, fsk_3, fsk_4, fsk_5, fsk_6, fsk_7, fsk_8, fsk_9, fsk_10, fsk_11, fsk_12, fsk_13, ca_i, ca_r, ca_n, Nat.reduceLT, true_or, or_true, if_true, false_or, or_false, and_true, true_and, List.mem_singleton, eq_self]
theorem D_walk {D : Nat → Int32} (hx : ∀ i, i < 144 → tk i = true → (D (i / 12) = -nI 1 ↔ D (i % 12) = -nI 1)) : ∀ (w : List Nat) (a c : Nat), wab_ tk a c w → (∀ z ∈ w, z < 12) → (D a = -nI 1 ↔ D c = -nI 1) := by
  have hadj : ∀ x y, x < 12 → y < 12 → adj_ tk x y → (D x = -nI 1 ↔ D y = -nI 1) := by
    intro x y hx1 hy1 ha
    have hp : pa_ x y < 144 := pa_lt hx1 hy1
    have h1 := hx _ hp ha.2
    by_cases c : x < y
    · have e : pa_ x y = 12 * x + y := if_pos c
      rw [e] at h1
      rw [show (12 * x + y) / 12 = x by omega, show (12 * x + y) % 12 = y by omega] at h1
      exact h1
    · have e : pa_ x y = 12 * y + x := by rw [pa_co]; exact if_pos (by have := ha.1; omega)
      rw [e] at h1
      rw [show (12 * y + x) / 12 = y by omega, show (12 * y + x) % 12 = x by omega] at h1
      exact h1.symm
  intro w
  induction w with
  | nil => intro a c h; exact absurd h.1 (by simp [wk_])
  | cons x w ih =>
    intro a c h hz
    obtain ⟨h1, h2, h3⟩ := h
    have e1 : x = a := by simpa using h2
    subst e1
    cases w with
    | nil =>
      have e2 : x = c := by simpa using h3
      rw [e2]
    | cons y w =>
      rw [wk_] at h1
      have h4 := hadj x y (hz x (by simp)) (hz y (by simp)) h1.1
      exact h4.trans (ih y c ⟨h1.2.2, rfl, by rw [List.getLast?_cons_cons] at h3; exact h3⟩ (fun z hz1 => hz z (List.mem_cons_of_mem _ hz1)))
def Dq_ (n : Nat) (pt : Nat → Nat) (tk : Nat → Bool) (H D : Nat → Int32) : Prop := ∀ k, k < n → ∃ d, d ≤ 12 ∧ D k = nI d ∧ ((d = 0 ∧ pt k = k) ∨ (0 < d ∧ ∃ y, y < n ∧ H k = nI y ∧ adj_ tk k y ∧ D y = nI (d - 1)))
theorem N_layDepths (hW : Wr_ r n s) (h : NV_ h0 σ b bb q w lc N) (h4 : ∀ j, j < 12 → N 4 j = nI (prt_ r n s j)) (h5 : ∀ p, p < 144 → N 5 p = bI (tkn_ r n s p = true)) : ∃ σ' f g, D_ E 293 [.ref b] σ = some (.inl none, σ') ∧ NV_ h0 σ' b bb q w lc (um (um N 8 f) 9 g) ∧ Dq_ n (prt_ r n s) (tkn_ r n s) f g ∧ σ'.1 = σ.1 ∧ σ'.2.1 = σ.2.1 := by
  have hn := wr_n12 hW
  obtain ⟨hP, hF, _, hT⟩ := kr_all (r := r) (n := n) (s := s) hn
  have hpt : ∀ j, j < 12 → prt_ r n s j < 12 := fun j hj => by
    have key : ∀ (l : List Nat) (x : (Nat → Nat) × (Nat → Bool)), (∀ p ∈ l, p < 144) → (∀ j, j < 12 → x.1 j < 12) → ∀ j, j < 12 → (ksf_ l x).1 j < 12 := by
      intro l
      induction l with
      | nil => intro x _ h j hj; exact h j hj
      | cons p l ih =>
        intro x hp h
        refine ih _ (fun p hq => hp p (List.mem_cons_of_mem _ hq)) (fun j hj => ?_)
        have h1 := h (p / 12) (by have := hp p List.mem_cons_self; omega)
        have h2 := h (p % 12) (by omega)
        have h3 := h j hj
        unfold ks1_
        split
        · exact h3
        · show joi_ x.1 (p / 12) (p % 12) j < 12
          unfold joi_
          split <;> omega
    have h2 := key (sge_ r s) (id, fun _ => false) (fun p hp => ((sge_spec (r := r) (s := s)).2 p).mp hp |>.1) (fun j hj => hj) j hj
    rw [ks_all hW] at h2
    exact h2
  obtain ⟨σ1, f1, g1, k1, k2, k3, k4, k5⟩ := d1_lp (E := E) hpt 12 0 N σ none (by omega) h h4 (fun j hj => by omega)
  have hz : ∀ m, m ≤ 12 → urc_ g1 m ≤ m := by
    intro m
    induction m with
    | zero => intro _; exact Nat.le_refl _
    | succ m ih =>
      intro hm
      rw [urc_]
      have := ih (by omega)
      split <;> omega
  have hD : Dp_ n (prt_ r n s) (tkn_ r n s) f1 g1 0 := by
    refine ⟨fun k hk => ?_, by have := hz 12 (Nat.le_refl _); omega⟩
    rw [k3 k hk]
    by_cases c : prt_ r n s k = k
    · rw [if_pos c]
      exact Or.inr ⟨0, Nat.le_refl _, rfl, Or.inl ⟨rfl, c⟩⟩
    · rw [if_neg c]
      exact Or.inl ⟨rfl, c⟩
  obtain ⟨σ2, f2, g2, c2, l1, l2, l3, l4, l5, l6⟩ := d5_lp (E := E) hn (fun k hk => (hT k hk).2) (fun k hk => by
    have hk2 := (hT k hk).2
    refine ⟨by omega, ?_⟩
    have e : pa_ (k / 12) (k % 12) = k := by
      have : pa_ (k / 12) (k % 12) = 12 * (k / 12) + k % 12 := if_pos hk2.1
      omega
    rw [e]
    exact hk) 13 0 (um (um N 8 f1) 9 g1) σ1 none (by show urc_ g1 12 < 13; have := hz 12 (Nat.le_refl _); omega) k2 h5 hD
  have e1 : um (um (um (um N 8 f1) 9 g1) 8 f2) 9 g2 = um (um N 8 f2) 9 g2 := by
    funext i
    unfold um
    by_cases q9 : i = 9
    · simp only [if_pos q9]
    · simp only [if_neg q9]
      by_cases q8 : i = 8
      · simp only [if_pos q8]
      · simp only [if_neg q8]
  rw [e1] at l2
  refine ⟨σ2, f2, g2, ?_, l2, fun k hk => ?_, l5.trans k4, l6.trans k5⟩
  · rw [← l1, D_run]
    simp (disch := omega) only [b293_0, K293_0, l293, R_cons, go_nx, go_jp, go_rt, go_th, go_ca, go_no, go_ite, rr_v, rr_n, rr_x, hx_n, hx_p, hx_b, I_push, I_pushl, I_fc0, I_fc1, I_dc0, I_null, I_mask, I_iload, I_lload, I_dload, I_fload, I_aload, I_istore, I_lstore, I_dstore, I_fstore, I_astore, I_iinc, I_iadd, I_isub, I_imul, I_iand, I_ior, I_ixor, I_ishl, I_ishr, I_iushr, I_ineg, I_ladd, I_lsub, I_lmul, I_lxor, I_i2l, I_l2i, I_i2b, I_i2c, I_i2f, I_i2d, I_lcmp, I_fdiv, I_ddiv, I_f2d, I_dcmp, I_dup, I_pop, I_dup_x1, I_dup2, I_icne, I_iceq, I_iclt, I_icge, I_icgt, I_icle, I_ifnull, I_ifnonnull, I_ane, I_aeq, I_goto, I_lsw, I_iret, I_lret, I_fret, I_dret, I_vret, I_nret, I_aret, I_iald, I_bald, I_lald, I_aald, I_iast, I_bast, I_last, I_aast, I_alen, I_new, I_val, I_cast, I_inst, I_obj, I_throw, I_mkx, I_getf, I_putf, I_call, I_calli, I_callv, I_clone, I_getc, i_ifeq, i_ifne, i_iflt, i_ifge, i_ifgt, i_ifle, i_idiv, i_irem, i_newa, i_newo, i_abs, i_max, i_min, i_ldiv, en_, es_i, es_r, es_0, es_n, es_l, List.length_cons, List.length_nil, List.cons_append, List.nil_append, Nat.reduceAdd, Nat.reduceSub, List.replicate, lg_, st1_, st2_, cn_, nl_, mk_, pk_, kd_, sl_, la_, ft_a, ft_i, ft_l, ft_o, ft_n, ft_b0, ft_b1, ft_bI, nr_0, nr_1, nr_bI, ro_, no_, if_true, if_false, ite_true, ite_false, reduceIte, Nat.reduceMod, Nat.reduceEqDiff, Nat.zero_add, Nat.add_zero, lk_, lit_, nI_add, nI_mul, ix_nI, fgk_0, fgk_1, fgk_2, fgk_3, fgk_4, fgk_5, fgk_6, fgk_7, fgk_8, fgk_9, fgk_10, fgk_11, fgk_12, fgk_13, fsk_0, fsk_1, fsk_2, fsk_3, fsk_4, fsk_5, fsk_6, fsk_7, fsk_8, fsk_9, fsk_10, fsk_11, fsk_12, fsk_13, ca_i, ca_r, ca_n, Nat.reduceLT, true_or, or_true, if_true, false_or, or_false, and_true, true_and, List.mem_singleton, eq_self]
    rw [k1]
    simp (disch := omega) only [b293_4, K293_4, R_cons, go_nx, go_jp, go_rt, go_th, go_ca, go_no, go_ite, rr_v, rr_n, rr_x, hx_n, hx_p, hx_b, I_push, I_pushl, I_fc0, I_fc1, I_dc0, I_null, I_mask, I_iload, I_lload, I_dload, I_fload, I_aload, I_istore, I_lstore, I_dstore, I_fstore, I_astore, I_iinc, I_iadd, I_isub, I_imul, I_iand, I_ior, I_ixor, I_ishl, I_ishr, I_iushr, I_ineg, I_ladd, I_lsub, I_lmul, I_lxor, I_i2l, I_l2i, I_i2b, I_i2c, I_i2f, I_i2d, I_lcmp, I_fdiv, I_ddiv, I_f2d, I_dcmp, I_dup, I_pop, I_dup_x1, I_dup2, I_icne, I_iceq, I_iclt, I_icge, I_icgt, I_icle, I_ifnull, I_ifnonnull, I_ane, I_aeq, I_goto, I_lsw, I_iret, I_lret, I_fret, I_dret, I_vret, I_nret, I_aret, I_iald, I_bald, I_lald, I_aald, I_iast, I_bast, I_last, I_aast, I_alen, I_new, I_val, I_cast, I_inst, I_obj, I_throw, I_mkx, I_getf, I_putf, I_call, I_calli, I_callv, I_clone, I_getc, i_ifeq, i_ifne, i_iflt, i_ifge, i_ifgt, i_ifle, i_idiv, i_irem, i_newa, i_newo, i_abs, i_max, i_min, i_ldiv, en_, es_i, es_r, es_0, es_n, es_l, List.length_cons, List.length_nil, List.cons_append, List.nil_append, Nat.reduceAdd, Nat.reduceSub, List.replicate, lg_, st1_, st2_, cn_, nl_, mk_, pk_, kd_, sl_, la_, ft_a, ft_i, ft_l, ft_o, ft_n, ft_b0, ft_b1, ft_bI, nr_0, nr_1, nr_bI, ro_, no_, if_true, if_false, ite_true, ite_false, reduceIte, Nat.reduceMod, Nat.reduceEqDiff, Nat.zero_add, Nat.add_zero, lk_, lit_, nI_add, nI_mul, ix_nI, fgk_0, fgk_1, fgk_2, fgk_3, fgk_4, fgk_5, fgk_6, fgk_7, fgk_8, fgk_9, fgk_10, fgk_11, fgk_12, fgk_13, fsk_0, fsk_1, fsk_2, fsk_3, fsk_4, fsk_5, fsk_6, fsk_7, fsk_8, fsk_9, fsk_10, fsk_11, fsk_12, fsk_13, ca_i, ca_r, ca_n, Nat.reduceLT, true_or, or_true, if_true, false_or, or_false, and_true, true_and, List.mem_singleton, eq_self]
  · have hpk := hP k hk
    obtain ⟨v, hv1, hv2⟩ := hF.2.2 k (prt_ r n s k) hk (by omega) hpk.2.symm
    have hdw := D_walk l4 v _ _ hv1 (fun z hz => by have := hv2 z hz; omega)
    rcases l3.1 k (by omega) with ⟨a1, a2⟩ | ⟨d, d1, d2, d3⟩
    · exfalso
      rcases l3.1 (prt_ r n s k) (by omega) with ⟨_, b2⟩ | ⟨d, d1, d2, _⟩
      · exact b2 hpk.2
      · exact nI_nm1 (by have := l3.2; omega) (d2.symm.trans (hdw.mp a1))
    · exact ⟨d, by have := l3.2; omega, d2, d3⟩
end CNK2
