section CLE
variable {E : En_} {σ : As_} {w am em as es st n s b bb q m' : Nat} {mc mc' : Int32} {ms ss : List Nat} {h0 g : Nat → Option Ac_} {N : Nat → Nat → Int32} {r : Nat → Int32}
theorem nxF (hN : Nx_ E g σ b bb q w N r n s ms ss) (hH : Hok_ r n) :
    ∃ am as st i j fm, σ.2.2 b = some (.inr (6, nf_ bb q w N)) ∧ σ.2.2 w = some (.inr (1, [.ref am, .ref as, .ref st, .int i, .int j])) ∧ σ.2.2 am = some (.inr (11, fm)) ∧ D_ E 26 [.ref am] σ = some (.inl (some (.int (nI n))), σ) ∧
      (∀ k (hk : k < ms.length), D_ E 27 [.ref am, .int (nI k)] σ = some (.inl (some (.ref ms[k])), σ) ∧ (∃ nm, σ.2.2 ms[k] = some (.inr (2, [.ref nm, .int (r (8 + 5 * k + 1)), .int (r (8 + 5 * k + 2)), .int (hgt_ r k)]))) ∧ D_ E 250 [.ref ms[k]] σ = some (.inl (some (.int (bI (r (8 + 5 * k + 3) = nI 1)))), σ)) ∧
      (∀ a c, a < n → c < n → D_ E 307 [.ref b, .int (nI a), .int (nI c)] σ = some (.inl (some (.int (bI (edg_ r s a c)))), σ)) ∧
      (∀ a c, a < n → c < n → D_ E 297 [.ref b, .int (nI a), .int (nI c)] σ = some (.inl (some (.int (rf_ r (err_ r n s) s a c))), σ)) := by
  have hW := hN.2.2.2.2.2.2.1
  obtain ⟨lc, hV⟩ := hN.1
  have hwl := hN.2.2.2.1
  have hlen := hN.2.2.2.2.1
  obtain ⟨am, em, as, es, st, mc1, mc2, hA⟩ := id hwl
  obtain ⟨_, _, _, l5, _⟩ := id hA.2.1
  have hsz := J_size (E := E) hA.2.1
  rw [hlen] at hsz
  refine ⟨am, as, st, _, _, _, hV.1.1, hA.1, l5, hsz, fun k hk => ?_, fun a c ha hc => N_isEdge hV hW hN.2.1.2.1.1 ha hc, fun a c ha hc => N_riseE hV hW hN.2.1.2.1.2.1 ha hc⟩
  obtain ⟨x1, x2⟩ := wl_mark (E := E) hA hk
  have x3 := K_hasM (E := E) hH hW (show k < n by omega) x2
  obtain ⟨nm, x4, _⟩ := x2
  exact ⟨x1, ⟨nm, x4⟩, x3⟩
theorem se_lp (hN : Nx_ E g σ b bb q w N r n s ms ss) (hw0 : Wl_ E g w r ms ss) (hH : Hok_ r n) {k : Nat} (hk : k < n) {own : Nat} : ∀ (d a : Nat) (x y : Int64) (u8 : Option Value), a + d = n →
    R_ E 312 (B_ E 312 3) [some (.ref b), some (.int (nI k)), some (.ref own), some (.long x), none, some (.long y), none, some (.int (nI a)), u8] [] σ = R_ E 312 (B_ E 312 6) [some (.ref b), some (.int (nI k)), some (.ref own), some (.long (fo_ (rxs_ r (err_ r n s) s k) d a (x, y)).1), none, some (.long (fo_ (rxs_ r (err_ r n s) s k) d a (x, y)).2), none, some (.int (nI n)), none] [] σ := by
  have hW := hN.2.2.2.2.2.2.1
  have h12 := wr_n12 hW
  have hlen := hN.2.2.2.2.1
  obtain ⟨am, as, st, i, j0, fm, f1, f2, f3, f4, f5, f6, f8⟩ := nxF (E := E) hN hH
  obtain ⟨lc, hV⟩ := hN.1
  intro d
  induction d with
  | zero =>
    intro a x y u8 ha
    obtain rfl : a = n := by omega
    have c1 : nI a ≤ nI a := (nI_leI (by omega) (by omega)).2 (by omega)
    conv => lhs; rw [b312_3]
    simp (disch := omega) only [K312_3, R_cons, go_nx, go_jp, go_rt, go_th, go_ca, go_no, go_ite, rr_v, rr_n, rr_x, hx_n, hx_p, hx_b, I_push, I_pushl, I_fc0, I_fc1, I_dc0, I_null, I_mask, I_iload, I_lload, I_dload, I_fload, I_aload, I_istore, I_lstore, I_dstore, I_fstore, I_astore, I_iinc, I_iadd, I_isub, I_imul, I_iand, I_ior, I_ixor, I_ishl, I_ishr, I_iushr, I_ineg, I_ladd, I_lsub, I_lmul, I_lxor, I_i2l, I_l2i, I_i2b, I_i2c, I_i2f, I_i2d, I_lcmp, I_fdiv, I_ddiv, I_f2d, I_dcmp, I_dup, I_pop, I_dup_x1, I_dup2, I_icne, I_iceq, I_iclt, I_icge, I_icgt, I_icle, I_ifnull, I_ifnonnull, I_ane, I_aeq, I_goto, I_lsw, I_iret, I_lret, I_fret, I_dret, I_vret, I_nret, I_aret, I_iald, I_bald, I_lald, I_aald, I_iast, I_bast, I_last, I_aast, I_alen, I_new, I_val, I_cast, I_inst, I_obj, I_throw, I_mkx, I_getf, I_putf, I_call, I_calli, I_callv, I_clone, I_getc, i_ifeq, i_ifne, i_iflt, i_ifge, i_ifgt, i_ifle, i_idiv, i_irem, i_newa, i_newo, i_abs, i_max, i_min, i_ldiv, en_, es_i, es_r, es_0, es_n, es_l, List.length_cons, List.length_nil, List.cons_append, List.nil_append, Nat.reduceAdd, Nat.reduceSub, List.replicate, lg_, st1_, st2_, cn_, nl_, mk_, pk_, kd_, sl_, la_, ft_a, ft_i, ft_l, ft_o, ft_n, ft_b0, ft_b1, ft_bI, nr_0, nr_1, nr_bI, ro_, no_, if_true, if_false, ite_true, ite_false, reduceIte, Nat.reduceMod, Nat.reduceEqDiff, Nat.zero_add, Nat.add_zero, lk_, lit_, nI_add, nI_mul, ix_nI, fgk_0, fgk_1, fgk_2, fgk_3, fgk_4, fgk_5, fgk_6, fgk_7, fgk_8, fgk_9, fgk_10, fgk_11, fgk_12, fgk_13, fsk_0, fsk_1, fsk_2, fsk_3, fsk_4, fsk_5, fsk_6, fsk_7, fsk_8, fsk_9, fsk_10, fsk_11, fsk_12, fsk_13, ca_i, ca_r, ca_n, Nat.reduceLT, true_or, or_true, if_true, false_or, or_false, and_true, true_and, List.mem_singleton, eq_self, f1, fg_nf12, f2, f3, f4, c1, fo_]
  | succ d ih =>
    intro a x y u8 ha
    have han : a < n := by omega
    have c1 : ¬ nI n ≤ nI a := fun q => absurd ((nI_leI (by omega) (by omega)).1 q) (by omega)
    obtain ⟨u1, ⟨nm, u2⟩, u3⟩ := f5 a (by omega)
    have e1 := f6 k a hk han
    have r1 := f8 a k han hk
    rw [fo_]
    by_cases ce : edg_ r s a k
    · rw [bI_t (edg_co.1 ce)] at e1
      by_cases ca : r (8 + 5 * a + 3) = nI 1
      · rw [bI_t ca] at u3
        have hpa : pa_ k a / 12 < n ∧ pa_ k a % 12 < n := by
          unfold pa_; split <;> omega
        have hne : pa_ k a / 12 ≠ pa_ k a % 12 := by
          have := ce.1
          unfold pa_; split <;> omega
        have hwt := N_weight (E := E) hV hw0 hlen hW hpa hne hN.2.1.2.1.1
        rw [pa_co k a] at hwt
        have hky := S_key (E := E) (σ := σ) (a := k) (b := a) (by omega) (by omega)
        rw [pa_co k a] at hky
        have eh : hgt_ r a = r (8 + 5 * a + 4) := if_pos ca
        rw [eh] at u2
        have es : rxs_ r (err_ r n s) s k a (x, y) = (x + (wgt_ r s (pa_ a k)).toInt64 * (r (8 + 5 * a + 4) + rf_ r (err_ r n s) s a k).toInt64, y + (wgt_ r s (pa_ a k)).toInt64) := if_pos ⟨ce, ca⟩
        rw [es, ← ih (a + 1) _ _ none (by omega)]
        conv => lhs; rw [b312_3]
        simp (disch := omega) only [K312_3, b312_4, K312_4, b312_5, K312_5, R_cons, go_nx, go_jp, go_rt, go_th, go_ca, go_no, go_ite, rr_v, rr_n, rr_x, hx_n, hx_p, hx_b, I_push, I_pushl, I_fc0, I_fc1, I_dc0, I_null, I_mask, I_iload, I_lload, I_dload, I_fload, I_aload, I_istore, I_lstore, I_dstore, I_fstore, I_astore, I_iinc, I_iadd, I_isub, I_imul, I_iand, I_ior, I_ixor, I_ishl, I_ishr, I_iushr, I_ineg, I_ladd, I_lsub, I_lmul, I_lxor, I_i2l, I_l2i, I_i2b, I_i2c, I_i2f, I_i2d, I_lcmp, I_fdiv, I_ddiv, I_f2d, I_dcmp, I_dup, I_pop, I_dup_x1, I_dup2, I_icne, I_iceq, I_iclt, I_icge, I_icgt, I_icle, I_ifnull, I_ifnonnull, I_ane, I_aeq, I_goto, I_lsw, I_iret, I_lret, I_fret, I_dret, I_vret, I_nret, I_aret, I_iald, I_bald, I_lald, I_aald, I_iast, I_bast, I_last, I_aast, I_alen, I_new, I_val, I_cast, I_inst, I_obj, I_throw, I_mkx, I_getf, I_putf, I_call, I_calli, I_callv, I_clone, I_getc, i_ifeq, i_ifne, i_iflt, i_ifge, i_ifgt, i_ifle, i_idiv, i_irem, i_newa, i_newo, i_abs, i_max, i_min, i_ldiv, en_, es_i, es_r, es_0, es_n, es_l, List.length_cons, List.length_nil, List.cons_append, List.nil_append, Nat.reduceAdd, Nat.reduceSub, List.replicate, lg_, st1_, st2_, cn_, nl_, mk_, pk_, kd_, sl_, la_, ft_a, ft_i, ft_l, ft_o, ft_n, ft_b0, ft_b1, ft_bI, nr_0, nr_1, nr_bI, ro_, no_, if_true, if_false, ite_true, ite_false, reduceIte, Nat.reduceMod, Nat.reduceEqDiff, Nat.zero_add, Nat.add_zero, lk_, lit_, nI_add, nI_mul, ix_nI, fgk_0, fgk_1, fgk_2, fgk_3, fgk_4, fgk_5, fgk_6, fgk_7, fgk_8, fgk_9, fgk_10, fgk_11, fgk_12, fgk_13, fsk_0, fsk_1, fsk_2, fsk_3, fsk_4, fsk_5, fsk_6, fsk_7, fsk_8, fsk_9, fsk_10, fsk_11, fsk_12, fsk_13, ca_i, ca_r, ca_n, Nat.reduceLT, true_or, or_true, if_true, false_or, or_false, and_true, true_and, List.mem_singleton, eq_self, f1, fg_nf12, f2, f3, f4, c1, u1, u2, u3, e1, r1, hky, hwt, n10_, nI_1]
      · rw [bI_f ca] at u3
        have es : rxs_ r (err_ r n s) s k a (x, y) = (x, y) := if_neg (fun q => ca q.2)
        rw [es, ← ih (a + 1) _ _ none (by omega)]
        conv => lhs; rw [b312_3]
        simp (disch := omega) only [K312_3, b312_5, K312_5, R_cons, go_nx, go_jp, go_rt, go_th, go_ca, go_no, go_ite, rr_v, rr_n, rr_x, hx_n, hx_p, hx_b, I_push, I_pushl, I_fc0, I_fc1, I_dc0, I_null, I_mask, I_iload, I_lload, I_dload, I_fload, I_aload, I_istore, I_lstore, I_dstore, I_fstore, I_astore, I_iinc, I_iadd, I_isub, I_imul, I_iand, I_ior, I_ixor, I_ishl, I_ishr, I_iushr, I_ineg, I_ladd, I_lsub, I_lmul, I_lxor, I_i2l, I_l2i, I_i2b, I_i2c, I_i2f, I_i2d, I_lcmp, I_fdiv, I_ddiv, I_f2d, I_dcmp, I_dup, I_pop, I_dup_x1, I_dup2, I_icne, I_iceq, I_iclt, I_icge, I_icgt, I_icle, I_ifnull, I_ifnonnull, I_ane, I_aeq, I_goto, I_lsw, I_iret, I_lret, I_fret, I_dret, I_vret, I_nret, I_aret, I_iald, I_bald, I_lald, I_aald, I_iast, I_bast, I_last, I_aast, I_alen, I_new, I_val, I_cast, I_inst, I_obj, I_throw, I_mkx, I_getf, I_putf, I_call, I_calli, I_callv, I_clone, I_getc, i_ifeq, i_ifne, i_iflt, i_ifge, i_ifgt, i_ifle, i_idiv, i_irem, i_newa, i_newo, i_abs, i_max, i_min, i_ldiv, en_, es_i, es_r, es_0, es_n, es_l, List.length_cons, List.length_nil, List.cons_append, List.nil_append, Nat.reduceAdd, Nat.reduceSub, List.replicate, lg_, st1_, st2_, cn_, nl_, mk_, pk_, kd_, sl_, la_, ft_a, ft_i, ft_l, ft_o, ft_n, ft_b0, ft_b1, ft_bI, nr_0, nr_1, nr_bI, ro_, no_, if_true, if_false, ite_true, ite_false, reduceIte, Nat.reduceMod, Nat.reduceEqDiff, Nat.zero_add, Nat.add_zero, lk_, lit_, nI_add, nI_mul, ix_nI, fgk_0, fgk_1, fgk_2, fgk_3, fgk_4, fgk_5, fgk_6, fgk_7, fgk_8, fgk_9, fgk_10, fgk_11, fgk_12, fgk_13, fsk_0, fsk_1, fsk_2, fsk_3, fsk_4, fsk_5, fsk_6, fsk_7, fsk_8, fsk_9, fsk_10, fsk_11, fsk_12, fsk_13, ca_i, ca_r, ca_n, Nat.reduceLT, true_or, or_true, if_true, false_or, or_false, and_true, true_and, List.mem_singleton, eq_self, f1, fg_nf12, f2, f3, f4, c1, u1, u2, u3, e1, n10_, nI_1]
    · rw [bI_f (fun q => ce (edg_co.2 q))] at e1
      have es : rxs_ r (err_ r n s) s k a (x, y) = (x, y) := if_neg (fun q => ce q.1)
      rw [es, ← ih (a + 1) _ _ none (by omega)]
      conv => lhs; rw [b312_3]
      simp (disch := omega) only [K312_3, b312_5, K312_5, R_cons, go_nx, go_jp, go_rt, go_th, go_ca, go_no, go_ite, rr_v, rr_n, rr_x, hx_n, hx_p, hx_b, I_push, I_pushl, I_fc0, I_fc1, I_dc0, I_null, I_mask, I_iload, I_lload, I_dload, I_fload, I_aload, I_istore, I_lstore, I_dstore, I_fstore, I_astore, I_iinc, I_iadd, I_isub, I_imul, I_iand, I_ior, I_ixor, I_ishl, I_ishr, I_iushr, I_ineg, I_ladd, I_lsub, I_lmul, I_lxor, I_i2l, I_l2i, I_i2b, I_i2c, I_i2f, I_i2d, I_lcmp, I_fdiv, I_ddiv, I_f2d, I_dcmp, I_dup, I_pop, I_dup_x1, I_dup2, I_icne, I_iceq, I_iclt, I_icge, I_icgt, I_icle, I_ifnull, I_ifnonnull, I_ane, I_aeq, I_goto, I_lsw, I_iret, I_lret, I_fret, I_dret, I_vret, I_nret, I_aret, I_iald, I_bald, I_lald, I_aald, I_iast, I_bast, I_last, I_aast, I_alen, I_new, I_val, I_cast, I_inst, I_obj, I_throw, I_mkx, I_getf, I_putf, I_call, I_calli, I_callv, I_clone, I_getc, i_ifeq, i_ifne, i_iflt, i_ifge, i_ifgt, i_ifle, i_idiv, i_irem, i_newa, i_newo, i_abs, i_max, i_min, i_ldiv, en_, es_i, es_r, es_0, es_n, es_l, List.length_cons, List.length_nil, List.cons_append, List.nil_append, Nat.reduceAdd, Nat.reduceSub, List.replicate, lg_, st1_, st2_, cn_, nl_, mk_, pk_, kd_, sl_, la_, ft_a, ft_i, ft_l, ft_o, ft_n, ft_b0, ft_b1, ft_bI, nr_0, nr_1, nr_bI, ro_, no_, if_true, if_false, ite_true, ite_false, reduceIte, Nat.reduceMod, Nat.reduceEqDiff, Nat.zero_add, Nat.add_zero, lk_, lit_, nI_add, nI_mul, ix_nI, fgk_0, fgk_1, fgk_2, fgk_3, fgk_4, fgk_5, fgk_6, fgk_7, fgk_8, fgk_9, fgk_10, fgk_11, fgk_12, fgk_13, fsk_0, fsk_1, fsk_2, fsk_3, fsk_4, fsk_5, fsk_6, fsk_7, fsk_8, fsk_9, fsk_10, fsk_11, fsk_12, fsk_13, ca_i, ca_r, ca_n, Nat.reduceLT, true_or, or_true, if_true, false_or, or_false, and_true, true_and, List.mem_singleton, eq_self, f1, fg_nf12, f2, f3, f4, c1, e1, n10_, nI_1]
/-- a mark settles -/
theorem N_settles {k : Nat} {fl : Bool} (hN : Nx_ E g σ b bb q w N r n s ms ss) (hY : WY_ E h0 (bb + 1, m', g) w r am em as es st mc mc' ms ss) (hH : Hok_ r n) (hk : k < n) :
    ∃ σ' g' ch, D_ E 312 [.ref b, .int (nI k)] σ = some (.inl (some (.int (bI (ch = true)))), σ') ∧ rd1_ (err_ r n s) n s k (r, fl) = ((rd1_ (err_ r n s) n s k (r, fl)).1, fl || ch) ∧ Nx_ E g' σ' b bb q w N (rd1_ (err_ r n s) n s k (r, fl)).1 n s ms ss ∧ WY_ E h0 (bb + 1, m', g') w (rd1_ (err_ r n s) n s k (r, fl)).1 am em as es st mc mc' ms ss ∧ σ'.1 = σ.1 ∧ σ'.2.1 = σ.2.1 := by
  have hW := hN.2.2.2.2.2.2.1
  have h12 := wr_n12 hW
  have hlen := hN.2.2.2.2.1
  have hkl : k < ms.length := by omega
  have hw0 := WY_Wl hY
  obtain ⟨am, as, st, i, j0, fm, f1, f2, f3, f4, f5, f6, f8⟩ := nxF (E := E) hN hH
  obtain ⟨u1, ⟨nm, u2⟩, u3⟩ := f5 k hkl
  have hmb := wr_mb hW hk
  by_cases cb : r (8 + 5 * k + 3) = nI 1 ∧ ¬ r (8 + 5 * k + 2) = nI 1
  · have c2 : r (8 + 5 * k + 2) = nI 0 := hmb.1.resolve_right cb.2
    rw [bI_t cb.1] at u3
    have er : rd1_ (err_ r n s) n s k (r, fl) = (rxr_ r (err_ r n s) n s k, fl || decide (¬ rxr_ r (err_ r n s) n s k (8 + 5 * k + 4) = r (8 + 5 * k + 4))) := if_pos cb
    rw [er]
    have hl := se_lp (E := E) hN hw0 hH hk (own := ms[k]) n 0 0 0 none (by omega)
    rw [show fo_ (rxs_ r (err_ r n s) s k) n 0 (0, 0) = rxw_ r (err_ r n s) n s k from rfl] at hl
    have eh : hgt_ r k = r (8 + 5 * k + 4) := if_pos cb.1
    by_cases cw : (rxw_ r (err_ r n s) n s k).2 = 0
    · have ex : rxr_ r (err_ r n s) n s k = r := if_pos cw
      rw [ex]
      refine ⟨σ, g, false, ?_, by simp, hN, hY, rfl, rfl⟩
      rw [bI_f (by decide), D_run]
      rw [c2] at u2
      simp (disch := omega) only [b312_0, K312_0, b312_2, K312_2, l312, R_cons, go_nx, go_jp, go_rt, go_th, go_ca, go_no, go_ite, rr_v, rr_n, rr_x, hx_n, hx_p, hx_b, I_push, I_pushl, I_fc0, I_fc1, I_dc0, I_null, I_mask, I_iload, I_lload, I_dload, I_fload, I_aload, I_istore, I_lstore, I_dstore, I_fstore, I_astore, I_iinc, I_iadd, I_isub, I_imul, I_iand, I_ior, I_ixor, I_ishl, I_ishr, I_iushr, I_ineg, I_ladd, I_lsub, I_lmul, I_lxor, I_i2l, I_l2i, I_i2b, I_i2c, I_i2f, I_i2d, I_lcmp, I_fdiv, I_ddiv, I_f2d, I_dcmp, I_dup, I_pop, I_dup_x1, I_dup2, I_icne, I_iceq, I_iclt, I_icge, I_icgt, I_icle, I_ifnull, I_ifnonnull, I_ane, I_aeq, I_goto, I_lsw, I_iret, I_lret, I_fret, I_dret, I_vret, I_nret, I_aret, I_iald, I_bald, I_lald, I_aald, I_iast, I_bast, I_last, I_aast, I_alen, I_new, I_val, I_cast, I_inst, I_obj, I_throw, I_mkx, I_getf, I_putf, I_call, I_calli, I_callv, I_clone, I_getc, i_ifeq, i_ifne, i_iflt, i_ifge, i_ifgt, i_ifle, i_idiv, i_irem, i_newa, i_newo, i_abs, i_max, i_min, i_ldiv, en_, es_i, es_r, es_0, es_n, es_l, List.length_cons, List.length_nil, List.cons_append, List.nil_append, Nat.reduceAdd, Nat.reduceSub, List.replicate, lg_, st1_, st2_, cn_, nl_, mk_, pk_, kd_, sl_, la_, ft_a, ft_i, ft_l, ft_o, ft_n, ft_b0, ft_b1, ft_bI, nr_0, nr_1, nr_bI, ro_, no_, if_true, if_false, ite_true, ite_false, reduceIte, Nat.reduceMod, Nat.reduceEqDiff, Nat.zero_add, Nat.add_zero, lk_, lit_, nI_add, nI_mul, ix_nI, fgk_0, fgk_1, fgk_2, fgk_3, fgk_4, fgk_5, fgk_6, fgk_7, fgk_8, fgk_9, fgk_10, fgk_11, fgk_12, fgk_13, fsk_0, fsk_1, fsk_2, fsk_3, fsk_4, fsk_5, fsk_6, fsk_7, fsk_8, fsk_9, fsk_10, fsk_11, fsk_12, fsk_13, ca_i, ca_r, ca_n, Nat.reduceLT, true_or, or_true, if_true, false_or, or_false, and_true, true_and, List.mem_singleton, eq_self, f1, fg_nf12, f2, f3, u1, u2, u3, n10_]
      rw [show (0 : Int64) = 0 from rfl] at hl
      rw [hl, b312_6]
      simp (disch := omega) only [K312_6, R_cons, go_nx, go_jp, go_rt, go_th, go_ca, go_no, go_ite, rr_v, rr_n, rr_x, hx_n, hx_p, hx_b, I_push, I_pushl, I_fc0, I_fc1, I_dc0, I_null, I_mask, I_iload, I_lload, I_dload, I_fload, I_aload, I_istore, I_lstore, I_dstore, I_fstore, I_astore, I_iinc, I_iadd, I_isub, I_imul, I_iand, I_ior, I_ixor, I_ishl, I_ishr, I_iushr, I_ineg, I_ladd, I_lsub, I_lmul, I_lxor, I_i2l, I_l2i, I_i2b, I_i2c, I_i2f, I_i2d, I_lcmp, I_fdiv, I_ddiv, I_f2d, I_dcmp, I_dup, I_pop, I_dup_x1, I_dup2, I_icne, I_iceq, I_iclt, I_icge, I_icgt, I_icle, I_ifnull, I_ifnonnull, I_ane, I_aeq, I_goto, I_lsw, I_iret, I_lret, I_fret, I_dret, I_vret, I_nret, I_aret, I_iald, I_bald, I_lald, I_aald, I_iast, I_bast, I_last, I_aast, I_alen, I_new, I_val, I_cast, I_inst, I_obj, I_throw, I_mkx, I_getf, I_putf, I_call, I_calli, I_callv, I_clone, I_getc, i_ifeq, i_ifne, i_iflt, i_ifge, i_ifgt, i_ifle, i_idiv, i_irem, i_newa, i_newo, i_abs, i_max, i_min, i_ldiv, en_, es_i, es_r, es_0, es_n, es_l, List.length_cons, List.length_nil, List.cons_append, List.nil_append, Nat.reduceAdd, Nat.reduceSub, List.replicate, lg_, st1_, st2_, cn_, nl_, mk_, pk_, kd_, sl_, la_, ft_a, ft_i, ft_l, ft_o, ft_n, ft_b0, ft_b1, ft_bI, nr_0, nr_1, nr_bI, ro_, no_, if_true, if_false, ite_true, ite_false, reduceIte, Nat.reduceMod, Nat.reduceEqDiff, Nat.zero_add, Nat.add_zero, lk_, lit_, nI_add, nI_mul, ix_nI, fgk_0, fgk_1, fgk_2, fgk_3, fgk_4, fgk_5, fgk_6, fgk_7, fgk_8, fgk_9, fgk_10, fgk_11, fgk_12, fgk_13, fsk_0, fsk_1, fsk_2, fsk_3, fsk_4, fsk_5, fsk_6, fsk_7, fsk_8, fsk_9, fsk_10, fsk_11, fsk_12, fsk_13, ca_i, ca_r, ca_n, Nat.reduceLT, true_or, or_true, if_true, false_or, or_false, and_true, true_and, List.mem_singleton, eq_self, cq_lt, cq_gt, cq_eq, cq_le, cq_ge, cw]
    · obtain ⟨ih, eih⟩ : ∃ v, v = (fdL (rxw_ r (err_ r n s) n s k).1 (rxw_ r (err_ r n s) n s k).2).toInt32 := ⟨_, rfl⟩
      have ex : rxr_ r (err_ r n s) n s k = upd r (8 + 5 * k + 4) ih := by unfold rxr_; rw [if_neg cw, eih]
      rw [ex]
      obtain ⟨nm', x1, _⟩ := hY.1.2.2.2.2.1 k _ (List.getElem?_eq_getElem hkl)
      dsimp only at x1
      have hput := Nx_put (r' := upd r (8 + 5 * k + 4) ih) hN hY (List.getElem?_eq_getElem hkl) x1 (fun i hi => upd_n (by omega)) (fun i hi => upd_n (by omega)) (by rw [← ex]; exact rxr_Wr hW hk)
      have hgB := hN.1.choose_spec.2.1
      have u2' := hgB _ _ x1
      rw [u2] at u2'
      cases u2'
      have e1 : upd r (8 + 5 * k + 4) ih (8 + 5 * k + 1) = r (8 + 5 * k + 1) := upd_n (by omega)
      have e2 : upd r (8 + 5 * k + 4) ih (8 + 5 * k + 2) = nI 0 := by rw [upd_n (by omega)]; exact c2
      have e3 : hgt_ (upd r (8 + 5 * k + 4) ih) k = ih := by
        unfold hgt_
        rw [upd_n (by omega), if_pos cb.1, upd_s]
      rw [e1, e2, e3] at hput
      refine ⟨_, _, decide (¬ ih = r (8 + 5 * k + 4)), ?_, by rw [upd_s], hput.1, hput.2, rfl, rfl⟩
      rw [c2, eh] at u2
      have hfd := J_fdL (E := E) (σ := σ) (x := (rxw_ r (err_ r n s) n s k).1) cw
      rw [D_run]
      simp (disch := omega) only [b312_0, K312_0, b312_2, K312_2, l312, R_cons, go_nx, go_jp, go_rt, go_th, go_ca, go_no, go_ite, rr_v, rr_n, rr_x, hx_n, hx_p, hx_b, I_push, I_pushl, I_fc0, I_fc1, I_dc0, I_null, I_mask, I_iload, I_lload, I_dload, I_fload, I_aload, I_istore, I_lstore, I_dstore, I_fstore, I_astore, I_iinc, I_iadd, I_isub, I_imul, I_iand, I_ior, I_ixor, I_ishl, I_ishr, I_iushr, I_ineg, I_ladd, I_lsub, I_lmul, I_lxor, I_i2l, I_l2i, I_i2b, I_i2c, I_i2f, I_i2d, I_lcmp, I_fdiv, I_ddiv, I_f2d, I_dcmp, I_dup, I_pop, I_dup_x1, I_dup2, I_icne, I_iceq, I_iclt, I_icge, I_icgt, I_icle, I_ifnull, I_ifnonnull, I_ane, I_aeq, I_goto, I_lsw, I_iret, I_lret, I_fret, I_dret, I_vret, I_nret, I_aret, I_iald, I_bald, I_lald, I_aald, I_iast, I_bast, I_last, I_aast, I_alen, I_new, I_val, I_cast, I_inst, I_obj, I_throw, I_mkx, I_getf, I_putf, I_call, I_calli, I_callv, I_clone, I_getc, i_ifeq, i_ifne, i_iflt, i_ifge, i_ifgt, i_ifle, i_idiv, i_irem, i_newa, i_newo, i_abs, i_max, i_min, i_ldiv, en_, es_i, es_r, es_0, es_n, es_l, List.length_cons, List.length_nil, List.cons_append, List.nil_append, Nat.reduceAdd, Nat.reduceSub, List.replicate, lg_, st1_, st2_, cn_, nl_, mk_, pk_, kd_, sl_, la_, ft_a, ft_i, ft_l, ft_o, ft_n, ft_b0, ft_b1, ft_bI, nr_0, nr_1, nr_bI, ro_, no_, if_true, if_false, ite_true, ite_false, reduceIte, Nat.reduceMod, Nat.reduceEqDiff, Nat.zero_add, Nat.add_zero, lk_, lit_, nI_add, nI_mul, ix_nI, fgk_0, fgk_1, fgk_2, fgk_3, fgk_4, fgk_5, fgk_6, fgk_7, fgk_8, fgk_9, fgk_10, fgk_11, fgk_12, fgk_13, fsk_0, fsk_1, fsk_2, fsk_3, fsk_4, fsk_5, fsk_6, fsk_7, fsk_8, fsk_9, fsk_10, fsk_11, fsk_12, fsk_13, ca_i, ca_r, ca_n, Nat.reduceLT, true_or, or_true, if_true, false_or, or_false, and_true, true_and, List.mem_singleton, eq_self, f1, fg_nf12, f2, f3, u1, u2, u3, n10_]
      rw [hl, b312_6]
      by_cases ci : ih = r (8 + 5 * k + 4)
      · rw [bI_f (by simp [ci])]
        simp (disch := omega) only [K312_6, b312_7, K312_7, b312_8, K312_8, b312_9, K312_9, R_cons, go_nx, go_jp, go_rt, go_th, go_ca, go_no, go_ite, rr_v, rr_n, rr_x, hx_n, hx_p, hx_b, I_push, I_pushl, I_fc0, I_fc1, I_dc0, I_null, I_mask, I_iload, I_lload, I_dload, I_fload, I_aload, I_istore, I_lstore, I_dstore, I_fstore, I_astore, I_iinc, I_iadd, I_isub, I_imul, I_iand, I_ior, I_ixor, I_ishl, I_ishr, I_iushr, I_ineg, I_ladd, I_lsub, I_lmul, I_lxor, I_i2l, I_l2i, I_i2b, I_i2c, I_i2f, I_i2d, I_lcmp, I_fdiv, I_ddiv, I_f2d, I_dcmp, I_dup, I_pop, I_dup_x1, I_dup2, I_icne, I_iceq, I_iclt, I_icge, I_icgt, I_icle, I_ifnull, I_ifnonnull, I_ane, I_aeq, I_goto, I_lsw, I_iret, I_lret, I_fret, I_dret, I_vret, I_nret, I_aret, I_iald, I_bald, I_lald, I_aald, I_iast, I_bast, I_last, I_aast, I_alen, I_new, I_val, I_cast, I_inst, I_obj, I_throw, I_mkx, I_getf, I_putf, I_call, I_calli, I_callv, I_clone, I_getc, i_ifeq, i_ifne, i_iflt, i_ifge, i_ifgt, i_ifle, i_idiv, i_irem, i_newa, i_newo, i_abs, i_max, i_min, i_ldiv, en_, es_i, es_r, es_0, es_n, es_l, List.length_cons, List.length_nil, List.cons_append, List.nil_append, Nat.reduceAdd, Nat.reduceSub, List.replicate, lg_, st1_, st2_, cn_, nl_, mk_, pk_, kd_, sl_, la_, ft_a, ft_i, ft_l, ft_o, ft_n, ft_b0, ft_b1, ft_bI, nr_0, nr_1, nr_bI, ro_, no_, if_true, if_false, ite_true, ite_false, reduceIte, Nat.reduceMod, Nat.reduceEqDiff, Nat.zero_add, Nat.add_zero, lk_, lit_, nI_add, nI_mul, ix_nI, fgk_0, fgk_1, fgk_2, fgk_3, fgk_4, fgk_5, fgk_6, fgk_7, fgk_8, fgk_9, fgk_10, fgk_11, fgk_12, fgk_13, fsk_0, fsk_1, fsk_2, fsk_3, fsk_4, fsk_5, fsk_6, fsk_7, fsk_8, fsk_9, fsk_10, fsk_11, fsk_12, fsk_13, ca_i, ca_r, ca_n, Nat.reduceLT, true_or, or_true, if_true, false_or, or_false, and_true, true_and, List.mem_singleton, eq_self, cq_lt, cq_gt, cq_eq, cq_le, cq_ge, cw, hfd, u2, ← eih]
        exact if_pos ci
      · rw [bI_t (by simp [ci])]
        simp (disch := omega) only [K312_6, b312_7, K312_7, b312_9, K312_9, R_cons, go_nx, go_jp, go_rt, go_th, go_ca, go_no, go_ite, rr_v, rr_n, rr_x, hx_n, hx_p, hx_b, I_push, I_pushl, I_fc0, I_fc1, I_dc0, I_null, I_mask, I_iload, I_lload, I_dload, I_fload, I_aload, I_istore, I_lstore, I_dstore, I_fstore, I_astore, I_iinc, I_iadd, I_isub, I_imul, I_iand, I_ior, I_ixor, I_ishl, I_ishr, I_iushr, I_ineg, I_ladd, I_lsub, I_lmul, I_lxor, I_i2l, I_l2i, I_i2b, I_i2c, I_i2f, I_i2d, I_lcmp, I_fdiv, I_ddiv, I_f2d, I_dcmp, I_dup, I_pop, I_dup_x1, I_dup2, I_icne, I_iceq, I_iclt, I_icge, I_icgt, I_icle, I_ifnull, I_ifnonnull, I_ane, I_aeq, I_goto, I_lsw, I_iret, I_lret, I_fret, I_dret, I_vret, I_nret, I_aret, I_iald, I_bald, I_lald, I_aald, I_iast, I_bast, I_last, I_aast, I_alen, I_new, I_val, I_cast, I_inst, I_obj, I_throw, I_mkx, I_getf, I_putf, I_call, I_calli, I_callv, I_clone, I_getc, i_ifeq, i_ifne, i_iflt, i_ifge, i_ifgt, i_ifle, i_idiv, i_irem, i_newa, i_newo, i_abs, i_max, i_min, i_ldiv, en_, es_i, es_r, es_0, es_n, es_l, List.length_cons, List.length_nil, List.cons_append, List.nil_append, Nat.reduceAdd, Nat.reduceSub, List.replicate, lg_, st1_, st2_, cn_, nl_, mk_, pk_, kd_, sl_, la_, ft_a, ft_i, ft_l, ft_o, ft_n, ft_b0, ft_b1, ft_bI, nr_0, nr_1, nr_bI, ro_, no_, if_true, if_false, ite_true, ite_false, reduceIte, Nat.reduceMod, Nat.reduceEqDiff, Nat.zero_add, Nat.add_zero, lk_, lit_, nI_add, nI_mul, ix_nI, fgk_0, fgk_1, fgk_2, fgk_3, fgk_4, fgk_5, fgk_6, fgk_7, fgk_8, fgk_9, fgk_10, fgk_11, fgk_12, fgk_13, fsk_0, fsk_1, fsk_2, fsk_3, fsk_4, fsk_5, fsk_6, fsk_7, fsk_8, fsk_9, fsk_10, fsk_11, fsk_12, fsk_13, ca_i, ca_r, ca_n, Nat.reduceLT, true_or, or_true, if_true, false_or, or_false, and_true, true_and, List.mem_singleton, eq_self, cq_lt, cq_gt, cq_eq, cq_le, cq_ge, cw, hfd, u2, ← eih, ci]
  · have er : rd1_ (err_ r n s) n s k (r, fl) = (r, fl) := if_neg cb
    rw [er]
    refine ⟨σ, g, false, ?_, by simp, hN, hY, rfl, rfl⟩
    rw [bI_f (by decide), D_run]
    rcases hmb.1 with c2 | c2
    · have c3 : ¬ r (8 + 5 * k + 3) = nI 1 := fun q => cb ⟨q, by rw [c2]; decide⟩
      rw [bI_f c3] at u3
      rw [c2] at u2
      simp (disch := omega) only [b312_0, K312_0, b312_1, K312_1, l312, R_cons, go_nx, go_jp, go_rt, go_th, go_ca, go_no, go_ite, rr_v, rr_n, rr_x, hx_n, hx_p, hx_b, I_push, I_pushl, I_fc0, I_fc1, I_dc0, I_null, I_mask, I_iload, I_lload, I_dload, I_fload, I_aload, I_istore, I_lstore, I_dstore, I_fstore, I_astore, I_iinc, I_iadd, I_isub, I_imul, I_iand, I_ior, I_ixor, I_ishl, I_ishr, I_iushr, I_ineg, I_ladd, I_lsub, I_lmul, I_lxor, I_i2l, I_l2i, I_i2b, I_i2c, I_i2f, I_i2d, I_lcmp, I_fdiv, I_ddiv, I_f2d, I_dcmp, I_dup, I_pop, I_dup_x1, I_dup2, I_icne, I_iceq, I_iclt, I_icge, I_icgt, I_icle, I_ifnull, I_ifnonnull, I_ane, I_aeq, I_goto, I_lsw, I_iret, I_lret, I_fret, I_dret, I_vret, I_nret, I_aret, I_iald, I_bald, I_lald, I_aald, I_iast, I_bast, I_last, I_aast, I_alen, I_new, I_val, I_cast, I_inst, I_obj, I_throw, I_mkx, I_getf, I_putf, I_call, I_calli, I_callv, I_clone, I_getc, i_ifeq, i_ifne, i_iflt, i_ifge, i_ifgt, i_ifle, i_idiv, i_irem, i_newa, i_newo, i_abs, i_max, i_min, i_ldiv, en_, es_i, es_r, es_0, es_n, es_l, List.length_cons, List.length_nil, List.cons_append, List.nil_append, Nat.reduceAdd, Nat.reduceSub, List.replicate, lg_, st1_, st2_, cn_, nl_, mk_, pk_, kd_, sl_, la_, ft_a, ft_i, ft_l, ft_o, ft_n, ft_b0, ft_b1, ft_bI, nr_0, nr_1, nr_bI, ro_, no_, if_true, if_false, ite_true, ite_false, reduceIte, Nat.reduceMod, Nat.reduceEqDiff, Nat.zero_add, Nat.add_zero, lk_, lit_, nI_add, nI_mul, ix_nI, fgk_0, fgk_1, fgk_2, fgk_3, fgk_4, fgk_5, fgk_6, fgk_7, fgk_8, fgk_9, fgk_10, fgk_11, fgk_12, fgk_13, fsk_0, fsk_1, fsk_2, fsk_3, fsk_4, fsk_5, fsk_6, fsk_7, fsk_8, fsk_9, fsk_10, fsk_11, fsk_12, fsk_13, ca_i, ca_r, ca_n, Nat.reduceLT, true_or, or_true, if_true, false_or, or_false, and_true, true_and, List.mem_singleton, eq_self, f1, fg_nf12, f2, f3, u1, u2, u3, n10_]
    · rw [c2] at u2
      simp (disch := omega) only [b312_0, K312_0, b312_1, K312_1, l312, R_cons, go_nx, go_jp, go_rt, go_th, go_ca, go_no, go_ite, rr_v, rr_n, rr_x, hx_n, hx_p, hx_b, I_push, I_pushl, I_fc0, I_fc1, I_dc0, I_null, I_mask, I_iload, I_lload, I_dload, I_fload, I_aload, I_istore, I_lstore, I_dstore, I_fstore, I_astore, I_iinc, I_iadd, I_isub, I_imul, I_iand, I_ior, I_ixor, I_ishl, I_ishr, I_iushr, I_ineg, I_ladd, I_lsub, I_lmul, I_lxor, I_i2l, I_l2i, I_i2b, I_i2c, I_i2f, I_i2d, I_lcmp, I_fdiv, I_ddiv, I_f2d, I_dcmp, I_dup, I_pop, I_dup_x1, I_dup2, I_icne, I_iceq, I_iclt, I_icge, I_icgt, I_icle, I_ifnull, I_ifnonnull, I_ane, I_aeq, I_goto, I_lsw, I_iret, I_lret, I_fret, I_dret, I_vret, I_nret, I_aret, I_iald, I_bald, I_lald, I_aald, I_iast, I_bast, I_last, I_aast, I_alen, I_new, I_val, I_cast, I_inst, I_obj, I_throw, I_mkx, I_getf, I_putf, I_call, I_calli, I_callv, I_clone, I_getc, i_ifeq, i_ifne, i_iflt, i_ifge, i_ifgt, i_ifle, i_idiv, i_irem, i_newa, i_newo, i_abs, i_max, i_min, i_ldiv, en_, es_i, es_r, es_0, es_n, es_l, List.length_cons, List.length_nil, List.cons_append, List.nil_append, Nat.reduceAdd, Nat.reduceSub, List.replicate, lg_, st1_, st2_, cn_, nl_, mk_, pk_, kd_, sl_, la_, ft_a, ft_i, ft_l, ft_o, ft_n, ft_b0, ft_b1, ft_bI, nr_0, nr_1, nr_bI, ro_, no_, if_true, if_false, ite_true, ite_false, reduceIte, Nat.reduceMod, Nat.reduceEqDiff, Nat.zero_add, Nat.add_zero, lk_, lit_, nI_add, nI_mul, ix_nI, fgk_0, fgk_1, fgk_2, fgk_3, fgk_4, fgk_5, fgk_6, fgk_7, fgk_8, fgk_9, fgk_10, fgk_11, fgk_12, fgk_13, fsk_0, fsk_1, fsk_2, fsk_3, fsk_4, fsk_5, fsk_6, fsk_7, fsk_8, fsk_9, fsk_10, fsk_11, fsk_12, fsk_13, ca_i, ca_r, ca_n, Nat.reduceLT, true_or, or_true, if_true, false_or, or_false, and_true, true_and, List.mem_singleton, eq_self, f1, fg_nf12, f2, f3, u1, u2, n10_]
end CLE
