section CLD
variable {E : En_} {w am em as es st n s b bb q y z m m' : Nat} {mc mc' : Int32} {ms ss : List Nat} {h0 : Nat → Option Ac_} {N : Nat → Nat → Int32}
theorem WY_Wl {σ : As_} {r : Nat → Int32} (h : WY_ E h0 σ w r am em as es st mc mc' ms ss) : Wl_ E σ.2.2 w r ms ss := ⟨am, em, as, es, st, mc, mc', h.1⟩
theorem lvr_hgt {r : Nat → Int32} {e : Int32} {a c : Nat} : hgt_ (lvr_ r e s a c) c = r (8 + 5 * a + 4) + rf_ r e s a c := by
  unfold hgt_ lvr_
  rw [upd_n (show 8 + 5 * c + 3 ≠ 8 + 5 * c + 4 by omega), upd_s, if_pos rfl, upd_s]
theorem lv3_lp (hyz : y < z) (hyb : bb < y) (e : Int32) : ∀ (f : Nat) (B : Nat) (u2 u3 u4 u5 : Option Value) (g hB : Nat → Option Ac_) (r far : Nat → Int32), e = err_ r n s → mh_ r n ≤ f → Bh_ r n B → B + 52001 * f < 10000000 → Nx_ E g (z, m, hB) b bb q w N r n s ms ss → WY_ E h0 (bb + 1, m', g) w r am em as es st mc mc' ms ss → hB y = none →
    ∃ g' hB' far', R_ E 308 (B_ E 308 3) [some (.ref b), some (.ref y), u2, u3, u4, u5] [] (z, m, up_ hB y (tI_ 0 12 far)) = some (.inl none, (z, m, up_ hB' y (tI_ 0 12 far'))) ∧ Nx_ E g' (z, m, hB') b bb q w N (lv_ e n s f r far) n s ms ss ∧ WY_ E h0 (bb + 1, m', g') w (lv_ e n s f r far) am em as es st mc mc' ms ss ∧ hB' y = none ∧ Bh_ (lv_ e n s f r far) n (B + 52001 * f) ∧ hs_ r (lv_ e n s f r far) := by
  intro f
  induction f with
  | zero =>
    intro B u2 u3 u4 u5 g hB r far he hm hBh hBl hN hY hBy
    have hW := hN.2.2.2.2.2.2.1
    have h12 := wr_n12 hW
    have hno : nh_ r far n s = none := by
      rcases hj : nh_ r far n s with _ | j
      · rfl
      · exfalso
        have hp := nh_p (r := r) (far := far) (s := s) h12 j hj
        have := mh_0 (r := r) hp.2.2.1 n 0 (by omega) (by omega)
        unfold mh_ at hm
        omega
    have hw0 : Wl_ E g w r ms ss := ⟨_, _, _, _, _, _, _, hY.1⟩
    have h4 := lv4_lp (far := far) hyz hN hw0 (Bh_ok hBh (by omega)) hBy n 0 none none (by omega) (fun j hj => by cases hj)
    rw [show fo_ (fun c => fo_ (nh1_ r far s c) n 0) n 0 none = nh_ r far n s from rfl, hno] at h4
    simp only [lf_, lt_] at h4
    refine ⟨g, hB, far, ?_, hN, hY, hBy, by rw [Nat.mul_zero, Nat.add_zero]; exact hBh, fun _ _ => rfl⟩
    rw [b308_3]
    simp (disch := omega) only [K308_3, R_cons, go_nx, go_jp, go_rt, go_th, go_ca, go_no, go_ite, rr_v, rr_n, rr_x, hx_n, hx_p, hx_b, I_push, I_pushl, I_fc0, I_fc1, I_dc0, I_null, I_mask, I_iload, I_lload, I_dload, I_fload, I_aload, I_istore, I_lstore, I_dstore, I_fstore, I_astore, I_iinc, I_iadd, I_isub, I_imul, I_iand, I_ior, I_ixor, I_ishl, I_ishr, I_iushr, I_ineg, I_ladd, I_lsub, I_lmul, I_lxor, I_i2l, I_l2i, I_i2b, I_i2c, I_i2f, I_i2d, I_lcmp, I_fdiv, I_ddiv, I_f2d, I_dcmp, I_dup, I_pop, I_dup_x1, I_dup2, I_icne, I_iceq, I_iclt, I_icge, I_icgt, I_icle, I_ifnull, I_ifnonnull, I_ane, I_aeq, I_goto, I_lsw, I_iret, I_lret, I_fret, I_dret, I_vret, I_nret, I_aret, I_iald, I_bald, I_lald, I_aald, I_iast, I_bast, I_last, I_aast, I_alen, I_new, I_val, I_cast, I_inst, I_obj, I_throw, I_mkx, I_getf, I_putf, I_call, I_calli, I_callv, I_clone, I_getc, i_ifeq, i_ifne, i_iflt, i_ifge, i_ifgt, i_ifle, i_idiv, i_irem, i_newa, i_newo, i_abs, i_max, i_min, i_ldiv, en_, es_i, es_r, es_0, es_n, es_l, List.length_cons, List.length_nil, List.cons_append, List.nil_append, Nat.reduceAdd, Nat.reduceSub, List.replicate, lg_, st1_, st2_, cn_, nl_, mk_, pk_, kd_, sl_, la_, ft_a, ft_i, ft_l, ft_o, ft_n, ft_b0, ft_b1, ft_bI, nr_0, nr_1, nr_bI, ro_, no_, if_true, if_false, ite_true, ite_false, reduceIte, Nat.reduceMod, Nat.reduceEqDiff, Nat.zero_add, Nat.add_zero, lk_, lit_, nI_add, nI_mul, ix_nI]
    refine h4.trans ?_
    rw [b308_10]
    simp (disch := omega) only [K308_10, R_cons, go_nx, go_jp, go_rt, go_th, go_ca, go_no, go_ite, rr_v, rr_n, rr_x, hx_n, hx_p, hx_b, I_push, I_pushl, I_fc0, I_fc1, I_dc0, I_null, I_mask, I_iload, I_lload, I_dload, I_fload, I_aload, I_istore, I_lstore, I_dstore, I_fstore, I_astore, I_iinc, I_iadd, I_isub, I_imul, I_iand, I_ior, I_ixor, I_ishl, I_ishr, I_iushr, I_ineg, I_ladd, I_lsub, I_lmul, I_lxor, I_i2l, I_l2i, I_i2b, I_i2c, I_i2f, I_i2d, I_lcmp, I_fdiv, I_ddiv, I_f2d, I_dcmp, I_dup, I_pop, I_dup_x1, I_dup2, I_icne, I_iceq, I_iclt, I_icge, I_icgt, I_icle, I_ifnull, I_ifnonnull, I_ane, I_aeq, I_goto, I_lsw, I_iret, I_lret, I_fret, I_dret, I_vret, I_nret, I_aret, I_iald, I_bald, I_lald, I_aald, I_iast, I_bast, I_last, I_aast, I_alen, I_new, I_val, I_cast, I_inst, I_obj, I_throw, I_mkx, I_getf, I_putf, I_call, I_calli, I_callv, I_clone, I_getc, i_ifeq, i_ifne, i_iflt, i_ifge, i_ifgt, i_ifle, i_idiv, i_irem, i_newa, i_newo, i_abs, i_max, i_min, i_ldiv, en_, es_i, es_r, es_0, es_n, es_l, List.length_cons, List.length_nil, List.cons_append, List.nil_append, Nat.reduceAdd, Nat.reduceSub, List.replicate, lg_, st1_, st2_, cn_, nl_, mk_, pk_, kd_, sl_, la_, ft_a, ft_i, ft_l, ft_o, ft_n, ft_b0, ft_b1, ft_bI, nr_0, nr_1, nr_bI, ro_, no_, if_true, if_false, ite_true, ite_false, reduceIte, Nat.reduceMod, Nat.reduceEqDiff, Nat.zero_add, Nat.add_zero, lk_, lit_, nI_add, nI_mul, ix_nI, lt_]
  | succ f ih =>
    intro B u2 u3 u4 u5 g hB r far he hm hBh hBl hN hY hBy
    have hW := hN.2.2.2.2.2.2.1
    have h12 := wr_n12 hW
    have hw0 : Wl_ E g w r ms ss := ⟨_, _, _, _, _, _, _, hY.1⟩
    have hlen := hN.2.2.2.2.1
    have hB52 : B + 52001 < 10000000 := Nat.lt_of_le_of_lt (Nat.add_le_add_left (Nat.le_mul_of_pos_right 52001 (Nat.succ_pos f)) B) hBl
    have h4 := lv4_lp (far := far) hyz hN hw0 (Bh_ok hBh (by omega)) hBy n 0 none none (by omega) (fun j hj => by cases hj)
    rw [show fo_ (fun c => fo_ (nh1_ r far s c) n 0) n 0 none = nh_ r far n s from rfl] at h4
    have h3 : R_ E 308 (B_ E 308 3) [some (.ref b), some (.ref y), u2, u3, u4, u5] [] (z, m, up_ hB y (tI_ 0 12 far)) = R_ E 308 (B_ E 308 10) [some (.ref b), some (.ref y), some (.int (lf_ (nh_ r far n s))), some (.int (lt_ (nh_ r far n s))), some (.int (nI n)), none] [] (z, m, up_ hB y (tI_ 0 12 far)) := by
      rw [← h4]
      conv => lhs; rw [b308_3]
      simp (disch := omega) only [K308_3, R_cons, go_nx, go_jp, go_rt, go_th, go_ca, go_no, go_ite, rr_v, rr_n, rr_x, hx_n, hx_p, hx_b, I_push, I_pushl, I_fc0, I_fc1, I_dc0, I_null, I_mask, I_iload, I_lload, I_dload, I_fload, I_aload, I_istore, I_lstore, I_dstore, I_fstore, I_astore, I_iinc, I_iadd, I_isub, I_imul, I_iand, I_ior, I_ixor, I_ishl, I_ishr, I_iushr, I_ineg, I_ladd, I_lsub, I_lmul, I_lxor, I_i2l, I_l2i, I_i2b, I_i2c, I_i2f, I_i2d, I_lcmp, I_fdiv, I_ddiv, I_f2d, I_dcmp, I_dup, I_pop, I_dup_x1, I_dup2, I_icne, I_iceq, I_iclt, I_icge, I_icgt, I_icle, I_ifnull, I_ifnonnull, I_ane, I_aeq, I_goto, I_lsw, I_iret, I_lret, I_fret, I_dret, I_vret, I_nret, I_aret, I_iald, I_bald, I_lald, I_aald, I_iast, I_bast, I_last, I_aast, I_alen, I_new, I_val, I_cast, I_inst, I_obj, I_throw, I_mkx, I_getf, I_putf, I_call, I_calli, I_callv, I_clone, I_getc, i_ifeq, i_ifne, i_iflt, i_ifge, i_ifgt, i_ifle, i_idiv, i_irem, i_newa, i_newo, i_abs, i_max, i_min, i_ldiv, en_, es_i, es_r, es_0, es_n, es_l, List.length_cons, List.length_nil, List.cons_append, List.nil_append, Nat.reduceAdd, Nat.reduceSub, List.replicate, lg_, st1_, st2_, cn_, nl_, mk_, pk_, kd_, sl_, la_, ft_a, ft_i, ft_l, ft_o, ft_n, ft_b0, ft_b1, ft_bI, nr_0, nr_1, nr_bI, ro_, no_, if_true, if_false, ite_true, ite_false, reduceIte, Nat.reduceMod, Nat.reduceEqDiff, Nat.zero_add, Nat.add_zero, lk_, lit_, nI_add, nI_mul, ix_nI, lf_, lt_]
    rw [h3]
    rcases hj : nh_ r far n s with _ | j
    · have el : lv_ e n s (f + 1) r far = r := by unfold lv_; rw [hj]
      rw [el]
      refine ⟨g, hB, far, ?_, hN, hY, hBy, fun k hk hf => by have := hBh k hk hf; omega, fun _ _ => rfl⟩
      rw [b308_10]
      simp (disch := omega) only [K308_10, R_cons, go_nx, go_jp, go_rt, go_th, go_ca, go_no, go_ite, rr_v, rr_n, rr_x, hx_n, hx_p, hx_b, I_push, I_pushl, I_fc0, I_fc1, I_dc0, I_null, I_mask, I_iload, I_lload, I_dload, I_fload, I_aload, I_istore, I_lstore, I_dstore, I_fstore, I_astore, I_iinc, I_iadd, I_isub, I_imul, I_iand, I_ior, I_ixor, I_ishl, I_ishr, I_iushr, I_ineg, I_ladd, I_lsub, I_lmul, I_lxor, I_i2l, I_l2i, I_i2b, I_i2c, I_i2f, I_i2d, I_lcmp, I_fdiv, I_ddiv, I_f2d, I_dcmp, I_dup, I_pop, I_dup_x1, I_dup2, I_icne, I_iceq, I_iclt, I_icge, I_icgt, I_icle, I_ifnull, I_ifnonnull, I_ane, I_aeq, I_goto, I_lsw, I_iret, I_lret, I_fret, I_dret, I_vret, I_nret, I_aret, I_iald, I_bald, I_lald, I_aald, I_iast, I_bast, I_last, I_aast, I_alen, I_new, I_val, I_cast, I_inst, I_obj, I_throw, I_mkx, I_getf, I_putf, I_call, I_calli, I_callv, I_clone, I_getc, i_ifeq, i_ifne, i_iflt, i_ifge, i_ifgt, i_ifle, i_idiv, i_irem, i_newa, i_newo, i_abs, i_max, i_min, i_ldiv, en_, es_i, es_r, es_0, es_n, es_l, List.length_cons, List.length_nil, List.cons_append, List.nil_append, Nat.reduceAdd, Nat.reduceSub, List.replicate, lg_, st1_, st2_, cn_, nl_, mk_, pk_, kd_, sl_, la_, ft_a, ft_i, ft_l, ft_o, ft_n, ft_b0, ft_b1, ft_bI, nr_0, nr_1, nr_bI, ro_, no_, if_true, if_false, ite_true, ite_false, reduceIte, Nat.reduceMod, Nat.reduceEqDiff, Nat.zero_add, Nat.add_zero, lk_, lit_, nI_add, nI_mul, ix_nI, lt_]
    · have el : lv_ e n s (f + 1) r far = lv_ e n s f (lvr_ r e s (j % 12) (j / 12)) (lvf_ r far (j % 12) (j / 12)) := by rw [lv_, hj]
      have hp := nh_p (r := r) (far := far) (s := s) h12 j hj
      have ha := hp.2.1
      have hb := hp.1
      have hfa := hp.2.2.2.1
      rw [el]
      obtain ⟨am1, as1, st1, i1, j1, fm, f1, f2, f3, f4, f5, f6, f7, f8⟩ := lvF (far := far) hyz hN hw0 (Bh_ok hBh (by omega)) hBy
      have hkl : j / 12 < ms.length := by omega
      have hkl2 : j % 12 < ms.length := by omega
      have hle : le_ hB (up_ hB y (tI_ 0 12 far)) := le_up hBy le_rfl
      have hgB := hN.1.choose_spec.2.1
      obtain ⟨nm, x1, x2⟩ := hY.1.2.2.2.2.1 _ _ (List.getElem?_eq_getElem hkl)
      obtain ⟨nm2, v1, v2⟩ := hY.1.2.2.2.2.1 _ _ (List.getElem?_eq_getElem hkl2)
      dsimp only at x1 v1
      have hxb : ms[j / 12] < bb + 1 := Hw_lt hY.2.2.1 x1
      have x3 := hle _ _ (hgB _ _ x1)
      have v3 := hle _ _ (hgB _ _ v1)
      have hgh : hgt_ r (j % 12) = r (8 + 5 * (j % 12) + 4) := if_pos hfa
      rw [hgh] at v3
      have hLs := Ls_mono hle (Ls_mono hgB hY.1.2.1)
      have gx := J_get (E := E) (σ := (z, m, up_ hB y (tI_ 0 12 far))) hLs hkl
      have gv := J_get (E := E) (σ := (z, m, up_ hB y (tI_ 0 12 far))) hLs hkl2
      have hwc := hle _ _ (hgB _ _ hY.1.1)
      rw [hwc] at f2
      cases f2
      have hput := Nx_put (r' := lvr_ r e s (j % 12) (j / 12)) hN hY (List.getElem?_eq_getElem hkl) x1 (fun i hi => by unfold lvr_; rw [upd_n (by omega), upd_n (by omega)]) (lvr_hs (by omega)) (lvr_Wr hW hb)
      dsimp only at hput
      have e1 : lvr_ r e s (j % 12) (j / 12) (8 + 5 * (j / 12) + 1) = r (8 + 5 * (j / 12) + 1) := by unfold lvr_; rw [upd_n (by omega), upd_n (by omega)]
      have e2 : lvr_ r e s (j % 12) (j / 12) (8 + 5 * (j / 12) + 2) = r (8 + 5 * (j / 12) + 2) := by unfold lvr_; rw [upd_n (by omega), upd_n (by omega)]
      rw [e1, e2, lvr_hgt] at hput
      obtain ⟨p1, p2⟩ := hput
      obtain ⟨hB3, eB3⟩ : ∃ h, h = up_ hB ms[j / 12] (.inr (2, [.ref nm, .int (r (8 + 5 * (j / 12) + 1)), .int (r (8 + 5 * (j / 12) + 2)), .int (r (8 + 5 * (j % 12) + 4) + rf_ r e s (j % 12) (j / 12))])) := ⟨_, rfl⟩
      rw [← eB3] at p1
      have hBy3 : hB3 y = none := by rw [eB3, up_n (by omega)]; exact hBy
      have hlt := mh_lt (r := r) (r' := lvr_ r e s (j % 12) (j / 12)) (m := j / 12) (fun k hk => by
        unfold lvr_ upd
        by_cases c : k = j / 12
        · subst c; rw [if_neg (by omega), if_pos rfl]
        · rw [if_neg (by omega), if_neg (by omega)]; exact hk) hp.2.2.1 (by unfold lvr_ upd; rw [if_neg (by omega), if_pos rfl]) n 0 (by omega) (by omega)
      have hhs : hs_ r (lvr_ r e s (j % 12) (j / 12)) := lvr_hs (by omega)
      have hBh' := Bh_lvr (c := j / 12) (e := e) hBh hW (by rw [he]; exact er_in hW) ha hfa (by omega)
      obtain ⟨g', hB', far', k1, k2, k3, k4, k5, k6⟩ := ih (B + 52001) (some (.int (nI (j % 12)))) (some (.int (nI (j / 12)))) none none _ _ _ (lvf_ r far (j % 12) (j / 12)) (by rw [hs_err hhs]; exact he) (by unfold mh_ at hm ⊢; omega) hBh' (by omega) p1 p2 hBy3
      refine ⟨g', hB', far', ?_, k2, k3, k4, fun k hk hf => by have := k5 k hk hf; omega, hs_trans hhs k6⟩
      rw [← k1]
      have q3 : ¬ nI (j / 12) = -nI 1 := nI_nm1 (by omega)
      have hr8 := f8 _ _ ha hb
      rw [← he] at hr8
      have hw3 := WY_Wl p2
      have hok3 : Hok_ (lvr_ r e s (j % 12) (j / 12)) n := Bh_ok hBh' hB52
      obtain ⟨am1', as1', st1', i1', j1', fm', f1', f2', _, _, _, _, f7', _⟩ := lvF (far := far) hyz p1 hw3 hok3 hBy3
      have hd7 := f7' _ _ ha hb
      rw [hs_di hhs] at hd7
      conv => lhs; rw [b308_10]
      simp (disch := omega) only [K308_10, b308_11, K308_11, R_cons, go_nx, go_jp, go_rt, go_th, go_ca, go_no, go_ite, rr_v, rr_n, rr_x, hx_n, hx_p, hx_b, I_push, I_pushl, I_fc0, I_fc1, I_dc0, I_null, I_mask, I_iload, I_lload, I_dload, I_fload, I_aload, I_istore, I_lstore, I_dstore, I_fstore, I_astore, I_iinc, I_iadd, I_isub, I_imul, I_iand, I_ior, I_ixor, I_ishl, I_ishr, I_iushr, I_ineg, I_ladd, I_lsub, I_lmul, I_lxor, I_i2l, I_l2i, I_i2b, I_i2c, I_i2f, I_i2d, I_lcmp, I_fdiv, I_ddiv, I_f2d, I_dcmp, I_dup, I_pop, I_dup_x1, I_dup2, I_icne, I_iceq, I_iclt, I_icge, I_icgt, I_icle, I_ifnull, I_ifnonnull, I_ane, I_aeq, I_goto, I_lsw, I_iret, I_lret, I_fret, I_dret, I_vret, I_nret, I_aret, I_iald, I_bald, I_lald, I_aald, I_iast, I_bast, I_last, I_aast, I_alen, I_new, I_val, I_cast, I_inst, I_obj, I_throw, I_mkx, I_getf, I_putf, I_call, I_calli, I_callv, I_clone, I_getc, i_ifeq, i_ifne, i_iflt, i_ifge, i_ifgt, i_ifle, i_idiv, i_irem, i_newa, i_newo, i_abs, i_max, i_min, i_ldiv, en_, es_i, es_r, es_0, es_n, es_l, List.length_cons, List.length_nil, List.cons_append, List.nil_append, Nat.reduceAdd, Nat.reduceSub, List.replicate, lg_, st1_, st2_, cn_, nl_, mk_, pk_, kd_, sl_, la_, ft_a, ft_i, ft_l, ft_o, ft_n, ft_b0, ft_b1, ft_bI, nr_0, nr_1, nr_bI, ro_, no_, if_true, if_false, ite_true, ite_false, reduceIte, Nat.reduceMod, Nat.reduceEqDiff, Nat.zero_add, Nat.add_zero, lk_, lit_, nI_add, nI_mul, ix_nI, fgk_0, fgk_1, fgk_2, fgk_3, fgk_4, fgk_5, fgk_6, fgk_7, fgk_8, fgk_9, fgk_10, fgk_11, fgk_12, fgk_13, fsk_0, fsk_1, fsk_2, fsk_3, fsk_4, fsk_5, fsk_6, fsk_7, fsk_8, fsk_9, fsk_10, fsk_11, fsk_12, fsk_13, ca_i, ca_r, ca_n, Nat.reduceLT, true_or, or_true, if_true, false_or, or_false, and_true, true_and, List.mem_singleton, eq_self, lf_, lt_, q3, f1, fg_nf12, hwc, f3, gx, gv, x3, v3, hr8]
      rw [up_co (h := hB) (a := y) (c := ms[j / 12]) (by omega), ← eB3]
      simp (disch := omega) only [R_cons, go_nx, go_jp, go_rt, go_th, go_ca, go_no, go_ite, rr_v, rr_n, rr_x, hx_n, hx_p, hx_b, I_push, I_pushl, I_fc0, I_fc1, I_dc0, I_null, I_mask, I_iload, I_lload, I_dload, I_fload, I_aload, I_istore, I_lstore, I_dstore, I_fstore, I_astore, I_iinc, I_iadd, I_isub, I_imul, I_iand, I_ior, I_ixor, I_ishl, I_ishr, I_iushr, I_ineg, I_ladd, I_lsub, I_lmul, I_lxor, I_i2l, I_l2i, I_i2b, I_i2c, I_i2f, I_i2d, I_lcmp, I_fdiv, I_ddiv, I_f2d, I_dcmp, I_dup, I_pop, I_dup_x1, I_dup2, I_icne, I_iceq, I_iclt, I_icge, I_icgt, I_icle, I_ifnull, I_ifnonnull, I_ane, I_aeq, I_goto, I_lsw, I_iret, I_lret, I_fret, I_dret, I_vret, I_nret, I_aret, I_iald, I_bald, I_lald, I_aald, I_iast, I_bast, I_last, I_aast, I_alen, I_new, I_val, I_cast, I_inst, I_obj, I_throw, I_mkx, I_getf, I_putf, I_call, I_calli, I_callv, I_clone, I_getc, i_ifeq, i_ifne, i_iflt, i_ifge, i_ifgt, i_ifle, i_idiv, i_irem, i_newa, i_newo, i_abs, i_max, i_min, i_ldiv, en_, es_i, es_r, es_0, es_n, es_l, List.length_cons, List.length_nil, List.cons_append, List.nil_append, Nat.reduceAdd, Nat.reduceSub, List.replicate, lg_, st1_, st2_, cn_, nl_, mk_, pk_, kd_, sl_, la_, ft_a, ft_i, ft_l, ft_o, ft_n, ft_b0, ft_b1, ft_bI, nr_0, nr_1, nr_bI, ro_, no_, if_true, if_false, ite_true, ite_false, reduceIte, Nat.reduceMod, Nat.reduceEqDiff, Nat.zero_add, Nat.add_zero, lk_, lit_, nI_add, nI_mul, ix_nI, fgk_0, fgk_1, fgk_2, fgk_3, fgk_4, fgk_5, fgk_6, fgk_7, fgk_8, fgk_9, fgk_10, fgk_11, fgk_12, fgk_13, fsk_0, fsk_1, fsk_2, fsk_3, fsk_4, fsk_5, fsk_6, fsk_7, fsk_8, fsk_9, fsk_10, fsk_11, fsk_12, fsk_13, ca_i, ca_r, ca_n, Nat.reduceLT, true_or, or_true, if_true, false_or, or_false, and_true, true_and, List.mem_singleton, eq_self, f1', f2', fg_nf12, hd7, up_s, up_up, ix_nI, lvf_]
theorem N_level {σ : As_} {B : Nat} {g : Nat → Option Ac_} {r : Nat → Int32} (hN : Nx_ E g σ b bb q w N r n s ms ss) (hY : WY_ E h0 (bb + 1, m', g) w r am em as es st mc mc' ms ss) (hBh : Bh_ (fo_ l0_ n 0 r) n B) (hB : B + 52001 * n < 10000000) :
    ∃ σ' g', D_ E 308 [.ref b] σ = some (.inl none, σ') ∧ Nx_ E g' σ' b bb q w N (lev_ r n s) n s ms ss ∧ WY_ E h0 (bb + 1, m', g') w (lev_ r n s) am em as es st mc mc' ms ss ∧ Sz_ 24 σ σ' ∧ Bh_ (lev_ r n s) n (B + 52001 * n) ∧ hs_ r (lev_ r n s) := by
  have hW := hN.2.2.2.2.2.2.1
  have h12 := wr_n12 hW
  obtain ⟨lc, hV⟩ := id hN.1
  have hw := hV.2.2.1
  have hbz : b < σ.1 := Hw_lt hw hV.1.1
  have hyb : bb < σ.1 := by have := NV_lt hV; have := hV.2.2.2.2; omega
  have hgB := hV.2.1
  obtain ⟨_, _, _, l5, _⟩ := id hY.1.2.1
  have l6 := hgB _ _ l5
  have hwc := hgB _ _ hY.1.1
  have eS : up_ (up_ σ.2.2 σ.1 (tI_ 0 12 (fun _ => nI 0))) (σ.1 + 1) (.inr (12, [.int (nI 0), .int (-nI 1), .int mc, .ref am])) = up_ (up_ σ.2.2 (σ.1 + 1) (.inr (12, [.int (nI 0), .int (-nI 1), .int mc, .ref am]))) σ.1 (tI_ 0 12 (fun _ => nI 0)) := up_co (by omega)
  have hf1 : Fr_ 16 σ (σ.1 + 1, σ.2.1 + 12, up_ σ.2.2 σ.1 (tI_ 0 12 (fun _ => nI 0))) := Fr_new (k := 12) hw
  have hI := J_iter (E := E) (σ := (σ.1 + 1, σ.2.1 + 12, up_ σ.2.2 σ.1 (tI_ 0 12 (fun _ => nI 0)))) (Ls_mono hf1.1 (Ls_mono hgB hY.1.2.1)) hf1.2.2.2.2
  dsimp only at hI
  rw [eS] at hI
  have hf2 : Fr_ 24 σ (σ.1 + 1 + 1, σ.2.1 + 12 + 4, up_ σ.2.2 (σ.1 + 1) (.inr (12, [.int (nI 0), .int (-nI 1), .int mc, .ref am]))) := ⟨le_up (hw _ (by omega)) le_rfl, by dsimp only; omega, by dsimp only; omega, by dsimp only; omega, fun x hx => by
    dsimp only at hx ⊢
    rw [up_n (by omega)]
    exact hw x (by omega)⟩
  have hN2 := Nx_fr hN hf2
  have hy0 : up_ σ.2.2 (σ.1 + 1) (.inr (12, [.int (nI 0), .int (-nI 1), .int mc, .ref am])) σ.1 = none := by
    rw [up_n (by omega)]
    exact hw _ (Nat.le_refl _)
  obtain ⟨g1, hB1, k1, k2, k3, k4⟩ := lv1_lp (E := E) (F := tI_ 0 12 (fun _ => nI 0)) (it := σ.1 + 1) (y := σ.1) (by omega) hyb (by omega) (by omega) n 0 (-nI 1) none none none _ _ r (by omega) hN2 hY (up_s _ _ _) hy0
  have hh0 : hs_ r (fo_ l0_ n 0 r) := l0_hs n 0 (by omega)
  obtain ⟨g2, hB2, far', p1, p2, p3, p4, p5, p6⟩ := lv3_lp (E := E) (y := σ.1) (by omega) hyb (err_ r n s) n B (some (.ref (σ.1 + 1))) none none none _ _ _ (fun _ => nI 0) (by rw [hs_err hh0]) (mh_n n 0) hBh hB k2 k3 k4
  have hff : Fr_ 0 (σ.1 + 1 + 1, σ.2.1 + 12 + 4, hB2) (σ.1 + 1 + 1, σ.2.1 + 12 + 4, up_ hB2 σ.1 (tI_ 0 12 far')) := ⟨le_up p4 le_rfl, Nat.le_refl _, Nat.le_refl _, Nat.le_refl _, up_Hw (σ := (σ.1 + 1 + 1, σ.2.1 + 12 + 4, hB2)) (p2.1.choose_spec.2.2.1) (by dsimp only; omega)⟩
  refine ⟨_, g2, ?_, Nx_fr p2 hff, p3, ⟨by dsimp only; omega, by dsimp only; omega, by dsimp only; omega⟩, p5, hs_trans hh0 p6⟩
  rw [D_run]
  have h0w : up_ σ.2.2 σ.1 (tI_ 0 12 (fun _ => nI 0)) b = some (.inr (6, nf_ bb q w N)) := hf1.1 _ _ hV.1.1
  have h1w := hf1.1 _ _ hwc
  have h2w := hf1.1 _ _ l6
  dsimp only at h1w h2w
  simp (disch := omega) only [b308_0, K308_0, l308, R_cons, go_nx, go_jp, go_rt, go_th, go_ca, go_no, go_ite, rr_v, rr_n, rr_x, hx_n, hx_p, hx_b, I_push, I_pushl, I_fc0, I_fc1, I_dc0, I_null, I_mask, I_iload, I_lload, I_dload, I_fload, I_aload, I_istore, I_lstore, I_dstore, I_fstore, I_astore, I_iinc, I_iadd, I_isub, I_imul, I_iand, I_ior, I_ixor, I_ishl, I_ishr, I_iushr, I_ineg, I_ladd, I_lsub, I_lmul, I_lxor, I_i2l, I_l2i, I_i2b, I_i2c, I_i2f, I_i2d, I_lcmp, I_fdiv, I_ddiv, I_f2d, I_dcmp, I_dup, I_pop, I_dup_x1, I_dup2, I_icne, I_iceq, I_iclt, I_icge, I_icgt, I_icle, I_ifnull, I_ifnonnull, I_ane, I_aeq, I_goto, I_lsw, I_iret, I_lret, I_fret, I_dret, I_vret, I_nret, I_aret, I_iald, I_bald, I_lald, I_aald, I_iast, I_bast, I_last, I_aast, I_alen, I_new, I_val, I_cast, I_inst, I_obj, I_throw, I_mkx, I_getf, I_putf, I_call, I_calli, I_callv, I_clone, I_getc, i_ifeq, i_ifne, i_iflt, i_ifge, i_ifgt, i_ifle, i_idiv, i_irem, i_newa, i_newo, i_abs, i_max, i_min, i_ldiv, en_, es_i, es_r, es_0, es_n, es_l, List.length_cons, List.length_nil, List.cons_append, List.nil_append, Nat.reduceAdd, Nat.reduceSub, List.replicate, lg_, st1_, st2_, cn_, nl_, mk_, pk_, kd_, sl_, la_, ft_a, ft_i, ft_l, ft_o, ft_n, ft_b0, ft_b1, ft_bI, nr_0, nr_1, nr_bI, ro_, no_, if_true, if_false, ite_true, ite_false, reduceIte, Nat.reduceMod, Nat.reduceEqDiff, Nat.zero_add, Nat.add_zero, lk_, lit_, nI_add, nI_mul, ix_nI, fgk_0, fgk_1, fgk_2, fgk_3, fgk_4, fgk_5, fgk_6, fgk_7, fgk_8, fgk_9, fgk_10, fgk_11, fgk_12, fgk_13, fsk_0, fsk_1, fsk_2, fsk_3, fsk_4, fsk_5, fsk_6, fsk_7, fsk_8, fsk_9, fsk_10, fsk_11, fsk_12, fsk_13, ca_i, ca_r, ca_n, Nat.reduceLT, true_or, or_true, if_true, false_or, or_false, and_true, true_and, List.mem_singleton, eq_self, i_newa, h0w, fg_nf12, h1w, h2w, hI]
  rw [k1, p1]
end CLD
