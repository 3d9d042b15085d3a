section MUX
variable {E : En_} {σ : As_} {hl w p n s : Nat} {ns ws : List Nat} {r : Nat → Int32} {ms ss : List Nat} {sv : Value} {ft : List Value}
theorem Hi_hl {h : Nat → Option Ac_} {fs : List Value} (hp : h p = some (.inr (0, fs))) (hH : Hi_ h hl ns ws) : p ≠ hl ∧ p ∉ ns := by
  obtain ⟨mc, h1, h2, h3, h4⟩ := hH
  refine ⟨fun q => by (rw [q, h1] at hp; cases hp), fun q => ?_⟩
  obtain ⟨i, hi, e⟩ := List.getElem_of_mem q
  obtain ⟨v, _, v2⟩ := h4 i p (by rw [List.getElem?_eq_getElem hi, e])
  rw [hp] at v2
  cases v2
theorem S_undo0 (h : Sq_ E σ p w (sv :: .ref hl :: ft) r n s ms ss) (hH : Hi_ σ.2.2 hl [] ws) : D_ E 395 [.ref p] σ = some (.inr (21, σ.1), thr_ σ 21) := by
  have hp := h.1
  have e := H_isEmpty (E := E) hH (by decide)
  rw [bI_t (show ([] : List Nat).length = 0 from rfl)] at e
  obtain ⟨mc, h1, _⟩ := id hH
  rw [D_run]
  simp (disch := omega) only [l395, b395_0, K395_0, b395_1, K395_1, b395_2, K395_2, R_cons, go_nx, go_jp, go_rt, go_th, go_ca, go_no, go_ite, rr_v, rr_n, rr_x, hx_n, hx_p, hx_b, I_push, I_pushl, I_fc0, I_fc1, I_dc0, I_null, I_mask, I_iload, I_lload, I_dload, I_fload, I_aload, I_istore, I_lstore, I_dstore, I_fstore, I_astore, I_iinc, I_iadd, I_isub, I_imul, I_iand, I_ior, I_ixor, I_ishl, I_ishr, I_iushr, I_ineg, I_ladd, I_lsub, I_lmul, I_lxor, I_i2l, I_l2i, I_i2b, I_i2c, I_i2f, I_i2d, I_lcmp, I_fdiv, I_ddiv, I_f2d, I_dcmp, I_dup, I_pop, I_dup_x1, I_dup2, I_icne, I_iceq, I_iclt, I_icge, I_icgt, I_icle, I_ifnull, I_ifnonnull, I_ane, I_aeq, I_goto, I_lsw, I_iret, I_lret, I_fret, I_dret, I_vret, I_nret, I_aret, I_iald, I_bald, I_lald, I_aald, I_iast, I_bast, I_last, I_aast, I_alen, I_new, I_val, I_cast, I_inst, I_obj, I_throw, I_mkx, I_getf, I_putf, I_call, I_calli, I_callv, I_clone, I_getc, i_ifeq, i_ifne, i_iflt, i_ifge, i_ifgt, i_ifle, i_idiv, i_irem, i_newa, i_newo, i_abs, i_max, i_min, i_ldiv, en_, es_i, es_r, es_0, es_n, es_l, List.length_cons, List.length_nil, List.cons_append, List.nil_append, Nat.reduceAdd, Nat.reduceSub, List.replicate, lg_, st1_, st2_, cn_, nl_, mk_, pk_, kd_, sl_, la_, ft_a, ft_i, ft_l, ft_o, ft_n, ft_b0, ft_b1, ft_bI, nr_0, nr_1, nr_bI, ro_, no_, if_true, if_false, ite_true, ite_false, reduceIte, Nat.reduceMod, Nat.reduceEqDiff, Nat.zero_add, Nat.add_zero, lk_, lit_, nI_add, nI_mul, ix_nI, fgk_0, fgk_1, fgk_2, fgk_3, fgk_4, fgk_5, fgk_6, fgk_7, fgk_8, fgk_9, fgk_10, fgk_11, fgk_12, fgk_13, fsk_0, fsk_1, fsk_2, fsk_3, fsk_4, fsk_5, fsk_6, fsk_7, fsk_8, fsk_9, fsk_10, fsk_11, fsk_12, fsk_13, ca_i, ca_r, ca_n, Nat.reduceLT, true_or, or_true, if_true, false_or, or_false, and_true, true_and, List.mem_singleton, eq_self, hp, h1, e, S_cs0, n10_]
theorem S_undo1 {y v : Nat} {l vs : List Nat} {gs : List Value} (h : Sq_ E σ p w (sv :: .ref hl :: ft) r n s ms ss) (hH : Hi_ σ.2.2 hl (l ++ [y]) (vs ++ [v])) (hn : l.length < 99) (hv : σ.2.2 v = some (.inr (1, gs))) :
    ∃ σ', D_ E 395 [.ref p] σ = some (.inl (some (.int (nI l.length))), σ') ∧ le_ (rsh_ σ.2.2 (p :: hl :: (l ++ [y]))) σ'.2.2 ∧ σ'.2.2 p = some (.inr (0, .ref v :: sv :: .ref hl :: ft)) ∧ Hi_ σ'.2.2 hl l vs ∧ Hw_ σ' ∧ Sz_ 0 σ σ' := by
  have hp := h.1
  obtain ⟨hpl, hpn⟩ := Hi_hl hp hH
  have e := H_isEmpty (E := E) hH (by simp; omega)
  rw [bI_f (by simp)] at e
  obtain ⟨mc, h1, _⟩ := id hH
  obtain ⟨σ1, a1, a2, a3, a4, a5, a6⟩ := H_removeLast (E := E) hH (Sq_hw h) (by omega)
  have hp1 := a3 _ _ hp hpl hpn
  have hv1 := a3 _ _ hv (fun q => by rw [q, h1] at hv; cases hv) (fun q => by
    obtain ⟨_, _, _, _, h4⟩ := hH
    obtain ⟨i, hi, e⟩ := List.getElem_of_mem q
    obtain ⟨u, _, v2⟩ := h4 i v (by rw [List.getElem?_eq_getElem hi, e])
    rw [hv] at v2
    cases v2)
  have hs := H_size (E := E) a2
  obtain ⟨mc2, h2, _⟩ := id a2
  have hpl1 := Hw_lt a4 hp1
  have hH2 : Hi_ (up_ σ1.2.2 p (.inr (0, .ref v :: sv :: .ref hl :: ft))) hl l vs := Hi_kp a2 (fun y k fs hy hk => by
    rw [up_n (fun q => by
      rw [q, hp1] at hy
      cases hy
      omega)]
    exact hy)
  have hs2 := H_size (E := E) (σ := (σ1.1, σ1.2.1, up_ σ1.2.2 p (.inr (0, .ref v :: sv :: .ref hl :: ft)))) hH2
  obtain ⟨mc3, h3, _⟩ := id hH2
  refine ⟨(σ1.1, σ1.2.1, up_ σ1.2.2 p (.inr (0, .ref v :: sv :: .ref hl :: ft))), ?_, ?_, up_s _ _ _, hH2, up_Hw a4 hpl1, ⟨by dsimp only; omega, by dsimp only; omega, by dsimp only; omega⟩⟩
  · rw [D_run]
    simp (disch := omega) only [l395, b395_0, K395_0, b395_1, K395_1, b395_2, K395_2, R_cons, go_nx, go_jp, go_rt, go_th, go_ca, go_no, go_ite, rr_v, rr_n, rr_x, hx_n, hx_p, hx_b, I_push, I_pushl, I_fc0, I_fc1, I_dc0, I_null, I_mask, I_iload, I_lload, I_dload, I_fload, I_aload, I_istore, I_lstore, I_dstore, I_fstore, I_astore, I_iinc, I_iadd, I_isub, I_imul, I_iand, I_ior, I_ixor, I_ishl, I_ishr, I_iushr, I_ineg, I_ladd, I_lsub, I_lmul, I_lxor, I_i2l, I_l2i, I_i2b, I_i2c, I_i2f, I_i2d, I_lcmp, I_fdiv, I_ddiv, I_f2d, I_dcmp, I_dup, I_pop, I_dup_x1, I_dup2, I_icne, I_iceq, I_iclt, I_icge, I_icgt, I_icle, I_ifnull, I_ifnonnull, I_ane, I_aeq, I_goto, I_lsw, I_iret, I_lret, I_fret, I_dret, I_vret, I_nret, I_aret, I_iald, I_bald, I_lald, I_aald, I_iast, I_bast, I_last, I_aast, I_alen, I_new, I_val, I_cast, I_inst, I_obj, I_throw, I_mkx, I_getf, I_putf, I_call, I_calli, I_callv, I_clone, I_getc, i_ifeq, i_ifne, i_iflt, i_ifge, i_ifgt, i_ifle, i_idiv, i_irem, i_newa, i_newo, i_abs, i_max, i_min, i_ldiv, en_, es_i, es_r, es_0, es_n, es_l, List.length_cons, List.length_nil, List.cons_append, List.nil_append, Nat.reduceAdd, Nat.reduceSub, List.replicate, lg_, st1_, st2_, cn_, nl_, mk_, pk_, kd_, sl_, la_, ft_a, ft_i, ft_l, ft_o, ft_n, ft_b0, ft_b1, ft_bI, nr_0, nr_1, nr_bI, ro_, no_, if_true, if_false, ite_true, ite_false, reduceIte, Nat.reduceMod, Nat.reduceEqDiff, Nat.zero_add, Nat.add_zero, lk_, lit_, nI_add, nI_mul, ix_nI, fgk_0, fgk_1, fgk_2, fgk_3, fgk_4, fgk_5, fgk_6, fgk_7, fgk_8, fgk_9, fgk_10, fgk_11, fgk_12, fgk_13, fsk_0, fsk_1, fsk_2, fsk_3, fsk_4, fsk_5, fsk_6, fsk_7, fsk_8, fsk_9, fsk_10, fsk_11, fsk_12, fsk_13, ca_i, ca_r, ca_n, Nat.reduceLT, true_or, or_true, if_true, false_or, or_false, and_true, true_and, List.mem_singleton, eq_self, hp, h1, e, S_cs1, n10_, a1, hv1, hp1, up_s, h3, hs2]
  · exact le_up (rsh_i (by simp)) (rsh_le (fun y c hy hyx => a3 y c hy (fun q => hyx (by rw [q]; simp)) (fun q => hyx (List.mem_cons_of_mem _ (List.mem_cons_of_mem _ q)))))
/-- a wall of before in a heap where the object has changed -/
theorem WlA_put {h h' : Nat → Option Ac_} {fs : List Value} {c : Ac_} {am em as es st : Nat} {mc mc' : Int32} (hl : le_ h h') (hp : h' p = some (.inr (0, fs))) (hA : WlA_ E h w r am em as es st mc mc' ms ss) : WlA_ E (up_ h' p c) w r am em as es st mc mc' ms ss :=
  WlA_kp (fun y d hy hg => up_gd hp (by unfold gd_; omega) y d (hl y d hy) hg) hA
theorem WY_put {h0 : Nat → Option Ac_} {fs : List Value} {c : Ac_} {am em as es st : Nat} {mc mc' : Int32} (hp : h0 p = some (.inr (0, fs))) (hY : WY_ E h0 σ w r am em as es st mc mc' ms ss) : WY_ E (up_ h0 p c) (σ.1, σ.2.1, up_ σ.2.2 p c) w r am em as es st mc mc' ms ss := by
  obtain ⟨w1, w2, w3, w4, w5, w6, w7, w8, w9, w10, w11⟩ := hY
  have hnp : ∀ {y}, h0 y = none → up_ h0 p c y = none := fun {y} hy => by
    rw [up_n (fun q => by rw [q, hp] at hy; cases hy)]
    exact hy
  exact ⟨WlA_kp (up_gd (w2 _ _ hp) (by unfold gd_; omega)) w1, le_put w2, up_Hw w3 (Hw_lt w3 (w2 _ _ hp)), hnp w4, hnp w5, hnp w6, hnp w7, w8.imp hnp id, w9.imp hnp id, fun x hx => hnp (w10 x hx), fun x hx => hnp (w11 x hx)⟩
theorem S_saveState (h : Sq_ E σ p w (sv :: .ref hl :: ft) r n s ms ss) :
    ∃ σ' am em as es st mc mc' ms' ss', D_ E 360 [.ref p] σ = some (.inl (some (.int (nI s))), σ') ∧ WY_ E (up_ σ.2.2 p (.inr (0, .ref w :: .ref σ.1 :: .ref hl :: ft))) σ' σ.1 r am em as es st mc mc' ms' ss' ∧ ms'.length = n ∧ ss'.length = s ∧ Sz_ 730 σ σ' := by
  have hp := h.1
  have hW := Sq_W h
  have hw := Sq_hw h
  obtain ⟨am0, em0, as0, es0, st0, mc0, mc1, hA⟩ := id h.2.1
  obtain ⟨σ3, am, em, as, es, st, mc, mc', ms', ss', c1, c2, c3, c4, c5⟩ := W_copy (E := E) h.2.2.2.2.2.2.1 h.2.1 h.2.2.1 h.2.2.2.1 hW hw
  have hp3 := c2.2.1 _ _ hp
  have hA3 := WlA_put (c := .inr (0, .ref w :: .ref σ.1 :: .ref hl :: ft)) c2.2.1 hp3 hA
  have hY := WY_put (c := .inr (0, .ref w :: .ref σ.1 :: .ref hl :: ft)) hp c2
  have gz := J_size (E := E) (σ := (σ3.1, σ3.2.1, up_ σ3.2.2 p (.inr (0, .ref w :: .ref σ.1 :: .ref hl :: ft)))) hA3.2.2.1
  rw [h.2.2.2.1] at gz
  have hwc := hA.1
  have w3 := hA3.1
  obtain ⟨_, _, _, l6, _⟩ := id hA3.2.2.1
  have x3 := c2.1.1
  refine ⟨(σ3.1, σ3.2.1, up_ σ3.2.2 p (.inr (0, .ref w :: .ref σ.1 :: .ref hl :: ft))), am, em, as, es, st, mc, mc', ms', ss', ?_, hY, c3, c4, c5⟩
  rw [D_run]
  simp (disch := omega) only [l360, b360_0, K360_0, R_cons, go_nx, go_jp, go_rt, go_th, go_ca, go_no, go_ite, rr_v, rr_n, rr_x, hx_n, hx_p, hx_b, I_push, I_pushl, I_fc0, I_fc1, I_dc0, I_null, I_mask, I_iload, I_lload, I_dload, I_fload, I_aload, I_istore, I_lstore, I_dstore, I_fstore, I_astore, I_iinc, I_iadd, I_isub, I_imul, I_iand, I_ior, I_ixor, I_ishl, I_ishr, I_iushr, I_ineg, I_ladd, I_lsub, I_lmul, I_lxor, I_i2l, I_l2i, I_i2b, I_i2c, I_i2f, I_i2d, I_lcmp, I_fdiv, I_ddiv, I_f2d, I_dcmp, I_dup, I_pop, I_dup_x1, I_dup2, I_icne, I_iceq, I_iclt, I_icge, I_icgt, I_icle, I_ifnull, I_ifnonnull, I_ane, I_aeq, I_goto, I_lsw, I_iret, I_lret, I_fret, I_dret, I_vret, I_nret, I_aret, I_iald, I_bald, I_lald, I_aald, I_iast, I_bast, I_last, I_aast, I_alen, I_new, I_val, I_cast, I_inst, I_obj, I_throw, I_mkx, I_getf, I_putf, I_call, I_calli, I_callv, I_clone, I_getc, i_ifeq, i_ifne, i_iflt, i_ifge, i_ifgt, i_ifle, i_idiv, i_irem, i_newa, i_newo, i_abs, i_max, i_min, i_ldiv, en_, es_i, es_r, es_0, es_n, es_l, List.length_cons, List.length_nil, List.cons_append, List.nil_append, Nat.reduceAdd, Nat.reduceSub, List.replicate, lg_, st1_, st2_, cn_, nl_, mk_, pk_, kd_, sl_, la_, ft_a, ft_i, ft_l, ft_o, ft_n, ft_b0, ft_b1, ft_bI, nr_0, nr_1, nr_bI, ro_, no_, if_true, if_false, ite_true, ite_false, reduceIte, Nat.reduceMod, Nat.reduceEqDiff, Nat.zero_add, Nat.add_zero, lk_, lit_, nI_add, nI_mul, ix_nI, fgk_0, fgk_1, fgk_2, fgk_3, fgk_4, fgk_5, fgk_6, fgk_7, fgk_8, fgk_9, fgk_10, fgk_11, fgk_12, fgk_13, fsk_0, fsk_1, fsk_2, fsk_3, fsk_4, fsk_5, fsk_6, fsk_7, fsk_8, fsk_9, fsk_10, fsk_11, fsk_12, fsk_13, ca_i, ca_r, ca_n, Nat.reduceLT, true_or, or_true, if_true, false_or, or_false, and_true, true_and, List.mem_singleton, eq_self, hp, hwc, c1, x3, hp3, up_s, w3, l6, gz]
theorem S_restore0 (h : Sq_ E σ p w (.null :: .ref hl :: ft) r n s ms ss) : D_ E 398 [.ref p] σ = some (.inr (21, σ.1), thr_ σ 21) := by
  have hp := h.1
  rw [D_run]
  simp (disch := omega) only [l398, b398_0, K398_0, b398_1, K398_1, b398_2, K398_2, R_cons, go_nx, go_jp, go_rt, go_th, go_ca, go_no, go_ite, rr_v, rr_n, rr_x, hx_n, hx_p, hx_b, I_push, I_pushl, I_fc0, I_fc1, I_dc0, I_null, I_mask, I_iload, I_lload, I_dload, I_fload, I_aload, I_istore, I_lstore, I_dstore, I_fstore, I_astore, I_iinc, I_iadd, I_isub, I_imul, I_iand, I_ior, I_ixor, I_ishl, I_ishr, I_iushr, I_ineg, I_ladd, I_lsub, I_lmul, I_lxor, I_i2l, I_l2i, I_i2b, I_i2c, I_i2f, I_i2d, I_lcmp, I_fdiv, I_ddiv, I_f2d, I_dcmp, I_dup, I_pop, I_dup_x1, I_dup2, I_icne, I_iceq, I_iclt, I_icge, I_icgt, I_icle, I_ifnull, I_ifnonnull, I_ane, I_aeq, I_goto, I_lsw, I_iret, I_lret, I_fret, I_dret, I_vret, I_nret, I_aret, I_iald, I_bald, I_lald, I_aald, I_iast, I_bast, I_last, I_aast, I_alen, I_new, I_val, I_cast, I_inst, I_obj, I_throw, I_mkx, I_getf, I_putf, I_call, I_calli, I_callv, I_clone, I_getc, i_ifeq, i_ifne, i_iflt, i_ifge, i_ifgt, i_ifle, i_idiv, i_irem, i_newa, i_newo, i_abs, i_max, i_min, i_ldiv, en_, es_i, es_r, es_0, es_n, es_l, List.length_cons, List.length_nil, List.cons_append, List.nil_append, Nat.reduceAdd, Nat.reduceSub, List.replicate, lg_, st1_, st2_, cn_, nl_, mk_, pk_, kd_, sl_, la_, ft_a, ft_i, ft_l, ft_o, ft_n, ft_b0, ft_b1, ft_bI, nr_0, nr_1, nr_bI, ro_, no_, if_true, if_false, ite_true, ite_false, reduceIte, Nat.reduceMod, Nat.reduceEqDiff, Nat.zero_add, Nat.add_zero, lk_, lit_, nI_add, nI_mul, ix_nI, fgk_0, fgk_1, fgk_2, fgk_3, fgk_4, fgk_5, fgk_6, fgk_7, fgk_8, fgk_9, fgk_10, fgk_11, fgk_12, fgk_13, fsk_0, fsk_1, fsk_2, fsk_3, fsk_4, fsk_5, fsk_6, fsk_7, fsk_8, fsk_9, fsk_10, fsk_11, fsk_12, fsk_13, ca_i, ca_r, ca_n, Nat.reduceLT, true_or, or_true, if_true, false_or, or_false, and_true, true_and, List.mem_singleton, eq_self, hp, S_cs0, n10_]
theorem S_restore1 {w2 n2 s2 : Nat} {r2 : Nat → Int32} {ms2 ss2 : List Nat} (h : Sq_ E σ p w (.ref w2 :: .ref hl :: ft) r n s ms ss) (hH : Hi_ σ.2.2 hl ns ws) (h2 : Wl_ E σ.2.2 w2 r2 ms2 ss2) (hm : ms2.length = n2) (hss : ss2.length = s2) (hW : Wr_ r2 n2 s2) :
    ∃ σ' h0 w' am em as es st mc mc' ms' ss', D_ E 398 [.ref p] σ = some (.inl (some (.int (nI s2))), σ') ∧ le_ (rsh_ σ.2.2 (p :: hl :: ns)) h0 ∧ h0 p = some (.inr (0, .ref w' :: .ref w2 :: .ref hl :: ft)) ∧ Hi_ h0 hl [] [] ∧ WY_ E h0 σ' w' r2 am em as es st mc mc' ms' ss' ∧ ms'.length = n2 ∧ ss'.length = s2 ∧ Sz_ 730 σ σ' := by
  have hp := h.1
  have hw := Sq_hw h
  obtain ⟨hpl, hpn⟩ := Hi_hl hp hH
  obtain ⟨am0, em0, as0, es0, st0, mc0, mc1, hA⟩ := id h2
  obtain ⟨σ3, am, em, as, es, st, mc, mc', ms', ss', c1, c2, c3, c4, c5⟩ := W_copy (E := E) h.2.2.2.2.2.2.1 h2 hm hss hW hw
  have hp3 := c2.2.1 _ _ hp
  have hY := WY_put (c := .inr (0, .ref σ.1 :: .ref w2 :: .ref hl :: ft)) hp c2
  have hH3 : Hi_ (up_ σ3.2.2 p (.inr (0, .ref σ.1 :: .ref w2 :: .ref hl :: ft))) hl ns ws := Hi_kp hH (fun y k fs hy hk => by
    rw [up_n (fun q => by
      rw [q, hp] at hy
      cases hy
      omega)]
    exact c2.2.1 _ _ hy)
  have hHa : Hi_ (up_ σ.2.2 p (.inr (0, .ref σ.1 :: .ref w2 :: .ref hl :: ft))) hl ns ws := Hi_kp hH (fun y k fs hy hk => by
    rw [up_n (fun q => by
      rw [q, hp] at hy
      cases hy
      omega)]
    exact hy)
  obtain ⟨σ4, d1, d2, d3, d4, d5, d6⟩ := H_clear (E := E) (σ := (σ3.1, σ3.2.1, up_ σ3.2.2 p (.inr (0, .ref σ.1 :: .ref w2 :: .ref hl :: ft)))) hH3 hY.2.2.1
  obtain ⟨mc4, k1, _⟩ := id d2
  obtain ⟨mh, hh1, _⟩ := id hH
  obtain ⟨w1, _, _, w4, w5, w6, w7, w8, w9, w10, w11⟩ := id c2
  have hkeep : ∀ {z c}, up_ σ3.2.2 p (.inr (0, .ref σ.1 :: .ref w2 :: .ref hl :: ft)) z = some c → gd_ c → σ4.2.2 z = some c := fun {z c} hz hg => d3 z c hz (fun q => by
      obtain ⟨_, this, _⟩ := hH3
      rw [q, this] at hz
      cases hz
      unfold gd_ at hg
      omega) (fun q => by
      obtain ⟨_, _, _, _, h4⟩ := hH3
      obtain ⟨i, hi, e⟩ := List.getElem_of_mem q
      obtain ⟨u, _, v2⟩ := h4 i z (by rw [List.getElem?_eq_getElem hi, e])
      rw [hz] at v2
      cases v2
      unfold gd_ at hg
      omega)
  have hA4 := WlA_kp (fun z c hz hg => hkeep hz hg) hY.1
  have hnp : ∀ {y}, σ.2.2 y = none → up_ (rsh_ (up_ σ.2.2 p (.inr (0, .ref σ.1 :: .ref w2 :: .ref hl :: ft))) (hl :: ns)) hl (.inr (13, [.int mc4, .int (nI 0), .null, .null])) y = none := fun {y} hy => by
    rw [up_n (fun q => by rw [q, hh1] at hy; cases hy)]
    by_cases q : y ∈ hl :: ns
    · exact rsh_i q
    · rw [rsh_o q, up_n (fun q => by rw [q, hp] at hy; cases hy)]
      exact hy
  have hpx : p ∉ hl :: ns := fun q => by
    rcases List.mem_cons.mp q with e | e
    · exact hpl e
    · exact hpn e
  have hp4 : σ4.2.2 p = some (.inr (0, .ref σ.1 :: .ref w2 :: .ref hl :: ft)) := d3 _ _ (up_s _ _ _) hpl hpn
  have gz := J_size (E := E) hA4.2.2.1
  rw [c4] at gz
  have hwc := hA.1
  have hx3 := c2.1.1
  have hx4 := hA4.1
  obtain ⟨_, _, _, l6, _⟩ := id hA4.2.2.1
  obtain ⟨mch, hh3, _⟩ := id hH3
  refine ⟨σ4, up_ (rsh_ (up_ σ.2.2 p (.inr (0, .ref σ.1 :: .ref w2 :: .ref hl :: ft))) (hl :: ns)) hl (.inr (13, [.int mc4, .int (nI 0), .null, .null])), σ.1, am, em, as, es, st, mc, mc', ms', ss', ?_, ?_, ?_, ⟨mc4, up_s _ _ _, rfl, List.nodup_nil, fun i x hx => by simp at hx⟩, ⟨hA4, ?_, d4, hnp w4, hnp w5, hnp w6, hnp w7, w8.imp hnp id, w9.imp hnp id, fun x hx => hnp (w10 x hx), fun x hx => hnp (w11 x hx)⟩, c3, c4, ?_⟩
  · rw [D_run]
    simp (disch := omega) only [l398, b398_0, K398_0, b398_1, K398_1, b398_2, K398_2, R_cons, go_nx, go_jp, go_rt, go_th, go_ca, go_no, go_ite, rr_v, rr_n, rr_x, hx_n, hx_p, hx_b, I_push, I_pushl, I_fc0, I_fc1, I_dc0, I_null, I_mask, I_iload, I_lload, I_dload, I_fload, I_aload, I_istore, I_lstore, I_dstore, I_fstore, I_astore, I_iinc, I_iadd, I_isub, I_imul, I_iand, I_ior, I_ixor, I_ishl, I_ishr, I_iushr, I_ineg, I_ladd, I_lsub, I_lmul, I_lxor, I_i2l, I_l2i, I_i2b, I_i2c, I_i2f, I_i2d, I_lcmp, I_fdiv, I_ddiv, I_f2d, I_dcmp, I_dup, I_pop, I_dup_x1, I_dup2, I_icne, I_iceq, I_iclt, I_icge, I_icgt, I_icle, I_ifnull, I_ifnonnull, I_ane, I_aeq, I_goto, I_lsw, I_iret, I_lret, I_fret, I_dret, I_vret, I_nret, I_aret, I_iald, I_bald, I_lald, I_aald, I_iast, I_bast, I_last, I_aast, I_alen, I_new, I_val, I_cast, I_inst, I_obj, I_throw, I_mkx, I_getf, I_putf, I_call, I_calli, I_callv, I_clone, I_getc, i_ifeq, i_ifne, i_iflt, i_ifge, i_ifgt, i_ifle, i_idiv, i_irem, i_newa, i_newo, i_abs, i_max, i_min, i_ldiv, en_, es_i, es_r, es_0, es_n, es_l, List.length_cons, List.length_nil, List.cons_append, List.nil_append, Nat.reduceAdd, Nat.reduceSub, List.replicate, lg_, st1_, st2_, cn_, nl_, mk_, pk_, kd_, sl_, la_, ft_a, ft_i, ft_l, ft_o, ft_n, ft_b0, ft_b1, ft_bI, nr_0, nr_1, nr_bI, ro_, no_, if_true, if_false, ite_true, ite_false, reduceIte, Nat.reduceMod, Nat.reduceEqDiff, Nat.zero_add, Nat.add_zero, lk_, lit_, nI_add, nI_mul, ix_nI, fgk_0, fgk_1, fgk_2, fgk_3, fgk_4, fgk_5, fgk_6, fgk_7, fgk_8, fgk_9, fgk_10, fgk_11, fgk_12, fgk_13, fsk_0, fsk_1, fsk_2, fsk_3, fsk_4, fsk_5, fsk_6, fsk_7, fsk_8, fsk_9, fsk_10, fsk_11, fsk_12, fsk_13, ca_i, ca_r, ca_n, Nat.reduceLT, true_or, or_true, if_true, false_or, or_false, and_true, true_and, List.mem_singleton, eq_self, hp, S_cs1, n10_, hwc, c1, hx3, hp3, up_s, hh3, d1, hp4, hx4, l6, gz]
  · intro y d hy
    by_cases e : y ∈ p :: hl :: ns
    · rw [rsh_i e] at hy; cases hy
    · rw [rsh_o e] at hy
      have e1 : y ≠ p := fun q => e (by rw [q]; simp)
      have e2 : y ≠ hl := fun q => e (by rw [q]; simp)
      have e3 : y ∉ hl :: ns := fun q => e (List.mem_cons_of_mem _ q)
      rw [up_n e2, rsh_o e3, up_n e1]
      exact hy
  · rw [up_n hpl, rsh_o hpx, up_s]
  · intro y d hy
    by_cases e2 : y = hl
    · rw [e2, up_s] at hy
      rw [e2, k1]
      exact hy
    · rw [up_n e2] at hy
      by_cases e3 : y ∈ hl :: ns
      · rw [rsh_i e3] at hy; cases hy
      · rw [rsh_o e3] at hy
        refine d3 _ _ (le_put c2.2.1 y d hy) e2 (fun q => e3 (List.mem_cons_of_mem _ q))
  · unfold Sz_ at c5 ⊢
    dsimp only at d5 d6
    omega
theorem S_count {M : Nat → Nat → Int32} {x : Int32} (h : Sq_ E σ p w (sv :: .ref hl :: ft) (M 1) n s ms ss) (hH : Hi_ σ.2.2 hl ns ws) (h7 : M 7 0 = nI ns.length) :
    ∃ σ', D_ E 337 [.ref p, .int x] σ = some (.inl (some (.int (if inN_ x 11 then couq_ M n s x.toNatClampNeg else NOO))), σ') ∧ Fr_ 5500 σ σ' := by
  have hp := h.1
  have hw := Sq_hw h
  have hW := Sq_W h
  by_cases c : inN_ x 11
  · obtain ⟨k, hk, rfl⟩ := inN_nI c
    rw [if_pos c, nI_clamp (by omega)]
    obtain ⟨am0, as0, st0, fm0, fa0, g0, z1, z2, z3, z4, z5, z6, _⟩ := Sq_w h
    obtain ⟨σ1, b, bb, q, N, g1, g2, g3, g4, gs, g5⟩ := S_netq h
    have ht : ∀ (l : Lc_) (r : List Value) (σ : As_), I_tsw 0 [1, 2, 3, 4, 5, 6, 7, 8, 9, 10, 11] 12 l (.int (nI k) :: r) σ = jp_ ([1, 2, 3, 4, 5, 6, 7, 8, 9, 10, 11].getD k 12) l r σ := fun l r σ => i_tsw0 (by omega) (by omega)
    have hs : k = 0 ∨ k = 1 ∨ k = 2 ∨ k = 3 ∨ k = 4 ∨ k = 5 ∨ k = 6 ∨ k = 7 ∨ k = 8 ∨ k = 9 ∨ k = 10 := by omega
    rw [D_run]
    rcases hs with rfl | rfl | rfl | rfl | rfl | rfl | rfl | rfl | rfl | rfl | rfl
    · refine ⟨σ, ?_, Fr_rfl hw⟩
      simp (disch := omega) only [b337_0, K337_0, b337_1, K337_1, b337_13, K337_13, l337, R_cons, go_nx, go_jp, go_rt, go_th, go_ca, go_no, go_ite, rr_v, rr_n, rr_x, hx_n, hx_p, hx_b, I_push, I_pushl, I_fc0, I_fc1, I_dc0, I_null, I_mask, I_iload, I_lload, I_dload, I_fload, I_aload, I_istore, I_lstore, I_dstore, I_fstore, I_astore, I_iinc, I_iadd, I_isub, I_imul, I_iand, I_ior, I_ixor, I_ishl, I_ishr, I_iushr, I_ineg, I_ladd, I_lsub, I_lmul, I_lxor, I_i2l, I_l2i, I_i2b, I_i2c, I_i2f, I_i2d, I_lcmp, I_fdiv, I_ddiv, I_f2d, I_dcmp, I_dup, I_pop, I_dup_x1, I_dup2, I_icne, I_iceq, I_iclt, I_icge, I_icgt, I_icle, I_ifnull, I_ifnonnull, I_ane, I_aeq, I_goto, I_lsw, I_iret, I_lret, I_fret, I_dret, I_vret, I_nret, I_aret, I_iald, I_bald, I_lald, I_aald, I_iast, I_bast, I_last, I_aast, I_alen, I_new, I_val, I_cast, I_inst, I_obj, I_throw, I_mkx, I_getf, I_putf, I_call, I_calli, I_callv, I_clone, I_getc, i_ifeq, i_ifne, i_iflt, i_ifge, i_ifgt, i_ifle, i_idiv, i_irem, i_newa, i_newo, i_abs, i_max, i_min, i_ldiv, en_, es_i, es_r, es_0, es_n, es_l, List.length_cons, List.length_nil, List.cons_append, List.nil_append, Nat.reduceAdd, Nat.reduceSub, List.replicate, lg_, st1_, st2_, cn_, nl_, mk_, pk_, kd_, sl_, la_, ft_a, ft_i, ft_l, ft_o, ft_n, ft_b0, ft_b1, ft_bI, nr_0, nr_1, nr_bI, ro_, no_, if_true, if_false, ite_true, ite_false, reduceIte, Nat.reduceMod, Nat.reduceEqDiff, Nat.zero_add, Nat.add_zero, lk_, lit_, nI_add, nI_mul, ix_nI, fgk_0, fgk_1, fgk_2, fgk_3, fgk_4, fgk_5, fgk_6, fgk_7, fgk_8, fgk_9, fgk_10, fgk_11, fgk_12, fgk_13, fsk_0, fsk_1, fsk_2, fsk_3, fsk_4, fsk_5, fsk_6, fsk_7, fsk_8, fsk_9, fsk_10, fsk_11, fsk_12, fsk_13, ca_i, ca_r, ca_n, Nat.reduceLT, true_or, or_true, if_true, false_or, or_false, and_true, true_and, List.mem_singleton, eq_self, ht, List.getD_cons_zero, hp, z1, z2, z4]
      rfl
    · obtain ⟨σ2, a1, a2⟩ := W_benches (E := E) h.2.1 h.2.2.1 hW hw
      refine ⟨σ2, ?_, Fr_le a2 (by decide)⟩
      simp (disch := omega) only [b337_0, K337_0, b337_2, K337_2, b337_13, K337_13, l337, R_cons, go_nx, go_jp, go_rt, go_th, go_ca, go_no, go_ite, rr_v, rr_n, rr_x, hx_n, hx_p, hx_b, I_push, I_pushl, I_fc0, I_fc1, I_dc0, I_null, I_mask, I_iload, I_lload, I_dload, I_fload, I_aload, I_istore, I_lstore, I_dstore, I_fstore, I_astore, I_iinc, I_iadd, I_isub, I_imul, I_iand, I_ior, I_ixor, I_ishl, I_ishr, I_iushr, I_ineg, I_ladd, I_lsub, I_lmul, I_lxor, I_i2l, I_l2i, I_i2b, I_i2c, I_i2f, I_i2d, I_lcmp, I_fdiv, I_ddiv, I_f2d, I_dcmp, I_dup, I_pop, I_dup_x1, I_dup2, I_icne, I_iceq, I_iclt, I_icge, I_icgt, I_icle, I_ifnull, I_ifnonnull, I_ane, I_aeq, I_goto, I_lsw, I_iret, I_lret, I_fret, I_dret, I_vret, I_nret, I_aret, I_iald, I_bald, I_lald, I_aald, I_iast, I_bast, I_last, I_aast, I_alen, I_new, I_val, I_cast, I_inst, I_obj, I_throw, I_mkx, I_getf, I_putf, I_call, I_calli, I_callv, I_clone, I_getc, i_ifeq, i_ifne, i_iflt, i_ifge, i_ifgt, i_ifle, i_idiv, i_irem, i_newa, i_newo, i_abs, i_max, i_min, i_ldiv, en_, es_i, es_r, es_0, es_n, es_l, List.length_cons, List.length_nil, List.cons_append, List.nil_append, Nat.reduceAdd, Nat.reduceSub, List.replicate, lg_, st1_, st2_, cn_, nl_, mk_, pk_, kd_, sl_, la_, ft_a, ft_i, ft_l, ft_o, ft_n, ft_b0, ft_b1, ft_bI, nr_0, nr_1, nr_bI, ro_, no_, if_true, if_false, ite_true, ite_false, reduceIte, Nat.reduceMod, Nat.reduceEqDiff, Nat.zero_add, Nat.add_zero, lk_, lit_, nI_add, nI_mul, ix_nI, fgk_0, fgk_1, fgk_2, fgk_3, fgk_4, fgk_5, fgk_6, fgk_7, fgk_8, fgk_9, fgk_10, fgk_11, fgk_12, fgk_13, fsk_0, fsk_1, fsk_2, fsk_3, fsk_4, fsk_5, fsk_6, fsk_7, fsk_8, fsk_9, fsk_10, fsk_11, fsk_12, fsk_13, ca_i, ca_r, ca_n, Nat.reduceLT, true_or, or_true, if_true, false_or, or_false, and_true, true_and, List.mem_singleton, eq_self, ht, List.getD_cons_zero, List.getD_cons_succ, hp, z1, a1]
      rfl
    · refine ⟨σ, ?_, Fr_rfl hw⟩
      simp (disch := omega) only [b337_0, K337_0, b337_3, K337_3, b337_13, K337_13, l337, R_cons, go_nx, go_jp, go_rt, go_th, go_ca, go_no, go_ite, rr_v, rr_n, rr_x, hx_n, hx_p, hx_b, I_push, I_pushl, I_fc0, I_fc1, I_dc0, I_null, I_mask, I_iload, I_lload, I_dload, I_fload, I_aload, I_istore, I_lstore, I_dstore, I_fstore, I_astore, I_iinc, I_iadd, I_isub, I_imul, I_iand, I_ior, I_ixor, I_ishl, I_ishr, I_iushr, I_ineg, I_ladd, I_lsub, I_lmul, I_lxor, I_i2l, I_l2i, I_i2b, I_i2c, I_i2f, I_i2d, I_lcmp, I_fdiv, I_ddiv, I_f2d, I_dcmp, I_dup, I_pop, I_dup_x1, I_dup2, I_icne, I_iceq, I_iclt, I_icge, I_icgt, I_icle, I_ifnull, I_ifnonnull, I_ane, I_aeq, I_goto, I_lsw, I_iret, I_lret, I_fret, I_dret, I_vret, I_nret, I_aret, I_iald, I_bald, I_lald, I_aald, I_iast, I_bast, I_last, I_aast, I_alen, I_new, I_val, I_cast, I_inst, I_obj, I_throw, I_mkx, I_getf, I_putf, I_call, I_calli, I_callv, I_clone, I_getc, i_ifeq, i_ifne, i_iflt, i_ifge, i_ifgt, i_ifle, i_idiv, i_irem, i_newa, i_newo, i_abs, i_max, i_min, i_ldiv, en_, es_i, es_r, es_0, es_n, es_l, List.length_cons, List.length_nil, List.cons_append, List.nil_append, Nat.reduceAdd, Nat.reduceSub, List.replicate, lg_, st1_, st2_, cn_, nl_, mk_, pk_, kd_, sl_, la_, ft_a, ft_i, ft_l, ft_o, ft_n, ft_b0, ft_b1, ft_bI, nr_0, nr_1, nr_bI, ro_, no_, if_true, if_false, ite_true, ite_false, reduceIte, Nat.reduceMod, Nat.reduceEqDiff, Nat.zero_add, Nat.add_zero, lk_, lit_, nI_add, nI_mul, ix_nI, fgk_0, fgk_1, fgk_2, fgk_3, fgk_4, fgk_5, fgk_6, fgk_7, fgk_8, fgk_9, fgk_10, fgk_11, fgk_12, fgk_13, fsk_0, fsk_1, fsk_2, fsk_3, fsk_4, fsk_5, fsk_6, fsk_7, fsk_8, fsk_9, fsk_10, fsk_11, fsk_12, fsk_13, ca_i, ca_r, ca_n, Nat.reduceLT, true_or, or_true, if_true, false_or, or_false, and_true, true_and, List.mem_singleton, eq_self, ht, List.getD_cons_zero, List.getD_cons_succ, hp, z1, z3, z5]
      rfl
    · obtain ⟨σ2, a1, a2⟩ := W_struck (E := E) h.2.1 h.2.2.2.1 hW hw
      refine ⟨σ2, ?_, Fr_le a2 (by decide)⟩
      simp (disch := omega) only [b337_0, K337_0, b337_4, K337_4, b337_13, K337_13, l337, R_cons, go_nx, go_jp, go_rt, go_th, go_ca, go_no, go_ite, rr_v, rr_n, rr_x, hx_n, hx_p, hx_b, I_push, I_pushl, I_fc0, I_fc1, I_dc0, I_null, I_mask, I_iload, I_lload, I_dload, I_fload, I_aload, I_istore, I_lstore, I_dstore, I_fstore, I_astore, I_iinc, I_iadd, I_isub, I_imul, I_iand, I_ior, I_ixor, I_ishl, I_ishr, I_iushr, I_ineg, I_ladd, I_lsub, I_lmul, I_lxor, I_i2l, I_l2i, I_i2b, I_i2c, I_i2f, I_i2d, I_lcmp, I_fdiv, I_ddiv, I_f2d, I_dcmp, I_dup, I_pop, I_dup_x1, I_dup2, I_icne, I_iceq, I_iclt, I_icge, I_icgt, I_icle, I_ifnull, I_ifnonnull, I_ane, I_aeq, I_goto, I_lsw, I_iret, I_lret, I_fret, I_dret, I_vret, I_nret, I_aret, I_iald, I_bald, I_lald, I_aald, I_iast, I_bast, I_last, I_aast, I_alen, I_new, I_val, I_cast, I_inst, I_obj, I_throw, I_mkx, I_getf, I_putf, I_call, I_calli, I_callv, I_clone, I_getc, i_ifeq, i_ifne, i_iflt, i_ifge, i_ifgt, i_ifle, i_idiv, i_irem, i_newa, i_newo, i_abs, i_max, i_min, i_ldiv, en_, es_i, es_r, es_0, es_n, es_l, List.length_cons, List.length_nil, List.cons_append, List.nil_append, Nat.reduceAdd, Nat.reduceSub, List.replicate, lg_, st1_, st2_, cn_, nl_, mk_, pk_, kd_, sl_, la_, ft_a, ft_i, ft_l, ft_o, ft_n, ft_b0, ft_b1, ft_bI, nr_0, nr_1, nr_bI, ro_, no_, if_true, if_false, ite_true, ite_false, reduceIte, Nat.reduceMod, Nat.reduceEqDiff, Nat.zero_add, Nat.add_zero, lk_, lit_, nI_add, nI_mul, ix_nI, fgk_0, fgk_1, fgk_2, fgk_3, fgk_4, fgk_5, fgk_6, fgk_7, fgk_8, fgk_9, fgk_10, fgk_11, fgk_12, fgk_13, fsk_0, fsk_1, fsk_2, fsk_3, fsk_4, fsk_5, fsk_6, fsk_7, fsk_8, fsk_9, fsk_10, fsk_11, fsk_12, fsk_13, ca_i, ca_r, ca_n, Nat.reduceLT, true_or, or_true, if_true, false_or, or_false, and_true, true_and, List.mem_singleton, eq_self, ht, List.getD_cons_zero, List.getD_cons_succ, hp, z1, a1]
      rfl
    · obtain ⟨σ2, a1, a2, a3⟩ := N_edges (E := E) h.2.1 g2
      refine ⟨σ2, ?_, Fr_le (Nx_Fr g3 a2 a3) (by decide)⟩
      simp (disch := omega) only [b337_0, K337_0, b337_5, K337_5, b337_13, K337_13, l337, R_cons, go_nx, go_jp, go_rt, go_th, go_ca, go_no, go_ite, rr_v, rr_n, rr_x, hx_n, hx_p, hx_b, I_push, I_pushl, I_fc0, I_fc1, I_dc0, I_null, I_mask, I_iload, I_lload, I_dload, I_fload, I_aload, I_istore, I_lstore, I_dstore, I_fstore, I_astore, I_iinc, I_iadd, I_isub, I_imul, I_iand, I_ior, I_ixor, I_ishl, I_ishr, I_iushr, I_ineg, I_ladd, I_lsub, I_lmul, I_lxor, I_i2l, I_l2i, I_i2b, I_i2c, I_i2f, I_i2d, I_lcmp, I_fdiv, I_ddiv, I_f2d, I_dcmp, I_dup, I_pop, I_dup_x1, I_dup2, I_icne, I_iceq, I_iclt, I_icge, I_icgt, I_icle, I_ifnull, I_ifnonnull, I_ane, I_aeq, I_goto, I_lsw, I_iret, I_lret, I_fret, I_dret, I_vret, I_nret, I_aret, I_iald, I_bald, I_lald, I_aald, I_iast, I_bast, I_last, I_aast, I_alen, I_new, I_val, I_cast, I_inst, I_obj, I_throw, I_mkx, I_getf, I_putf, I_call, I_calli, I_callv, I_clone, I_getc, i_ifeq, i_ifne, i_iflt, i_ifge, i_ifgt, i_ifle, i_idiv, i_irem, i_newa, i_newo, i_abs, i_max, i_min, i_ldiv, en_, es_i, es_r, es_0, es_n, es_l, List.length_cons, List.length_nil, List.cons_append, List.nil_append, Nat.reduceAdd, Nat.reduceSub, List.replicate, lg_, st1_, st2_, cn_, nl_, mk_, pk_, kd_, sl_, la_, ft_a, ft_i, ft_l, ft_o, ft_n, ft_b0, ft_b1, ft_bI, nr_0, nr_1, nr_bI, ro_, no_, if_true, if_false, ite_true, ite_false, reduceIte, Nat.reduceMod, Nat.reduceEqDiff, Nat.zero_add, Nat.add_zero, lk_, lit_, nI_add, nI_mul, ix_nI, fgk_0, fgk_1, fgk_2, fgk_3, fgk_4, fgk_5, fgk_6, fgk_7, fgk_8, fgk_9, fgk_10, fgk_11, fgk_12, fgk_13, fsk_0, fsk_1, fsk_2, fsk_3, fsk_4, fsk_5, fsk_6, fsk_7, fsk_8, fsk_9, fsk_10, fsk_11, fsk_12, fsk_13, ca_i, ca_r, ca_n, Nat.reduceLT, true_or, or_true, if_true, false_or, or_false, and_true, true_and, List.mem_singleton, eq_self, ht, List.getD_cons_zero, List.getD_cons_succ, hp, g1, g5, a1]
      rfl
    · obtain ⟨σ2, a1, a2, a3⟩ := N_forestCount (E := E) h.2.1 g2
      refine ⟨σ2, ?_, Fr_le (Nx_Fr g3 a2 a3) (by decide)⟩
      simp (disch := omega) only [b337_0, K337_0, b337_6, K337_6, b337_13, K337_13, l337, R_cons, go_nx, go_jp, go_rt, go_th, go_ca, go_no, go_ite, rr_v, rr_n, rr_x, hx_n, hx_p, hx_b, I_push, I_pushl, I_fc0, I_fc1, I_dc0, I_null, I_mask, I_iload, I_lload, I_dload, I_fload, I_aload, I_istore, I_lstore, I_dstore, I_fstore, I_astore, I_iinc, I_iadd, I_isub, I_imul, I_iand, I_ior, I_ixor, I_ishl, I_ishr, I_iushr, I_ineg, I_ladd, I_lsub, I_lmul, I_lxor, I_i2l, I_l2i, I_i2b, I_i2c, I_i2f, I_i2d, I_lcmp, I_fdiv, I_ddiv, I_f2d, I_dcmp, I_dup, I_pop, I_dup_x1, I_dup2, I_icne, I_iceq, I_iclt, I_icge, I_icgt, I_icle, I_ifnull, I_ifnonnull, I_ane, I_aeq, I_goto, I_lsw, I_iret, I_lret, I_fret, I_dret, I_vret, I_nret, I_aret, I_iald, I_bald, I_lald, I_aald, I_iast, I_bast, I_last, I_aast, I_alen, I_new, I_val, I_cast, I_inst, I_obj, I_throw, I_mkx, I_getf, I_putf, I_call, I_calli, I_callv, I_clone, I_getc, i_ifeq, i_ifne, i_iflt, i_ifge, i_ifgt, i_ifle, i_idiv, i_irem, i_newa, i_newo, i_abs, i_max, i_min, i_ldiv, en_, es_i, es_r, es_0, es_n, es_l, List.length_cons, List.length_nil, List.cons_append, List.nil_append, Nat.reduceAdd, Nat.reduceSub, List.replicate, lg_, st1_, st2_, cn_, nl_, mk_, pk_, kd_, sl_, la_, ft_a, ft_i, ft_l, ft_o, ft_n, ft_b0, ft_b1, ft_bI, nr_0, nr_1, nr_bI, ro_, no_, if_true, if_false, ite_true, ite_false, reduceIte, Nat.reduceMod, Nat.reduceEqDiff, Nat.zero_add, Nat.add_zero, lk_, lit_, nI_add, nI_mul, ix_nI, fgk_0, fgk_1, fgk_2, fgk_3, fgk_4, fgk_5, fgk_6, fgk_7, fgk_8, fgk_9, fgk_10, fgk_11, fgk_12, fgk_13, fsk_0, fsk_1, fsk_2, fsk_3, fsk_4, fsk_5, fsk_6, fsk_7, fsk_8, fsk_9, fsk_10, fsk_11, fsk_12, fsk_13, ca_i, ca_r, ca_n, Nat.reduceLT, true_or, or_true, if_true, false_or, or_false, and_true, true_and, List.mem_singleton, eq_self, ht, List.getD_cons_zero, List.getD_cons_succ, hp, g1, g5, a1]
      rfl
    · refine ⟨σ1, ?_, Fr_le g3 (by decide)⟩
      have hb := NX_7 g2
      obtain ⟨⟨fl, y0⟩, y1, _⟩ := Nx_size (E := E) g2
      simp (disch := omega) only [b337_0, K337_0, b337_7, K337_7, b337_13, K337_13, l337, R_cons, go_nx, go_jp, go_rt, go_th, go_ca, go_no, go_ite, rr_v, rr_n, rr_x, hx_n, hx_p, hx_b, I_push, I_pushl, I_fc0, I_fc1, I_dc0, I_null, I_mask, I_iload, I_lload, I_dload, I_fload, I_aload, I_istore, I_lstore, I_dstore, I_fstore, I_astore, I_iinc, I_iadd, I_isub, I_imul, I_iand, I_ior, I_ixor, I_ishl, I_ishr, I_iushr, I_ineg, I_ladd, I_lsub, I_lmul, I_lxor, I_i2l, I_l2i, I_i2b, I_i2c, I_i2f, I_i2d, I_lcmp, I_fdiv, I_ddiv, I_f2d, I_dcmp, I_dup, I_pop, I_dup_x1, I_dup2, I_icne, I_iceq, I_iclt, I_icge, I_icgt, I_icle, I_ifnull, I_ifnonnull, I_ane, I_aeq, I_goto, I_lsw, I_iret, I_lret, I_fret, I_dret, I_vret, I_nret, I_aret, I_iald, I_bald, I_lald, I_aald, I_iast, I_bast, I_last, I_aast, I_alen, I_new, I_val, I_cast, I_inst, I_obj, I_throw, I_mkx, I_getf, I_putf, I_call, I_calli, I_callv, I_clone, I_getc, i_ifeq, i_ifne, i_iflt, i_ifge, i_ifgt, i_ifle, i_idiv, i_irem, i_newa, i_newo, i_abs, i_max, i_min, i_ldiv, en_, es_i, es_r, es_0, es_n, es_l, List.length_cons, List.length_nil, List.cons_append, List.nil_append, Nat.reduceAdd, Nat.reduceSub, List.replicate, lg_, st1_, st2_, cn_, nl_, mk_, pk_, kd_, sl_, la_, ft_a, ft_i, ft_l, ft_o, ft_n, ft_b0, ft_b1, ft_bI, nr_0, nr_1, nr_bI, ro_, no_, if_true, if_false, ite_true, ite_false, reduceIte, Nat.reduceMod, Nat.reduceEqDiff, Nat.zero_add, Nat.add_zero, lk_, lit_, nI_add, nI_mul, ix_nI, fgk_0, fgk_1, fgk_2, fgk_3, fgk_4, fgk_5, fgk_6, fgk_7, fgk_8, fgk_9, fgk_10, fgk_11, fgk_12, fgk_13, fsk_0, fsk_1, fsk_2, fsk_3, fsk_4, fsk_5, fsk_6, fsk_7, fsk_8, fsk_9, fsk_10, fsk_11, fsk_12, fsk_13, ca_i, ca_r, ca_n, Nat.reduceLT, true_or, or_true, if_true, false_or, or_false, and_true, true_and, List.mem_singleton, eq_self, ht, List.getD_cons_zero, List.getD_cons_succ, hp, g1, hb, fg_nf6, y0, y1]
      rfl
    · refine ⟨σ1, ?_, Fr_le g3 (by decide)⟩
      have a1 := N_closed (E := E) g2
      simp (disch := omega) only [b337_0, K337_0, b337_8, K337_8, b337_13, K337_13, l337, R_cons, go_nx, go_jp, go_rt, go_th, go_ca, go_no, go_ite, rr_v, rr_n, rr_x, hx_n, hx_p, hx_b, I_push, I_pushl, I_fc0, I_fc1, I_dc0, I_null, I_mask, I_iload, I_lload, I_dload, I_fload, I_aload, I_istore, I_lstore, I_dstore, I_fstore, I_astore, I_iinc, I_iadd, I_isub, I_imul, I_iand, I_ior, I_ixor, I_ishl, I_ishr, I_iushr, I_ineg, I_ladd, I_lsub, I_lmul, I_lxor, I_i2l, I_l2i, I_i2b, I_i2c, I_i2f, I_i2d, I_lcmp, I_fdiv, I_ddiv, I_f2d, I_dcmp, I_dup, I_pop, I_dup_x1, I_dup2, I_icne, I_iceq, I_iclt, I_icge, I_icgt, I_icle, I_ifnull, I_ifnonnull, I_ane, I_aeq, I_goto, I_lsw, I_iret, I_lret, I_fret, I_dret, I_vret, I_nret, I_aret, I_iald, I_bald, I_lald, I_aald, I_iast, I_bast, I_last, I_aast, I_alen, I_new, I_val, I_cast, I_inst, I_obj, I_throw, I_mkx, I_getf, I_putf, I_call, I_calli, I_callv, I_clone, I_getc, i_ifeq, i_ifne, i_iflt, i_ifge, i_ifgt, i_ifle, i_idiv, i_irem, i_newa, i_newo, i_abs, i_max, i_min, i_ldiv, en_, es_i, es_r, es_0, es_n, es_l, List.length_cons, List.length_nil, List.cons_append, List.nil_append, Nat.reduceAdd, Nat.reduceSub, List.replicate, lg_, st1_, st2_, cn_, nl_, mk_, pk_, kd_, sl_, la_, ft_a, ft_i, ft_l, ft_o, ft_n, ft_b0, ft_b1, ft_bI, nr_0, nr_1, nr_bI, ro_, no_, if_true, if_false, ite_true, ite_false, reduceIte, Nat.reduceMod, Nat.reduceEqDiff, Nat.zero_add, Nat.add_zero, lk_, lit_, nI_add, nI_mul, ix_nI, fgk_0, fgk_1, fgk_2, fgk_3, fgk_4, fgk_5, fgk_6, fgk_7, fgk_8, fgk_9, fgk_10, fgk_11, fgk_12, fgk_13, fsk_0, fsk_1, fsk_2, fsk_3, fsk_4, fsk_5, fsk_6, fsk_7, fsk_8, fsk_9, fsk_10, fsk_11, fsk_12, fsk_13, ca_i, ca_r, ca_n, Nat.reduceLT, true_or, or_true, if_true, false_or, or_false, and_true, true_and, List.mem_singleton, eq_self, ht, List.getD_cons_zero, List.getD_cons_succ, hp, g1, g5, a1]
      rfl
    · obtain ⟨σ2, a1, a2⟩ := W_heights (E := E) h.2.1 h.2.2.1 hW (Hb_ok h.2.2.2.2.2.1) hw
      refine ⟨σ2, ?_, Fr_le a2 (by decide)⟩
      simp (disch := omega) only [b337_0, K337_0, b337_9, K337_9, b337_13, K337_13, l337, R_cons, go_nx, go_jp, go_rt, go_th, go_ca, go_no, go_ite, rr_v, rr_n, rr_x, hx_n, hx_p, hx_b, I_push, I_pushl, I_fc0, I_fc1, I_dc0, I_null, I_mask, I_iload, I_lload, I_dload, I_fload, I_aload, I_istore, I_lstore, I_dstore, I_fstore, I_astore, I_iinc, I_iadd, I_isub, I_imul, I_iand, I_ior, I_ixor, I_ishl, I_ishr, I_iushr, I_ineg, I_ladd, I_lsub, I_lmul, I_lxor, I_i2l, I_l2i, I_i2b, I_i2c, I_i2f, I_i2d, I_lcmp, I_fdiv, I_ddiv, I_f2d, I_dcmp, I_dup, I_pop, I_dup_x1, I_dup2, I_icne, I_iceq, I_iclt, I_icge, I_icgt, I_icle, I_ifnull, I_ifnonnull, I_ane, I_aeq, I_goto, I_lsw, I_iret, I_lret, I_fret, I_dret, I_vret, I_nret, I_aret, I_iald, I_bald, I_lald, I_aald, I_iast, I_bast, I_last, I_aast, I_alen, I_new, I_val, I_cast, I_inst, I_obj, I_throw, I_mkx, I_getf, I_putf, I_call, I_calli, I_callv, I_clone, I_getc, i_ifeq, i_ifne, i_iflt, i_ifge, i_ifgt, i_ifle, i_idiv, i_irem, i_newa, i_newo, i_abs, i_max, i_min, i_ldiv, en_, es_i, es_r, es_0, es_n, es_l, List.length_cons, List.length_nil, List.cons_append, List.nil_append, Nat.reduceAdd, Nat.reduceSub, List.replicate, lg_, st1_, st2_, cn_, nl_, mk_, pk_, kd_, sl_, la_, ft_a, ft_i, ft_l, ft_o, ft_n, ft_b0, ft_b1, ft_bI, nr_0, nr_1, nr_bI, ro_, no_, if_true, if_false, ite_true, ite_false, reduceIte, Nat.reduceMod, Nat.reduceEqDiff, Nat.zero_add, Nat.add_zero, lk_, lit_, nI_add, nI_mul, ix_nI, fgk_0, fgk_1, fgk_2, fgk_3, fgk_4, fgk_5, fgk_6, fgk_7, fgk_8, fgk_9, fgk_10, fgk_11, fgk_12, fgk_13, fsk_0, fsk_1, fsk_2, fsk_3, fsk_4, fsk_5, fsk_6, fsk_7, fsk_8, fsk_9, fsk_10, fsk_11, fsk_12, fsk_13, ca_i, ca_r, ca_n, Nat.reduceLT, true_or, or_true, if_true, false_or, or_false, and_true, true_and, List.mem_singleton, eq_self, ht, List.getD_cons_zero, List.getD_cons_succ, hp, z1, a1]
      rfl
    · refine ⟨σ, ?_, Fr_rfl hw⟩
      have a1 := H_size (E := E) hH
      obtain ⟨mc, h1, _⟩ := id hH
      simp (disch := omega) only [b337_0, K337_0, b337_10, K337_10, b337_13, K337_13, l337, R_cons, go_nx, go_jp, go_rt, go_th, go_ca, go_no, go_ite, rr_v, rr_n, rr_x, hx_n, hx_p, hx_b, I_push, I_pushl, I_fc0, I_fc1, I_dc0, I_null, I_mask, I_iload, I_lload, I_dload, I_fload, I_aload, I_istore, I_lstore, I_dstore, I_fstore, I_astore, I_iinc, I_iadd, I_isub, I_imul, I_iand, I_ior, I_ixor, I_ishl, I_ishr, I_iushr, I_ineg, I_ladd, I_lsub, I_lmul, I_lxor, I_i2l, I_l2i, I_i2b, I_i2c, I_i2f, I_i2d, I_lcmp, I_fdiv, I_ddiv, I_f2d, I_dcmp, I_dup, I_pop, I_dup_x1, I_dup2, I_icne, I_iceq, I_iclt, I_icge, I_icgt, I_icle, I_ifnull, I_ifnonnull, I_ane, I_aeq, I_goto, I_lsw, I_iret, I_lret, I_fret, I_dret, I_vret, I_nret, I_aret, I_iald, I_bald, I_lald, I_aald, I_iast, I_bast, I_last, I_aast, I_alen, I_new, I_val, I_cast, I_inst, I_obj, I_throw, I_mkx, I_getf, I_putf, I_call, I_calli, I_callv, I_clone, I_getc, i_ifeq, i_ifne, i_iflt, i_ifge, i_ifgt, i_ifle, i_idiv, i_irem, i_newa, i_newo, i_abs, i_max, i_min, i_ldiv, en_, es_i, es_r, es_0, es_n, es_l, List.length_cons, List.length_nil, List.cons_append, List.nil_append, Nat.reduceAdd, Nat.reduceSub, List.replicate, lg_, st1_, st2_, cn_, nl_, mk_, pk_, kd_, sl_, la_, ft_a, ft_i, ft_l, ft_o, ft_n, ft_b0, ft_b1, ft_bI, nr_0, nr_1, nr_bI, ro_, no_, if_true, if_false, ite_true, ite_false, reduceIte, Nat.reduceMod, Nat.reduceEqDiff, Nat.zero_add, Nat.add_zero, lk_, lit_, nI_add, nI_mul, ix_nI, fgk_0, fgk_1, fgk_2, fgk_3, fgk_4, fgk_5, fgk_6, fgk_7, fgk_8, fgk_9, fgk_10, fgk_11, fgk_12, fgk_13, fsk_0, fsk_1, fsk_2, fsk_3, fsk_4, fsk_5, fsk_6, fsk_7, fsk_8, fsk_9, fsk_10, fsk_11, fsk_12, fsk_13, ca_i, ca_r, ca_n, Nat.reduceLT, true_or, or_true, if_true, false_or, or_false, and_true, true_and, List.mem_singleton, eq_self, ht, List.getD_cons_zero, List.getD_cons_succ, hp, h1, a1]
      rw [← h7]
      rfl
    · refine ⟨σ1, ?_, Fr_le g3 (by decide)⟩
      have a1 := N_partCount (E := E) g2
      simp (disch := omega) only [b337_0, K337_0, b337_11, K337_11, b337_13, K337_13, l337, R_cons, go_nx, go_jp, go_rt, go_th, go_ca, go_no, go_ite, rr_v, rr_n, rr_x, hx_n, hx_p, hx_b, I_push, I_pushl, I_fc0, I_fc1, I_dc0, I_null, I_mask, I_iload, I_lload, I_dload, I_fload, I_aload, I_istore, I_lstore, I_dstore, I_fstore, I_astore, I_iinc, I_iadd, I_isub, I_imul, I_iand, I_ior, I_ixor, I_ishl, I_ishr, I_iushr, I_ineg, I_ladd, I_lsub, I_lmul, I_lxor, I_i2l, I_l2i, I_i2b, I_i2c, I_i2f, I_i2d, I_lcmp, I_fdiv, I_ddiv, I_f2d, I_dcmp, I_dup, I_pop, I_dup_x1, I_dup2, I_icne, I_iceq, I_iclt, I_icge, I_icgt, I_icle, I_ifnull, I_ifnonnull, I_ane, I_aeq, I_goto, I_lsw, I_iret, I_lret, I_fret, I_dret, I_vret, I_nret, I_aret, I_iald, I_bald, I_lald, I_aald, I_iast, I_bast, I_last, I_aast, I_alen, I_new, I_val, I_cast, I_inst, I_obj, I_throw, I_mkx, I_getf, I_putf, I_call, I_calli, I_callv, I_clone, I_getc, i_ifeq, i_ifne, i_iflt, i_ifge, i_ifgt, i_ifle, i_idiv, i_irem, i_newa, i_newo, i_abs, i_max, i_min, i_ldiv, en_, es_i, es_r, es_0, es_n, es_l, List.length_cons, List.length_nil, List.cons_append, List.nil_append, Nat.reduceAdd, Nat.reduceSub, List.replicate, lg_, st1_, st2_, cn_, nl_, mk_, pk_, kd_, sl_, la_, ft_a, ft_i, ft_l, ft_o, ft_n, ft_b0, ft_b1, ft_bI, nr_0, nr_1, nr_bI, ro_, no_, if_true, if_false, ite_true, ite_false, reduceIte, Nat.reduceMod, Nat.reduceEqDiff, Nat.zero_add, Nat.add_zero, lk_, lit_, nI_add, nI_mul, ix_nI, fgk_0, fgk_1, fgk_2, fgk_3, fgk_4, fgk_5, fgk_6, fgk_7, fgk_8, fgk_9, fgk_10, fgk_11, fgk_12, fgk_13, fsk_0, fsk_1, fsk_2, fsk_3, fsk_4, fsk_5, fsk_6, fsk_7, fsk_8, fsk_9, fsk_10, fsk_11, fsk_12, fsk_13, ca_i, ca_r, ca_n, Nat.reduceLT, true_or, or_true, if_true, false_or, or_false, and_true, true_and, List.mem_singleton, eq_self, ht, List.getD_cons_zero, List.getD_cons_succ, hp, g1, g5, a1]
      rfl
  · refine ⟨σ, ?_, Fr_rfl hw⟩
    have ht : ∀ (l : Lc_) (r : List Value) (σ : As_), I_tsw 0 [1, 2, 3, 4, 5, 6, 7, 8, 9, 10, 11] 12 l (.int x :: r) σ = jp_ 12 l r σ := fun l r σ => i_tswo0 c
    rw [if_neg c, D_run]
    simp (disch := omega) only [b337_0, K337_0, b337_12, K337_12, b337_13, K337_13, l337, R_cons, go_nx, go_jp, go_rt, go_th, go_ca, go_no, go_ite, rr_v, rr_n, rr_x, hx_n, hx_p, hx_b, I_push, I_pushl, I_fc0, I_fc1, I_dc0, I_null, I_mask, I_iload, I_lload, I_dload, I_fload, I_aload, I_istore, I_lstore, I_dstore, I_fstore, I_astore, I_iinc, I_iadd, I_isub, I_imul, I_iand, I_ior, I_ixor, I_ishl, I_ishr, I_iushr, I_ineg, I_ladd, I_lsub, I_lmul, I_lxor, I_i2l, I_l2i, I_i2b, I_i2c, I_i2f, I_i2d, I_lcmp, I_fdiv, I_ddiv, I_f2d, I_dcmp, I_dup, I_pop, I_dup_x1, I_dup2, I_icne, I_iceq, I_iclt, I_icge, I_icgt, I_icle, I_ifnull, I_ifnonnull, I_ane, I_aeq, I_goto, I_lsw, I_iret, I_lret, I_fret, I_dret, I_vret, I_nret, I_aret, I_iald, I_bald, I_lald, I_aald, I_iast, I_bast, I_last, I_aast, I_alen, I_new, I_val, I_cast, I_inst, I_obj, I_throw, I_mkx, I_getf, I_putf, I_call, I_calli, I_callv, I_clone, I_getc, i_ifeq, i_ifne, i_iflt, i_ifge, i_ifgt, i_ifle, i_idiv, i_irem, i_newa, i_newo, i_abs, i_max, i_min, i_ldiv, en_, es_i, es_r, es_0, es_n, es_l, List.length_cons, List.length_nil, List.cons_append, List.nil_append, Nat.reduceAdd, Nat.reduceSub, List.replicate, lg_, st1_, st2_, cn_, nl_, mk_, pk_, kd_, sl_, la_, ft_a, ft_i, ft_l, ft_o, ft_n, ft_b0, ft_b1, ft_bI, nr_0, nr_1, nr_bI, ro_, no_, if_true, if_false, ite_true, ite_false, reduceIte, Nat.reduceMod, Nat.reduceEqDiff, Nat.zero_add, Nat.add_zero, lk_, lit_, nI_add, nI_mul, ix_nI, fgk_0, fgk_1, fgk_2, fgk_3, fgk_4, fgk_5, fgk_6, fgk_7, fgk_8, fgk_9, fgk_10, fgk_11, fgk_12, fgk_13, fsk_0, fsk_1, fsk_2, fsk_3, fsk_4, fsk_5, fsk_6, fsk_7, fsk_8, fsk_9, fsk_10, fsk_11, fsk_12, fsk_13, ca_i, ca_r, ca_n, Nat.reduceLT, true_or, or_true, if_true, false_or, or_false, and_true, true_and, List.mem_singleton, eq_self, ht]
end MUX
