section WCR
variable {E : En_} {σ : As_} {w am em as es st n s : Nat} {mc mc' : Int32} {r : Nat → Int32} {ms ss : List Nat} {h0 : Nat → Option Ac_}
theorem WlA_row {h : Nat → Option Ac_} {r' : Nat → Int32} (h1 : WlA_ E h w r am em as es st mc mc' ms ss) (hs : ∀ j, 2 ≤ j → j < 8 → r' j = r j) (hm : ∀ k, k < ms.length → ∀ i, i < 5 → r' (8 + 5 * k + i) = r (8 + 5 * k + i)) (hg : ∀ k, k < ss.length → ∀ i, i < 6 → r' (68 + 6 * k + i) = r (68 + 6 * k + i)) : WlA_ E h w r' am em as es st mc mc' ms ss := by
  obtain ⟨a1, a2, a3, ⟨g, a4, g0, g1, g2, g3⟩, a6, a7, a8⟩ := h1
  exact ⟨by rw [a1, hs 6 (by decide) (by decide), hs 7 (by decide) (by decide)], a2, a3, ⟨g, a4, by rw [g0, hs 2 (by decide) (by decide)], by rw [g1, hs 3 (by decide) (by decide)], by rw [g2, hs 4 (by decide) (by decide)], by rw [g3, hs 5 (by decide) (by decide)]⟩, fun k x hx => MkC_row (hm k (List.getElem?_eq_some_iff.mp hx).1) (a6 k x hx), fun k x hx => SgC_row (hg k (List.getElem?_eq_some_iff.mp hx).1) (a7 k x hx), a8⟩
/-- the iterator's cell isn't the wall's -/
theorem up_gd {h : Nat → Option Ac_} {it : Nat} {k0 : Nat} {fs : List Value} {c : Ac_} (hi : h it = some (.inr (k0, fs))) (hk : ¬ gd_ (.inr (k0, fs))) : ∀ y d, h y = some d → gd_ d → up_ h it c y = some d := fun y d hy hd => by
  rw [up_n (fun q => by rw [q, hi] at hy; cases hy; exact hk hd)]
  exact hy
theorem up_h0 {h : Nat → Option Ac_} {it : Nat} {c : Ac_} (hl : le_ h0 h) (hi : h0 it = none) : le_ h0 (up_ h it c) := le_up hi hl
theorem up_Hw {it : Nat} {c : Ac_} {m : Nat} (hw : Hw_ σ) (hi : it < σ.1) : Hw_ (σ.1, m, up_ σ.2.2 it c) := fun y hy => by
  dsimp only at hy ⊢
  rw [up_n (by omega)]
  exact hw y hy
/-- the marks are copied -/
theorem cpM_lp {am0 em0 as0 es0 st0 : Nat} {m0 m1 : Int32} {m00 s00 : List Nat} {w0 it : Nat} (hd : E7_ E h0) (hA : WlA_ E h0 w0 r am0 em0 as0 es0 st0 m0 m1 m00 s00) (hn : m00.length = n) (hW : Wr_ r n s) (hit : h0 it = none) : ∀ (d k : Nat) (lr : Int32) (u : Option Value) (σ : As_) (em : Nat) (mc : Int32) (ms : List Nat), k + d = n → ms.length = k → WY_ E h0 σ w (rN_ r) am em as es st mc mc' ms ss → It_ σ.2.2 it k lr m0 am0 →
    ∃ σ' em' mc'' ms', R_ E 287 (B_ E 287 1) [some (.ref w0), some (.ref w), some (.ref it), u] [] σ = R_ E 287 (B_ E 287 2) [some (.ref w0), some (.ref w), some (.ref it), none] [] σ' ∧ WY_ E h0 σ' w (rN_ r) am em' as es st mc'' mc' ms' ss ∧ ms'.length = n ∧ Szt_ (8 * d) k n σ σ' := by
  have h12 := wr_n12 hW
  intro d
  induction d with
  | zero =>
    intro k lr u σ em mc ms hk hms hY hI
    have hL := Ls_mono hY.2.1 hA.2.1
    have hN := J_hasNext (E := E) hL hI (by omega)
    rw [bI_f (by omega)] at hN
    unfold It_ at hI
    refine ⟨σ, em, mc, ms, ?_, hY, by omega, by rw [show k = _ from by omega]; exact Szt_rfl⟩
    conv => lhs; rw [b287_1]
    simp (disch := omega) only [K287_1, R_cons, go_nx, go_jp, go_rt, go_th, go_ca, go_no, go_ite, rr_v, rr_n, rr_x, hx_n, hx_p, hx_b, I_push, I_pushl, I_fc0, I_fc1, I_dc0, I_null, I_mask, I_iload, I_lload, I_dload, I_fload, I_aload, I_istore, I_lstore, I_dstore, I_fstore, I_astore, I_iinc, I_iadd, I_isub, I_imul, I_iand, I_ior, I_ixor, I_ishl, I_ishr, I_iushr, I_ineg, I_ladd, I_lsub, I_lmul, I_lxor, I_i2l, I_l2i, I_i2b, I_i2c, I_i2f, I_i2d, I_lcmp, I_fdiv, I_ddiv, I_f2d, I_dcmp, I_dup, I_pop, I_dup_x1, I_dup2, I_icne, I_iceq, I_iclt, I_icge, I_icgt, I_icle, I_ifnull, I_ifnonnull, I_ane, I_aeq, I_goto, I_lsw, I_iret, I_lret, I_fret, I_dret, I_vret, I_nret, I_aret, I_iald, I_bald, I_lald, I_aald, I_iast, I_bast, I_last, I_aast, I_alen, I_new, I_val, I_cast, I_inst, I_obj, I_throw, I_mkx, I_getf, I_putf, I_call, I_calli, I_callv, I_clone, I_getc, i_ifeq, i_ifne, i_iflt, i_ifge, i_ifgt, i_ifle, i_idiv, i_irem, i_newa, i_newo, i_abs, i_max, i_min, i_ldiv, en_, es_i, es_r, es_0, es_n, es_l, List.length_cons, List.length_nil, List.cons_append, List.nil_append, Nat.reduceAdd, Nat.reduceSub, List.replicate, lg_, st1_, st2_, cn_, nl_, mk_, pk_, kd_, sl_, la_, ft_a, ft_i, ft_l, ft_o, ft_n, ft_b0, ft_b1, ft_bI, nr_0, nr_1, nr_bI, ro_, no_, if_true, if_false, ite_true, ite_false, reduceIte, Nat.reduceMod, Nat.reduceEqDiff, Nat.zero_add, Nat.add_zero, lk_, lit_, nI_add, nI_mul, ix_nI, fgk_0, fgk_1, fgk_2, fgk_3, fgk_4, fgk_5, fgk_6, fgk_7, fgk_8, fgk_9, fgk_10, fgk_11, fgk_12, fgk_13, fsk_0, fsk_1, fsk_2, fsk_3, fsk_4, fsk_5, fsk_6, fsk_7, fsk_8, fsk_9, fsk_10, fsk_11, fsk_12, fsk_13, ca_i, ca_r, ca_n, Nat.reduceLT, true_or, or_true, if_true, false_or, or_false, and_true, true_and, List.mem_singleton, eq_self, hI, hN]
  | succ d ih =>
    intro k lr u σ em mc ms hk hms hY hI
    have hkn : k < n := by omega
    have hkl : k < m00.length := by omega
    have hL := Ls_mono hY.2.1 hA.2.1
    have hN := J_hasNext (E := E) hL hI (by omega)
    rw [bI_t (by omega)] at hN
    have hX := J_next (E := E) hL hI hkl
    have hI' := hI
    unfold It_ at hI'
    have hitl := Hw_lt hY.2.2.1 hI'
    have hY1 : WY_ E h0 (σ.1, σ.2.1, up_ σ.2.2 it (.inr (12, [.int (nI (k + 1)), .int (nI k), .int m0, .ref am0]))) w (rN_ r) am em as es st mc mc' ms ss := WY_kp hY (up_gd hI' (by unfold gd_; omega)) (up_h0 hY.2.1 hit) (up_Hw hY.2.2.1 hitl)
    obtain ⟨c, c1, c2⟩ := K_copy (E := E) hW hkn hY1.2.2.1 (MkC_mono hY1.2.1 (hA.2.2.2.2.1 k _ (List.getElem?_eq_getElem hkl)))
    have hY2 := WY_fr hY1 (Fr_new (k := 4) (c := c) hY1.2.2.1)
    dsimp only at c1 c2 hY2
    have hx0 : h0 σ.1 = none := by
      cases q : h0 σ.1 with
      | none => rfl
      | some c => have := Hw_lt hY.2.2.1 (hY.2.1 _ _ q); omega
    obtain ⟨σ3, em3, g1, g2, g3, g4⟩ := WY_addM (E := E) hd hY2 (x := σ.1) (by rw [hms]; exact MkC_row (fun i hi => rN_ge (by omega)) c2) hx0 (fun q => by
      have h1 : h0 σ.1 = none := hx0
      obtain ⟨j, hj, e⟩ := List.getElem_of_mem q
      have := hY.1.2.2.2.2.1 j _ (List.getElem?_eq_getElem hj)
      obtain ⟨nm, y1, _⟩ := this
      have := Hw_lt hY.2.2.1 y1
      omega) (by omega)
    have hI3 : It_ σ3.2.2 it (k + 1) (nI k) m0 am0 := g4 _ _ (by
      dsimp only
      rw [up_n (by omega)]
      exact up_s _ _ _) (fun q => by
      have := hY.1.2.1
      obtain ⟨_, _, _, b1, _⟩ := this
      rw [← q, hI'] at b1
      cases b1) (fun _ _ q => by cases q)
    obtain ⟨σ4, em4, mc4, ms4, k1, k2, k3, k4⟩ := ih (k + 1) (nI k) (some (.ref m00[k])) σ3 em3 (mc + nI 1) (ms ++ [σ.1]) (by omega) (by rw [List.length_append]; simp; omega) g2 hI3
    refine ⟨σ4, em4, mc4, ms4, ?_, k2, k3, ?_⟩
    · obtain ⟨nm, y1, _⟩ := MkC_mono hY1.2.1 (hA.2.2.2.2.1 k _ (List.getElem?_eq_getElem hkl))
      have hw1 := hY1.1.1
      obtain ⟨_, _, _, b1, _⟩ := hY2.1.2.1
      have hw2 := hY2.1.1
      rw [← k1]
      conv => lhs; rw [b287_1]
      dsimp only at y1 hw1 b1 hw2
      simp (disch := omega) only [K287_1, R_cons, go_nx, go_jp, go_rt, go_th, go_ca, go_no, go_ite, rr_v, rr_n, rr_x, hx_n, hx_p, hx_b, I_push, I_pushl, I_fc0, I_fc1, I_dc0, I_null, I_mask, I_iload, I_lload, I_dload, I_fload, I_aload, I_istore, I_lstore, I_dstore, I_fstore, I_astore, I_iinc, I_iadd, I_isub, I_imul, I_iand, I_ior, I_ixor, I_ishl, I_ishr, I_iushr, I_ineg, I_ladd, I_lsub, I_lmul, I_lxor, I_i2l, I_l2i, I_i2b, I_i2c, I_i2f, I_i2d, I_lcmp, I_fdiv, I_ddiv, I_f2d, I_dcmp, I_dup, I_pop, I_dup_x1, I_dup2, I_icne, I_iceq, I_iclt, I_icge, I_icgt, I_icle, I_ifnull, I_ifnonnull, I_ane, I_aeq, I_goto, I_lsw, I_iret, I_lret, I_fret, I_dret, I_vret, I_nret, I_aret, I_iald, I_bald, I_lald, I_aald, I_iast, I_bast, I_last, I_aast, I_alen, I_new, I_val, I_cast, I_inst, I_obj, I_throw, I_mkx, I_getf, I_putf, I_call, I_calli, I_callv, I_clone, I_getc, i_ifeq, i_ifne, i_iflt, i_ifge, i_ifgt, i_ifle, i_idiv, i_irem, i_newa, i_newo, i_abs, i_max, i_min, i_ldiv, en_, es_i, es_r, es_0, es_n, es_l, List.length_cons, List.length_nil, List.cons_append, List.nil_append, Nat.reduceAdd, Nat.reduceSub, List.replicate, lg_, st1_, st2_, cn_, nl_, mk_, pk_, kd_, sl_, la_, ft_a, ft_i, ft_l, ft_o, ft_n, ft_b0, ft_b1, ft_bI, nr_0, nr_1, nr_bI, ro_, no_, if_true, if_false, ite_true, ite_false, reduceIte, Nat.reduceMod, Nat.reduceEqDiff, Nat.zero_add, Nat.add_zero, lk_, lit_, nI_add, nI_mul, ix_nI, fgk_0, fgk_1, fgk_2, fgk_3, fgk_4, fgk_5, fgk_6, fgk_7, fgk_8, fgk_9, fgk_10, fgk_11, fgk_12, fgk_13, fsk_0, fsk_1, fsk_2, fsk_3, fsk_4, fsk_5, fsk_6, fsk_7, fsk_8, fsk_9, fsk_10, fsk_11, fsk_12, fsk_13, ca_i, ca_r, ca_n, Nat.reduceLT, true_or, or_true, if_true, false_or, or_false, and_true, true_and, List.mem_singleton, eq_self, hI', hN, n10_, hX, y1, hw1, c1, b1, g1]
    · have a1 := g3
      have a2 := k4
      rw [hms] at a1
      unfold Szt_ at a1 a2 ⊢
      dsimp only at a1
      omega
theorem cpG_lp {am0 em0 as0 es0 st0 : Nat} {m0 m1 : Int32} {m00 s00 : List Nat} {w0 it : Nat} (hd : E7_ E h0) (hA : WlA_ E h0 w0 r am0 em0 as0 es0 st0 m0 m1 m00 s00) (hn : s00.length = s) (hW : Wr_ r n s) (hit : h0 it = none) : ∀ (d k : Nat) (lr : Int32) (u : Option Value) (σ : As_) (es : Nat) (mc' : Int32) (ss : List Nat), k + d = s → ss.length = k → WY_ E h0 σ w (rN_ r) am em as es st mc mc' ms ss → It_ σ.2.2 it k lr m1 as0 →
    ∃ σ' es' mc'' ss', R_ E 287 (B_ E 287 3) [some (.ref w0), some (.ref w), some (.ref it), u] [] σ = R_ E 287 (B_ E 287 4) [some (.ref w0), some (.ref w), some (.ref it), none] [] σ' ∧ WY_ E h0 σ' w (rN_ r) am em as es' st mc mc'' ms ss' ∧ ss'.length = s ∧ Szt_ (10 * d) k s σ σ' := by
  have h40 := wr_s40 hW
  intro d
  induction d with
  | zero =>
    intro k lr u σ es mc' ss hk hms hY hI
    have hL := Ls_mono hY.2.1 hA.2.2.1
    have hN := J_hasNext (E := E) hL hI (by omega)
    rw [bI_f (by omega)] at hN
    unfold It_ at hI
    refine ⟨σ, es, mc', ss, ?_, hY, by omega, by rw [show k = _ from by omega]; exact Szt_rfl⟩
    conv => lhs; rw [b287_3]
    simp (disch := omega) only [K287_3, R_cons, go_nx, go_jp, go_rt, go_th, go_ca, go_no, go_ite, rr_v, rr_n, rr_x, hx_n, hx_p, hx_b, I_push, I_pushl, I_fc0, I_fc1, I_dc0, I_null, I_mask, I_iload, I_lload, I_dload, I_fload, I_aload, I_istore, I_lstore, I_dstore, I_fstore, I_astore, I_iinc, I_iadd, I_isub, I_imul, I_iand, I_ior, I_ixor, I_ishl, I_ishr, I_iushr, I_ineg, I_ladd, I_lsub, I_lmul, I_lxor, I_i2l, I_l2i, I_i2b, I_i2c, I_i2f, I_i2d, I_lcmp, I_fdiv, I_ddiv, I_f2d, I_dcmp, I_dup, I_pop, I_dup_x1, I_dup2, I_icne, I_iceq, I_iclt, I_icge, I_icgt, I_icle, I_ifnull, I_ifnonnull, I_ane, I_aeq, I_goto, I_lsw, I_iret, I_lret, I_fret, I_dret, I_vret, I_nret, I_aret, I_iald, I_bald, I_lald, I_aald, I_iast, I_bast, I_last, I_aast, I_alen, I_new, I_val, I_cast, I_inst, I_obj, I_throw, I_mkx, I_getf, I_putf, I_call, I_calli, I_callv, I_clone, I_getc, i_ifeq, i_ifne, i_iflt, i_ifge, i_ifgt, i_ifle, i_idiv, i_irem, i_newa, i_newo, i_abs, i_max, i_min, i_ldiv, en_, es_i, es_r, es_0, es_n, es_l, List.length_cons, List.length_nil, List.cons_append, List.nil_append, Nat.reduceAdd, Nat.reduceSub, List.replicate, lg_, st1_, st2_, cn_, nl_, mk_, pk_, kd_, sl_, la_, ft_a, ft_i, ft_l, ft_o, ft_n, ft_b0, ft_b1, ft_bI, nr_0, nr_1, nr_bI, ro_, no_, if_true, if_false, ite_true, ite_false, reduceIte, Nat.reduceMod, Nat.reduceEqDiff, Nat.zero_add, Nat.add_zero, lk_, lit_, nI_add, nI_mul, ix_nI, fgk_0, fgk_1, fgk_2, fgk_3, fgk_4, fgk_5, fgk_6, fgk_7, fgk_8, fgk_9, fgk_10, fgk_11, fgk_12, fgk_13, fsk_0, fsk_1, fsk_2, fsk_3, fsk_4, fsk_5, fsk_6, fsk_7, fsk_8, fsk_9, fsk_10, fsk_11, fsk_12, fsk_13, ca_i, ca_r, ca_n, Nat.reduceLT, true_or, or_true, if_true, false_or, or_false, and_true, true_and, List.mem_singleton, eq_self, hI, hN]
  | succ d ih =>
    intro k lr u σ es mc' ss hk hms hY hI
    have hkn : k < s := by omega
    have hkl : k < s00.length := by omega
    have hL := Ls_mono hY.2.1 hA.2.2.1
    have hN := J_hasNext (E := E) hL hI (by omega)
    rw [bI_t (by omega)] at hN
    have hX := J_next (E := E) hL hI hkl
    have hI' := hI
    unfold It_ at hI'
    have hitl := Hw_lt hY.2.2.1 hI'
    have hY1 : WY_ E h0 (σ.1, σ.2.1, up_ σ.2.2 it (.inr (12, [.int (nI (k + 1)), .int (nI k), .int m1, .ref as0]))) w (rN_ r) am em as es st mc mc' ms ss := WY_kp hY (up_gd hI' (by unfold gd_; omega)) (up_h0 hY.2.1 hit) (up_Hw hY.2.2.1 hitl)
    have hS1 := SgC_mono hY1.2.1 (hA.2.2.2.2.2.1 k _ (List.getElem?_eq_getElem hkl))
    obtain ⟨c, c1, c2⟩ := G_copy (E := E) hW hkn hY1.2.2.1 hS1
    have hY2 := WY_fr hY1 (Fr_new (k := 6) (c := c) hY1.2.2.1)
    dsimp only at c1 c2 hY2
    have hx0 : h0 σ.1 = none := by
      cases q : h0 σ.1 with
      | none => rfl
      | some c => have := Hw_lt hY.2.2.1 (hY.2.1 _ _ q); omega
    obtain ⟨σ3, em3, g1, g2, g3, g4⟩ := WY_addG (E := E) hd hY2 (x := σ.1) (by rw [hms]; exact SgC_row (fun i hi => rN_ge (by omega)) c2) hx0 (fun q => by
      obtain ⟨j, hj, e⟩ := List.getElem_of_mem q
      have y1 := hY.1.2.2.2.2.2.1 j _ (List.getElem?_eq_getElem hj)
      have := Hw_lt hY.2.2.1 y1
      omega) (by omega)
    have hI3 : It_ σ3.2.2 it (k + 1) (nI k) m1 as0 := g4 _ _ (by
      dsimp only
      rw [up_n (by omega)]
      exact up_s _ _ _) (fun q => by
      have := hY.1.2.2.1
      obtain ⟨_, _, _, b1, _⟩ := this
      rw [← q, hI'] at b1
      cases b1) (fun _ _ q => by cases q)
    obtain ⟨σ4, em4, mc4, ms4, k1, k2, k3, k4⟩ := ih (k + 1) (nI k) (some (.ref s00[k])) σ3 em3 (mc' + nI 1) (ss ++ [σ.1]) (by omega) (by rw [List.length_append]; simp; omega) g2 hI3
    refine ⟨σ4, em4, mc4, ms4, ?_, k2, k3, ?_⟩
    · have y1 := hS1
      unfold SgC_ at y1
      have hw1 := hY1.1.1
      obtain ⟨_, _, _, b1, _⟩ := hY2.1.2.2.1
      rw [← k1]
      conv => lhs; rw [b287_3]
      dsimp only at y1 hw1 b1
      simp (disch := omega) only [K287_3, R_cons, go_nx, go_jp, go_rt, go_th, go_ca, go_no, go_ite, rr_v, rr_n, rr_x, hx_n, hx_p, hx_b, I_push, I_pushl, I_fc0, I_fc1, I_dc0, I_null, I_mask, I_iload, I_lload, I_dload, I_fload, I_aload, I_istore, I_lstore, I_dstore, I_fstore, I_astore, I_iinc, I_iadd, I_isub, I_imul, I_iand, I_ior, I_ixor, I_ishl, I_ishr, I_iushr, I_ineg, I_ladd, I_lsub, I_lmul, I_lxor, I_i2l, I_l2i, I_i2b, I_i2c, I_i2f, I_i2d, I_lcmp, I_fdiv, I_ddiv, I_f2d, I_dcmp, I_dup, I_pop, I_dup_x1, I_dup2, I_icne, I_iceq, I_iclt, I_icge, I_icgt, I_icle, I_ifnull, I_ifnonnull, I_ane, I_aeq, I_goto, I_lsw, I_iret, I_lret, I_fret, I_dret, I_vret, I_nret, I_aret, I_iald, I_bald, I_lald, I_aald, I_iast, I_bast, I_last, I_aast, I_alen, I_new, I_val, I_cast, I_inst, I_obj, I_throw, I_mkx, I_getf, I_putf, I_call, I_calli, I_callv, I_clone, I_getc, i_ifeq, i_ifne, i_iflt, i_ifge, i_ifgt, i_ifle, i_idiv, i_irem, i_newa, i_newo, i_abs, i_max, i_min, i_ldiv, en_, es_i, es_r, es_0, es_n, es_l, List.length_cons, List.length_nil, List.cons_append, List.nil_append, Nat.reduceAdd, Nat.reduceSub, List.replicate, lg_, st1_, st2_, cn_, nl_, mk_, pk_, kd_, sl_, la_, ft_a, ft_i, ft_l, ft_o, ft_n, ft_b0, ft_b1, ft_bI, nr_0, nr_1, nr_bI, ro_, no_, if_true, if_false, ite_true, ite_false, reduceIte, Nat.reduceMod, Nat.reduceEqDiff, Nat.zero_add, Nat.add_zero, lk_, lit_, nI_add, nI_mul, ix_nI, fgk_0, fgk_1, fgk_2, fgk_3, fgk_4, fgk_5, fgk_6, fgk_7, fgk_8, fgk_9, fgk_10, fgk_11, fgk_12, fgk_13, fsk_0, fsk_1, fsk_2, fsk_3, fsk_4, fsk_5, fsk_6, fsk_7, fsk_8, fsk_9, fsk_10, fsk_11, fsk_12, fsk_13, ca_i, ca_r, ca_n, Nat.reduceLT, true_or, or_true, if_true, false_or, or_false, and_true, true_and, List.mem_singleton, eq_self, hI', hN, n10_, hX, y1, hw1, c1, b1, g1]
    · have a1 := g3
      have a2 := k4
      rw [hms] at a1
      unfold Szt_ at a1 a2 ⊢
      dsimp only at a1
      omega
end WCR
