/-! what would be -/
section CQA
variable {E : En_} {σ : As_} {p w am em as es st n s b bb q m : Nat} {mc mc' : Int32} {r : Nat → Int32} {ms ss : List Nat} {fs : List Value} {h0 g : Nat → Option Ac_} {N : Nat → Nat → Int32}
theorem WY_up {σ' : As_} (h : WY_ E h0 σ w r am em as es st mc mc' ms ss) (hl : le_ σ.2.2 σ'.2.2) (hw : Hw_ σ') : WY_ E h0 σ' w r am em as es st mc mc' ms ss := by
  obtain ⟨h1, h2, h3, h4⟩ := h
  exact ⟨WlA_mono hl h1, le_trans h2 hl, hw, h4⟩
theorem net_Y (hY : WY_ E h0 σ w r am em as es st mc mc' ms ss) (hm : ms.length = n) (hss : ss.length = s) (hW : Wr_ r n s) (h7 : E7_ E h0) (h4 : E45_ E h0) :
    ∃ σ' q N, D_ E 288 [.ref σ.1, .ref w] (σ.1 + 1, σ.2.1 + 13, up_ σ.2.2 σ.1 n0_) = some (.inl none, σ') ∧ Nx_ E σ.2.2 σ' σ.1 σ.1 q w N r n s ms ss ∧ WY_ E h0 (σ.1 + 1, σ.2.1, σ.2.2) w r am em as es st mc mc' ms ss ∧ Sz_ 4620 σ σ' := by
  obtain ⟨σ', q, lc, N, g1, g2, g3, g4, g5⟩ := S_net (E := E) (σ := σ) (E7_mono hY.2.1 h7) (E45_mono hY.2.1 h4) hY.2.2.1 (WY_Wl hY) hm hss hW
  exact ⟨σ', q, N, g1, ⟨⟨lc, g2⟩, g3, g4, Wl_mono g2.2.1 (WY_Wl hY), hm, hss, hW, E45_mono hY.2.1 h4⟩, WY_up hY le_rfl (fun x hx => hY.2.2.1 x (by dsimp only at hx; omega)), g5⟩
/-- the frame of a call that works on a copy -/
theorem WN_Fr {σ' : As_} {c m z : Nat} (hY : WY_ E σ.2.2 (z, m, g) w r am em as es st mc mc' ms ss) (hN : Nx_ E g σ' b bb q w N r n s ms ss) (hz : Sz_ c σ σ') : Fr_ c σ σ' := by
  obtain ⟨⟨lc, hV⟩, _⟩ := hN
  exact ⟨le_trans hY.2.1 hV.2.1, hz.1, hz.2.1, hz.2.2, hV.2.2.1⟩
/-- the heights of benches -/
def Bn_ (r : Nat → Int32) (n : Nat) : Prop := ∀ k, k < n → r (8 + 5 * k + 2) = nI 1 → -99999 ≤ (r (8 + 5 * k + 4)).toInt ∧ (r (8 + 5 * k + 4)).toInt ≤ 99999
theorem l0_at : ∀ (d i k : Nat) (r : Nat → Int32), fo_ l0_ d i r (8 + 5 * k + 2) = r (8 + 5 * k + 2) ∧ fo_ l0_ d i r (8 + 5 * k + 4) = r (8 + 5 * k + 4) ∧ (i ≤ k → k < i + d → fo_ l0_ d i r (8 + 5 * k + 3) = r (8 + 5 * k + 2)) ∧ (k < i → fo_ l0_ d i r (8 + 5 * k + 3) = r (8 + 5 * k + 3)) := by
  intro d
  induction d with
  | zero => intro i k r; exact ⟨rfl, rfl, fun h1 h2 => by omega, fun _ => rfl⟩
  | succ d ih =>
    intro i k r
    obtain ⟨i1, i2, i3, i4⟩ := ih (i + 1) k (l0_ i r)
    have u2 : l0_ i r (8 + 5 * k + 2) = r (8 + 5 * k + 2) := by unfold l0_; exact upd_n (by omega)
    have u4 : l0_ i r (8 + 5 * k + 4) = r (8 + 5 * k + 4) := by unfold l0_; exact upd_n (by omega)
    rw [fo_]
    refine ⟨i1.trans u2, i2.trans u4, fun h1 h2 => ?_, fun h1 => ?_⟩
    · by_cases e : i = k
      · subst e
        rw [i4 (by omega)]
        unfold l0_
        rw [upd_s]
      · rw [i3 (by omega) (by omega), u2]
    · rw [i4 (by omega)]
      unfold l0_
      exact upd_n (by omega)
theorem Bn_Bh (h : Bn_ r n) : Bh_ (fo_ l0_ n 0 r) n 99999 := fun k hk hf => by
  obtain ⟨_, i2, i3, _⟩ := l0_at n 0 k r
  rw [i3 (Nat.zero_le _) (by omega)] at hf
  rw [i2]
  exact h k hk hf
theorem S_heightIf {x : Int32} (h : Sq_ E σ p w fs r n s ms ss) (hB : Bn_ r n) : ∃ σ' a, D_ E 370 [.ref p, .int x] σ = some (an1_ (inN_ x n) (.int (hgt_ (lev_ r n s) x.toNatClampNeg)) a, σ') ∧ Fr_ 6700 σ σ' := by
  have hp := h.1
  have hW := Sq_W h
  have h12 := wr_n12 hW
  obtain ⟨am0, as0, st0, fm0, fa0, g0, z1, z2, _⟩ := Sq_w h
  unfold an1_
  by_cases c : inN_ x n
  · have k0 := S_ckM1 h c
    obtain ⟨a, ha, rfl⟩ := inN_nI c
    obtain ⟨σ1, am, em, as, es, st, mc, mc', ms', ss', c1, c2, c3, c4, c5⟩ := W_copy (E := E) h.2.2.2.2.2.2.1 h.2.1 h.2.2.1 h.2.2.2.1 hW (Sq_hw h)
    obtain ⟨σ2, q, N, n1, n2, n3, n4⟩ := net_Y (E := E) c2 c3 c4 hW h.2.2.2.2.2.2.1 h.2.2.2.2.2.2.2.1
    obtain ⟨σ3, g', v1, v2, v3, v4, v5, v6⟩ := N_level (E := E) n2 n3 (Bn_Bh hB) (by omega)
    have hsz : Sz_ 6700 σ σ3 := by
      unfold Sz_ at c5 n4 v4 ⊢
      omega
    refine ⟨σ3, 0, ?_, WN_Fr v3 v2 hsz⟩
    have hgl := v2.1.choose_spec.2.1
    have w3 := hgl _ _ v3.1.1
    obtain ⟨_, _, _, l5, _⟩ := id v3.1.2.1
    have l6 := hgl _ _ l5
    have hal : a < ms'.length := by omega
    have gx := J_get (E := E) (σ := σ3) (Ls_mono hgl v3.1.2.1) hal
    obtain ⟨nm, x1, _⟩ := v3.1.2.2.2.2.1 a _ (List.getElem?_eq_getElem hal)
    have x2 := hgl _ _ x1
    have hw1 := c2.1.1
    have hwl1 := Hw_lt c2.2.2.1 hw1
    have nb := NX_7 n2
    unfold n0_ at n1
    rw [if_pos c, nI_clamp (by omega), D_run]
    simp (disch := omega) only [l370, b370_0, K370_0, R_cons, go_nx, go_jp, go_rt, go_th, go_ca, go_no, go_ite, rr_v, rr_n, rr_x, hx_n, hx_p, hx_b, I_push, I_pushl, I_fc0, I_fc1, I_dc0, I_null, I_mask, I_iload, I_lload, I_dload, I_fload, I_aload, I_istore, I_lstore, I_dstore, I_fstore, I_astore, I_iinc, I_iadd, I_isub, I_imul, I_iand, I_ior, I_ixor, I_ishl, I_ishr, I_iushr, I_ineg, I_ladd, I_lsub, I_lmul, I_lxor, I_i2l, I_l2i, I_i2b, I_i2c, I_i2f, I_i2d, I_lcmp, I_fdiv, I_ddiv, I_f2d, I_dcmp, I_dup, I_pop, I_dup_x1, I_dup2, I_icne, I_iceq, I_iclt, I_icge, I_icgt, I_icle, I_ifnull, I_ifnonnull, I_ane, I_aeq, I_goto, I_lsw, I_iret, I_lret, I_fret, I_dret, I_vret, I_nret, I_aret, I_iald, I_bald, I_lald, I_aald, I_iast, I_bast, I_last, I_aast, I_alen, I_new, I_val, I_cast, I_inst, I_obj, I_throw, I_mkx, I_getf, I_putf, I_call, I_calli, I_callv, I_clone, I_getc, i_ifeq, i_ifne, i_iflt, i_ifge, i_ifgt, i_ifle, i_idiv, i_irem, i_newa, i_newo, i_abs, i_max, i_min, i_ldiv, en_, es_i, es_r, es_0, es_n, es_l, List.length_cons, List.length_nil, List.cons_append, List.nil_append, Nat.reduceAdd, Nat.reduceSub, List.replicate, lg_, st1_, st2_, cn_, nl_, mk_, pk_, kd_, sl_, la_, ft_a, ft_i, ft_l, ft_o, ft_n, ft_b0, ft_b1, ft_bI, nr_0, nr_1, nr_bI, ro_, no_, if_true, if_false, ite_true, ite_false, reduceIte, Nat.reduceMod, Nat.reduceEqDiff, Nat.zero_add, Nat.add_zero, lk_, lit_, nI_add, nI_mul, ix_nI, fgk_0, fgk_1, fgk_2, fgk_3, fgk_4, fgk_5, fgk_6, fgk_7, fgk_8, fgk_9, fgk_10, fgk_11, fgk_12, fgk_13, fsk_0, fsk_1, fsk_2, fsk_3, fsk_4, fsk_5, fsk_6, fsk_7, fsk_8, fsk_9, fsk_10, fsk_11, fsk_12, fsk_13, ca_i, ca_r, ca_n, Nat.reduceLT, true_or, or_true, if_true, false_or, or_false, and_true, true_and, List.mem_singleton, eq_self, hp, k0, z1, c1, J_rnn, n1, nb, v1, w3, l6, gx, x2, up_n]
  · refine ⟨thr_ σ 19, σ.1, ?_, Fr_le (Fr_thr (Sq_hw h)) (by decide)⟩
    have k1 := S_ckM0 h c
    rw [if_neg c, D_run]
    simp (disch := omega) only [b370_0, K370_0, l370, R_cons, go_nx, go_jp, go_rt, go_th, go_ca, go_no, go_ite, rr_v, rr_n, rr_x, hx_n, hx_p, hx_b, I_push, I_pushl, I_fc0, I_fc1, I_dc0, I_null, I_mask, I_iload, I_lload, I_dload, I_fload, I_aload, I_istore, I_lstore, I_dstore, I_fstore, I_astore, I_iinc, I_iadd, I_isub, I_imul, I_iand, I_ior, I_ixor, I_ishl, I_ishr, I_iushr, I_ineg, I_ladd, I_lsub, I_lmul, I_lxor, I_i2l, I_l2i, I_i2b, I_i2c, I_i2f, I_i2d, I_lcmp, I_fdiv, I_ddiv, I_f2d, I_dcmp, I_dup, I_pop, I_dup_x1, I_dup2, I_icne, I_iceq, I_iclt, I_icge, I_icgt, I_icle, I_ifnull, I_ifnonnull, I_ane, I_aeq, I_goto, I_lsw, I_iret, I_lret, I_fret, I_dret, I_vret, I_nret, I_aret, I_iald, I_bald, I_lald, I_aald, I_iast, I_bast, I_last, I_aast, I_alen, I_new, I_val, I_cast, I_inst, I_obj, I_throw, I_mkx, I_getf, I_putf, I_call, I_calli, I_callv, I_clone, I_getc, i_ifeq, i_ifne, i_iflt, i_ifge, i_ifgt, i_ifle, i_idiv, i_irem, i_newa, i_newo, i_abs, i_max, i_min, i_ldiv, en_, es_i, es_r, es_0, es_n, es_l, List.length_cons, List.length_nil, List.cons_append, List.nil_append, Nat.reduceAdd, Nat.reduceSub, List.replicate, lg_, st1_, st2_, cn_, nl_, mk_, pk_, kd_, sl_, la_, ft_a, ft_i, ft_l, ft_o, ft_n, ft_b0, ft_b1, ft_bI, nr_0, nr_1, nr_bI, ro_, no_, if_true, if_false, ite_true, ite_false, reduceIte, Nat.reduceMod, Nat.reduceEqDiff, Nat.zero_add, Nat.add_zero, lk_, lit_, nI_add, nI_mul, ix_nI, fgk_0, fgk_1, fgk_2, fgk_3, fgk_4, fgk_5, fgk_6, fgk_7, fgk_8, fgk_9, fgk_10, fgk_11, fgk_12, fgk_13, fsk_0, fsk_1, fsk_2, fsk_3, fsk_4, fsk_5, fsk_6, fsk_7, fsk_8, fsk_9, fsk_10, fsk_11, fsk_12, fsk_13, ca_i, ca_r, ca_n, Nat.reduceLT, true_or, or_true, if_true, false_or, or_false, and_true, true_and, List.mem_singleton, eq_self, hp, k1]
/-- an answer, or the argument is refused -/
def anA_ (p : Prop) [Decidable p] (v : Value) (a : Nat) : Rs_ := if p then .inl (some v) else .inr (20, a)
theorem inrR {x : Int32} {a b : Int32} : (a ≤ x ∧ x ≤ b) ↔ inr_ x a.toInt b.toInt := by
  unfold inr_
  rw [Int32.le_iff_toInt_le, Int32.le_iff_toInt_le]
theorem S_errorWith {x : Int32} (h : Sq_ E σ p w fs r n s ms ss) (hM : LM_ E σ.2.2) : ∃ σ' a, D_ E 384 [.ref p, .int x] σ = some (anA_ (inr_ x 1 9999) (.int (fnd_ (upd r 2 x) n s)) a, σ') ∧ Fr_ 1500 σ σ' := by
  have hp := h.1
  have hW := Sq_W h
  obtain ⟨am0, as0, st0, fm0, fa0, g0, z1, z2, _⟩ := Sq_w h
  obtain ⟨ma, mb, f, g, e1, e2, e3, e4, f0, _, _, _, g0', _⟩ := hM
  unfold anA_
  by_cases c : inr_ x 1 9999
  · have e : bI (nI 1 ≤ x ∧ x ≤ nI 9999) = nI 1 := bI_t (inrR.2 c)
    obtain ⟨σ1, am, em, as, es, st, mc, mc', ms', ss', c1, c2, c3, c4, c5⟩ := W_copy (E := E) h.2.2.2.2.2.2.1 h.2.1 h.2.2.1 h.2.2.2.1 hW (Sq_hw h)
    obtain ⟨g, s1, q0, q1, q2, q3⟩ := c2.1.2.2.2.1
    have hY := WY_putS (r' := upd r 2 x) (g' := upd g 0 x) c2 (fun j hj => upd_n (by omega)) (by rw [upd_s, upd_s]) (by rw [upd_n (by decide), upd_n (by decide)]; exact q1) (by rw [upd_n (by decide), upd_n (by decide)]; exact q2) (by rw [upd_n (by decide), upd_n (by decide)]; exact q3)
    have hW' := wr_s2 hW c
    obtain ⟨σ2, v1, v2⟩ := W_found (E := E) (E7_mono hY.2.1 h.2.2.2.2.2.2.1) (E45_mono hY.2.1 h.2.2.2.2.2.2.2.1) (WY_Wl hY) c3 c4 hW' hY.2.2.1
    have w1 := c2.1.1
    have w2 := hY.1.1
    dsimp only at w2
    refine ⟨σ2, 0, ?_, ⟨le_trans hY.2.1 v2.1, ?_, ?_, ?_, v2.2.2.2.2⟩⟩
    · rw [if_pos c, D_run]
      simp (disch := omega) only [l384, b384_0, K384_0, R_cons, go_nx, go_jp, go_rt, go_th, go_ca, go_no, go_ite, rr_v, rr_n, rr_x, hx_n, hx_p, hx_b, I_push, I_pushl, I_fc0, I_fc1, I_dc0, I_null, I_mask, I_iload, I_lload, I_dload, I_fload, I_aload, I_istore, I_lstore, I_dstore, I_fstore, I_astore, I_iinc, I_iadd, I_isub, I_imul, I_iand, I_ior, I_ixor, I_ishl, I_ishr, I_iushr, I_ineg, I_ladd, I_lsub, I_lmul, I_lxor, I_i2l, I_l2i, I_i2b, I_i2c, I_i2f, I_i2d, I_lcmp, I_fdiv, I_ddiv, I_f2d, I_dcmp, I_dup, I_pop, I_dup_x1, I_dup2, I_icne, I_iceq, I_iclt, I_icge, I_icgt, I_icle, I_ifnull, I_ifnonnull, I_ane, I_aeq, I_goto, I_lsw, I_iret, I_lret, I_fret, I_dret, I_vret, I_nret, I_aret, I_iald, I_bald, I_lald, I_aald, I_iast, I_bast, I_last, I_aast, I_alen, I_new, I_val, I_cast, I_inst, I_obj, I_throw, I_mkx, I_getf, I_putf, I_call, I_calli, I_callv, I_clone, I_getc, i_ifeq, i_ifne, i_iflt, i_ifge, i_ifgt, i_ifle, i_idiv, i_irem, i_newa, i_newo, i_abs, i_max, i_min, i_ldiv, en_, es_i, es_r, es_0, es_n, es_l, List.length_cons, List.length_nil, List.cons_append, List.nil_append, Nat.reduceAdd, Nat.reduceSub, List.replicate, lg_, st1_, st2_, cn_, nl_, mk_, pk_, kd_, sl_, la_, ft_a, ft_i, ft_l, ft_o, ft_n, ft_b0, ft_b1, ft_bI, nr_0, nr_1, nr_bI, ro_, no_, if_true, if_false, ite_true, ite_false, reduceIte, Nat.reduceMod, Nat.reduceEqDiff, Nat.zero_add, Nat.add_zero, lk_, lit_, nI_add, nI_mul, ix_nI, fgk_0, fgk_1, fgk_2, fgk_3, fgk_4, fgk_5, fgk_6, fgk_7, fgk_8, fgk_9, fgk_10, fgk_11, fgk_12, fgk_13, fsk_0, fsk_1, fsk_2, fsk_3, fsk_4, fsk_5, fsk_6, fsk_7, fsk_8, fsk_9, fsk_10, fsk_11, fsk_12, fsk_13, ca_i, ca_r, ca_n, Nat.reduceLT, true_or, or_true, if_true, false_or, or_false, and_true, true_and, List.mem_singleton, eq_self, e1, e2, e3, e4, ix_nI, f0, g0', S_inRange, e, S_ca1, hp, z1, c1, w1, s1, w2, v1]
    · have := c5.1; have := v2.2.1; dsimp only at this; omega
    · have := c5.2.1; have := v2.2.2.1; dsimp only at this; omega
    · have := c5.2.2; have := v2.2.2.2.1; dsimp only at this; omega
  · have e : bI (nI 1 ≤ x ∧ x ≤ nI 9999) = nI 0 := bI_f (fun q => c (inrR.1 q))
    refine ⟨thr_ σ 20, σ.1, ?_, Fr_le (Fr_thr (Sq_hw h)) (by decide)⟩
    rw [if_neg c, D_run]
    simp (disch := omega) only [l384, b384_0, K384_0, R_cons, go_nx, go_jp, go_rt, go_th, go_ca, go_no, go_ite, rr_v, rr_n, rr_x, hx_n, hx_p, hx_b, I_push, I_pushl, I_fc0, I_fc1, I_dc0, I_null, I_mask, I_iload, I_lload, I_dload, I_fload, I_aload, I_istore, I_lstore, I_dstore, I_fstore, I_astore, I_iinc, I_iadd, I_isub, I_imul, I_iand, I_ior, I_ixor, I_ishl, I_ishr, I_iushr, I_ineg, I_ladd, I_lsub, I_lmul, I_lxor, I_i2l, I_l2i, I_i2b, I_i2c, I_i2f, I_i2d, I_lcmp, I_fdiv, I_ddiv, I_f2d, I_dcmp, I_dup, I_pop, I_dup_x1, I_dup2, I_icne, I_iceq, I_iclt, I_icge, I_icgt, I_icle, I_ifnull, I_ifnonnull, I_ane, I_aeq, I_goto, I_lsw, I_iret, I_lret, I_fret, I_dret, I_vret, I_nret, I_aret, I_iald, I_bald, I_lald, I_aald, I_iast, I_bast, I_last, I_aast, I_alen, I_new, I_val, I_cast, I_inst, I_obj, I_throw, I_mkx, I_getf, I_putf, I_call, I_calli, I_callv, I_clone, I_getc, i_ifeq, i_ifne, i_iflt, i_ifge, i_ifgt, i_ifle, i_idiv, i_irem, i_newa, i_newo, i_abs, i_max, i_min, i_ldiv, en_, es_i, es_r, es_0, es_n, es_l, List.length_cons, List.length_nil, List.cons_append, List.nil_append, Nat.reduceAdd, Nat.reduceSub, List.replicate, lg_, st1_, st2_, cn_, nl_, mk_, pk_, kd_, sl_, la_, ft_a, ft_i, ft_l, ft_o, ft_n, ft_b0, ft_b1, ft_bI, nr_0, nr_1, nr_bI, ro_, no_, if_true, if_false, ite_true, ite_false, reduceIte, Nat.reduceMod, Nat.reduceEqDiff, Nat.zero_add, Nat.add_zero, lk_, lit_, nI_add, nI_mul, ix_nI, fgk_0, fgk_1, fgk_2, fgk_3, fgk_4, fgk_5, fgk_6, fgk_7, fgk_8, fgk_9, fgk_10, fgk_11, fgk_12, fgk_13, fsk_0, fsk_1, fsk_2, fsk_3, fsk_4, fsk_5, fsk_6, fsk_7, fsk_8, fsk_9, fsk_10, fsk_11, fsk_12, fsk_13, ca_i, ca_r, ca_n, Nat.reduceLT, true_or, or_true, if_true, false_or, or_false, and_true, true_and, List.mem_singleton, eq_self, e1, e2, e3, e4, ix_nI, f0, g0', S_inRange, e, S_ca0]
end CQA
