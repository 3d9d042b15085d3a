section CQC
variable {E : En_} {σ : As_} {p w n s : Nat} {r : Nat → Int32} {ms ss : List Nat} {fs : List Value} {I : Nat → (Nat → Int32) → Prop}
theorem rds_le {e : Int32} : ∀ (d c : Nat) (q : Nat → Int32), (rds_ e n s d c q).2 ≤ c + d := by
  intro d
  induction d with
  | zero => intro c q; exact Nat.le_refl _
  | succ d ih =>
    intro c q
    rw [rds_]
    split
    · have := ih (c + 1) (fo_ (rd1_ e n s) n 0 (q, false)).1
      omega
    · exact Nat.le_add_right _ _
theorem S_misfitAfter {x : Int32} (h : Sq_ E σ p w fs r n s ms ss) (hB : Bn_ r n) (h1 : ∀ j r, j ≤ 600 → I j r → Hb_ r n) (h2 : ∀ j r' k, j < 600 → k < n → hs_ (lev_ r n s) r' → Wr_ r' n s → r' (8 + 5 * k + 3) = nI 1 → ¬ r' (8 + 5 * k + 2) = nI 1 → I j r' → I (j + 1) (rxr_ r' (err_ (lev_ r n s) n s) n s k)) (h3 : ∀ j r, j < 600 → I j r → I (j + 1) r) (hI : I 0 (lev_ r n s)) :
    ∃ σ' a, D_ E 385 [.ref p, .int x] σ = some (anA_ (inN_ x 51) (.long (mif_ (rnd_ (lev_ r n s) n s x.toNatClampNeg).1 n s)) a, σ') ∧ Fr_ 6700 σ σ' := by
  have hp := h.1
  have hW := Sq_W h
  have h12 := wr_n12 hW
  have hw := Sq_hw h
  obtain ⟨am0, as0, st0, fm0, fa0, g0, z1, z2, _⟩ := Sq_w h
  unfold anA_
  by_cases c : inN_ x 51
  · have e : bI (nI 0 ≤ x ∧ x ≤ nI 50) = nI 1 := bI_t (by
      have := (inR_N (x := x) (m := 51) (by decide)).2 c
      exact ⟨this.1, this.2⟩)
    obtain ⟨k, hk, rfl⟩ := inN_nI c
    have hfa : Fr_ 17 σ (σ.1 + 1, σ.2.1 + 13, up_ σ.2.2 σ.1 n0_) := Fr_new (k := 13) hw
    have ha := Sq_fr h hfa
    obtain ⟨σ1, am, em, as, es, st, mc, mc', ms', ss', c1, c2, c3, c4, c5⟩ := W_copy (E := E) (σ := (σ.1 + 1, σ.2.1 + 13, up_ σ.2.2 σ.1 n0_)) ha.2.2.2.2.2.2.1 ha.2.1 ha.2.2.1 ha.2.2.2.1 hW ha.2.2.2.2.2.2.2.2
    dsimp only at c1 c2 c5
    have hb1 : σ1.2.2 σ.1 = some n0_ := c2.2.1 _ _ (up_s _ _ _)
    have hbl := Hw_lt c2.2.2.1 hb1
    obtain ⟨h0, eh0⟩ : ∃ h0 : Nat → Option Ac_, h0 = fun y => if y = σ.1 then none else σ1.2.2 y := ⟨_, rfl⟩
    have h0n : ∀ {y}, y ≠ σ.1 → h0 y = σ1.2.2 y := fun {y} hy => by rw [eh0]; exact if_neg hy
    have h0b : h0 σ.1 = none := by rw [eh0]; exact if_pos rfl
    have hle0 : le_ σ.2.2 h0 := fun y d hy => by
      have hyl := Hw_lt hw hy
      rw [h0n (by omega)]
      exact c2.2.1 _ _ (hfa.1 _ _ hy)
    have hup : σ1.2.2 = up_ h0 σ.1 n0_ := by
      funext y
      by_cases q : y = σ.1
      · rw [q, up_s]; exact hb1
      · rw [up_n q, h0n q]
    have hkp : ∀ y d, σ1.2.2 y = some d → gd_ d → h0 y = some d := fun y d hy hd => by
      rw [h0n (fun q => by
        rw [q, hb1] at hy
        cases hy
        unfold gd_ n0_ at hd
        omega)]
      exact hy
    have hY0 : WY_ E σ.2.2 (σ1.1 - 1 + 1, σ1.2.1, h0) (σ.1 + 1) r am em as es st mc mc' ms' ss' := WY_kp (WY_h0 c2 hfa.1) hkp hle0 (fun y hy => by
      dsimp only at hy ⊢
      rw [h0n (by omega)]
      exact c2.2.2.1 y (by omega))
    obtain ⟨σ2, q, lc, N, n1, n2, n3, n4, n5⟩ := N_make (E := E) (σ := σ1) (b := σ.1) (bb := σ1.1 - 1) (E7_mono hle0 h.2.2.2.2.2.2.1) (E45_mono hle0 h.2.2.2.2.2.2.2.1) hup (by omega) (by omega) (fun y hy => by
      rcases hy with q | q
      · rw [q]; exact h0b
      · rw [h0n (by omega)]
        exact c2.2.2.1 y (by omega)) (WY_Wl hY0) c3 c4 hW
    have hN : Nx_ E h0 σ2 σ.1 (σ1.1 - 1) q (σ.1 + 1) N r n s ms' ss' := ⟨⟨lc, n2⟩, n3, n4, Wl_mono n2.2.1 (WY_Wl hY0), c3, c4, hW, E45_mono hle0 h.2.2.2.2.2.2.2.1⟩
    obtain ⟨σ3, g', v1, v2, v3, v4, v5, v6⟩ := N_level (E := E) hN hY0 (Bn_Bh hB) (by omega)
    obtain ⟨σ4, g4, j', u1, u2, u3, u4, u5, u6, u7, u8⟩ := N_relax (E := E) (I := I) (m := k) (fun j r hj hi => Hb_ok (h1 j r hj hi)) h2 h3 (by omega) hI v2 v3
    obtain ⟨σ5, m1, m2, m3⟩ := N_misfit (E := E) (WY_Wl u6) (h1 _ _ u2 u4) u5
    have hsz : Sz_ 6700 σ σ5 := by
      unfold Sz_ at c5 n5 v4 m3 ⊢
      dsimp only at c5
      omega
    have hc50 : (rnd_ (lev_ r n s) n s k).2 ≤ 50 := by
      have := rds_le (n := n) (s := s) (e := err_ (lev_ r n s) n s) k 0 (lev_ r n s)
      unfold rnd_
      omega
    have hge : nI 0 ≤ nI (rnd_ (lev_ r n s) n s k).2 := (nI_leI (by omega) (by omega)).2 (Nat.zero_le _)
    refine ⟨σ5, 0, ?_, WN_Fr u6 m2 hsz⟩
    have b2 := n2.1.1
    have b3 := NX_7 v2
    have b4 := NX_7 u5
    have hpa := ha.1
    dsimp only at hpa
    have wa : up_ σ.2.2 σ.1 n0_ w = _ := hfa.1 _ _ z1
    unfold n0_ at c1 hpa wa
    rw [if_pos c, nI_clamp (by omega), D_run]
    simp (disch := omega) only [l385, b385_0, K385_0, b385_1, K385_1, b385_2, K385_2, R_cons, go_nx, go_jp, go_rt, go_th, go_ca, go_no, go_ite, rr_v, rr_n, rr_x, hx_n, hx_p, hx_b, I_push, I_pushl, I_fc0, I_fc1, I_dc0, I_null, I_mask, I_iload, I_lload, I_dload, I_fload, I_aload, I_istore, I_lstore, I_dstore, I_fstore, I_astore, I_iinc, I_iadd, I_isub, I_imul, I_iand, I_ior, I_ixor, I_ishl, I_ishr, I_iushr, I_ineg, I_ladd, I_lsub, I_lmul, I_lxor, I_i2l, I_l2i, I_i2b, I_i2c, I_i2f, I_i2d, I_lcmp, I_fdiv, I_ddiv, I_f2d, I_dcmp, I_dup, I_pop, I_dup_x1, I_dup2, I_icne, I_iceq, I_iclt, I_icge, I_icgt, I_icle, I_ifnull, I_ifnonnull, I_ane, I_aeq, I_goto, I_lsw, I_iret, I_lret, I_fret, I_dret, I_vret, I_nret, I_aret, I_iald, I_bald, I_lald, I_aald, I_iast, I_bast, I_last, I_aast, I_alen, I_new, I_val, I_cast, I_inst, I_obj, I_throw, I_mkx, I_getf, I_putf, I_call, I_calli, I_callv, I_clone, I_getc, i_ifeq, i_ifne, i_iflt, i_ifge, i_ifgt, i_ifle, i_idiv, i_irem, i_newa, i_newo, i_abs, i_max, i_min, i_ldiv, en_, es_i, es_r, es_0, es_n, es_l, List.length_cons, List.length_nil, List.cons_append, List.nil_append, Nat.reduceAdd, Nat.reduceSub, List.replicate, lg_, st1_, st2_, cn_, nl_, mk_, pk_, kd_, sl_, la_, ft_a, ft_i, ft_l, ft_o, ft_n, ft_b0, ft_b1, ft_bI, nr_0, nr_1, nr_bI, ro_, no_, if_true, if_false, ite_true, ite_false, reduceIte, Nat.reduceMod, Nat.reduceEqDiff, Nat.zero_add, Nat.add_zero, lk_, lit_, nI_add, nI_mul, ix_nI, fgk_0, fgk_1, fgk_2, fgk_3, fgk_4, fgk_5, fgk_6, fgk_7, fgk_8, fgk_9, fgk_10, fgk_11, fgk_12, fgk_13, fsk_0, fsk_1, fsk_2, fsk_3, fsk_4, fsk_5, fsk_6, fsk_7, fsk_8, fsk_9, fsk_10, fsk_11, fsk_12, fsk_13, ca_i, ca_r, ca_n, Nat.reduceLT, true_or, or_true, if_true, false_or, or_false, and_true, true_and, List.mem_singleton, eq_self, S_inRange, e, S_ca1, hpa, wa, c1, J_rnn, n1, b2, v1, b3, u1, hge, b4, m1]
  · have e : bI (nI 0 ≤ x ∧ x ≤ nI 50) = nI 0 := bI_f (fun q => c ((inR_N (x := x) (m := 51) (by decide)).1 ⟨q.1, q.2⟩))
    refine ⟨thr_ σ 20, σ.1, ?_, Fr_le (Fr_thr hw) (by decide)⟩
    rw [if_neg c, D_run]
    simp (disch := omega) only [b385_0, K385_0, l385, R_cons, go_nx, go_jp, go_rt, go_th, go_ca, go_no, go_ite, rr_v, rr_n, rr_x, hx_n, hx_p, hx_b, I_push, I_pushl, I_fc0, I_fc1, I_dc0, I_null, I_mask, I_iload, I_lload, I_dload, I_fload, I_aload, I_istore, I_lstore, I_dstore, I_fstore, I_astore, I_iinc, I_iadd, I_isub, I_imul, I_iand, I_ior, I_ixor, I_ishl, I_ishr, I_iushr, I_ineg, I_ladd, I_lsub, I_lmul, I_lxor, I_i2l, I_l2i, I_i2b, I_i2c, I_i2f, I_i2d, I_lcmp, I_fdiv, I_ddiv, I_f2d, I_dcmp, I_dup, I_pop, I_dup_x1, I_dup2, I_icne, I_iceq, I_iclt, I_icge, I_icgt, I_icle, I_ifnull, I_ifnonnull, I_ane, I_aeq, I_goto, I_lsw, I_iret, I_lret, I_fret, I_dret, I_vret, I_nret, I_aret, I_iald, I_bald, I_lald, I_aald, I_iast, I_bast, I_last, I_aast, I_alen, I_new, I_val, I_cast, I_inst, I_obj, I_throw, I_mkx, I_getf, I_putf, I_call, I_calli, I_callv, I_clone, I_getc, i_ifeq, i_ifne, i_iflt, i_ifge, i_ifgt, i_ifle, i_idiv, i_irem, i_newa, i_newo, i_abs, i_max, i_min, i_ldiv, en_, es_i, es_r, es_0, es_n, es_l, List.length_cons, List.length_nil, List.cons_append, List.nil_append, Nat.reduceAdd, Nat.reduceSub, List.replicate, lg_, st1_, st2_, cn_, nl_, mk_, pk_, kd_, sl_, la_, ft_a, ft_i, ft_l, ft_o, ft_n, ft_b0, ft_b1, ft_bI, nr_0, nr_1, nr_bI, ro_, no_, if_true, if_false, ite_true, ite_false, reduceIte, Nat.reduceMod, Nat.reduceEqDiff, Nat.zero_add, Nat.add_zero, lk_, lit_, nI_add, nI_mul, ix_nI, fgk_0, fgk_1, fgk_2, fgk_3, fgk_4, fgk_5, fgk_6, fgk_7, fgk_8, fgk_9, fgk_10, fgk_11, fgk_12, fgk_13, fsk_0, fsk_1, fsk_2, fsk_3, fsk_4, fsk_5, fsk_6, fsk_7, fsk_8, fsk_9, fsk_10, fsk_11, fsk_12, fsk_13, ca_i, ca_r, ca_n, Nat.reduceLT, true_or, or_true, if_true, false_or, or_false, and_true, true_and, List.mem_singleton, eq_self, S_inRange, e, S_ca0]
end CQC
