section CQB
variable {E : En_} {σ : As_} {p w am em as es st n s b bb q m : Nat} {mc mc' : Int32} {r : Nat → Int32} {ms ss : List Nat} {fs : List Value} {h0 g : Nat → Option Ac_} {N : Nat → Nat → Int32}
/-- a net whose wall has gone on -/
def Nz_ (E : En_) (σ : As_) (b bb q w : Nat) (N : Nat → Nat → Int32) (r : Nat → Int32) (n s : Nat) : Prop :=
  σ.2.2 b = some (.inr (6, nf_ bb q w N)) ∧ LpL_ E σ.2.2 (q + 2) (bb + 7) r n s (lps_ r n s).length ∧ (∃ am as st i j g, σ.2.2 w = some (.inr (1, [.ref am, .ref as, .ref st, .int i, .int j])) ∧ σ.2.2 st = some (tI_ 0 4 g) ∧ g 3 = r 5) ∧ n ≤ 12
theorem Nz_size (h : Nz_ E σ b bb q w N r n s) : (∃ fs, σ.2.2 (bb + 7) = some (.inr (11, fs))) ∧ D_ E 26 [.ref (bb + 7)] σ = some (.inl (some (.int (nI (lps_ r n s).length))), σ) := by
  obtain ⟨mc, e, xs, h1, _, h2, h3⟩ := h.2.1
  have hs := J_size (E := E) h1
  rw [h2] at hs
  obtain ⟨cap, f, tt, a1, _⟩ := h1
  exact ⟨⟨_, a1⟩, hs⟩
theorem cz_lp (h : Nz_ E σ b bb q w N r n s) : ∀ (d i c : Nat), i + d = (lps_ r n s).length → R_ E 300 (B_ E 300 1) [some (.ref b), some (.int (nI c)), some (.int (nI i))] [] σ = some (.inl (some (.int (nI (cnt_ (cls_ r n s) d i c)))), σ) := by
  have hle := lps_le (r := r) (s := s) h.2.2.2
  obtain ⟨⟨fs, z1⟩, z2⟩ := Nz_size (E := E) h
  obtain ⟨c0, hL, ⟨am, as, st, w1, w2, g, l1, l2, l3⟩, _⟩ := id h
  intro d
  induction d with
  | zero =>
    intro i c hi
    obtain rfl : i = (lps_ r n s).length := by omega
    rw [b300_1]
    simp (disch := omega) only [K300_1, b300_2, K300_2, R_cons, go_nx, go_jp, go_rt, go_th, go_ca, go_no, go_ite, rr_v, rr_n, rr_x, hx_n, hx_p, hx_b, I_push, I_pushl, I_fc0, I_fc1, I_dc0, I_null, I_mask, I_iload, I_lload, I_dload, I_fload, I_aload, I_istore, I_lstore, I_dstore, I_fstore, I_astore, I_iinc, I_iadd, I_isub, I_imul, I_iand, I_ior, I_ixor, I_ishl, I_ishr, I_iushr, I_ineg, I_ladd, I_lsub, I_lmul, I_lxor, I_i2l, I_l2i, I_i2b, I_i2c, I_i2f, I_i2d, I_lcmp, I_fdiv, I_ddiv, I_f2d, I_dcmp, I_dup, I_pop, I_dup_x1, I_dup2, I_icne, I_iceq, I_iclt, I_icge, I_icgt, I_icle, I_ifnull, I_ifnonnull, I_ane, I_aeq, I_goto, I_lsw, I_iret, I_lret, I_fret, I_dret, I_vret, I_nret, I_aret, I_iald, I_bald, I_lald, I_aald, I_iast, I_bast, I_last, I_aast, I_alen, I_new, I_val, I_cast, I_inst, I_obj, I_throw, I_mkx, I_getf, I_putf, I_call, I_calli, I_callv, I_clone, I_getc, i_ifeq, i_ifne, i_iflt, i_ifge, i_ifgt, i_ifle, i_idiv, i_irem, i_newa, i_newo, i_abs, i_max, i_min, i_ldiv, en_, es_i, es_r, es_0, es_n, es_l, List.length_cons, List.length_nil, List.cons_append, List.nil_append, Nat.reduceAdd, Nat.reduceSub, List.replicate, lg_, st1_, st2_, cn_, nl_, mk_, pk_, kd_, sl_, la_, ft_a, ft_i, ft_l, ft_o, ft_n, ft_b0, ft_b1, ft_bI, nr_0, nr_1, nr_bI, ro_, no_, if_true, if_false, ite_true, ite_false, reduceIte, Nat.reduceMod, Nat.reduceEqDiff, Nat.zero_add, Nat.add_zero, lk_, lit_, nI_add, nI_mul, ix_nI, fgk_0, fgk_1, fgk_2, fgk_3, fgk_4, fgk_5, fgk_6, fgk_7, fgk_8, fgk_9, fgk_10, fgk_11, fgk_12, fgk_13, fsk_0, fsk_1, fsk_2, fsk_3, fsk_4, fsk_5, fsk_6, fsk_7, fsk_8, fsk_9, fsk_10, fsk_11, fsk_12, fsk_13, ca_i, ca_r, ca_n, Nat.reduceLT, true_or, or_true, if_true, false_or, or_false, and_true, true_and, List.mem_singleton, eq_self, c0, nf_6, z1, z2, nI_leI, Nat.le_refl]
    rfl
  | succ d ih =>
    intro i c hi
    have hlt : ¬ (lps_ r n s).length ≤ i := by omega
    obtain ⟨mc, e, xs, h1, _, h2, h3⟩ := id hL
    have hi' : i < xs.length := by omega
    have x1 := J_get (E := E) h1 hi'
    have x2 := (h3 i _ (List.getElem?_eq_getElem hi')).2
    have hc := L_closes (E := E) (l := r 5) x2
    rw [show clo_ (mis_ r n s i) (wal_ r n s i) (r 5) = cls_ r n s i from rfl] at hc
    have hb := S_bit (E := E) (σ := σ) (bit_bI (p := cls_ r n s i = true))
    obtain ⟨a, f, o1, o2, o3⟩ := x2
    rw [cnt_, b300_1]
    by_cases c1 : cls_ r n s i = true
    · rw [bI_t c1] at hc hb
      rw [if_pos c1, ← ih (i + 1) (c + 1) (by omega)]
      simp (disch := first | assumption | omega) only [K300_1, R_cons, go_nx, go_jp, go_rt, go_th, go_ca, go_no, go_ite, rr_v, rr_n, rr_x, hx_n, hx_p, hx_b, I_push, I_pushl, I_fc0, I_fc1, I_dc0, I_null, I_mask, I_iload, I_lload, I_dload, I_fload, I_aload, I_istore, I_lstore, I_dstore, I_fstore, I_astore, I_iinc, I_iadd, I_isub, I_imul, I_iand, I_ior, I_ixor, I_ishl, I_ishr, I_iushr, I_ineg, I_ladd, I_lsub, I_lmul, I_lxor, I_i2l, I_l2i, I_i2b, I_i2c, I_i2f, I_i2d, I_lcmp, I_fdiv, I_ddiv, I_f2d, I_dcmp, I_dup, I_pop, I_dup_x1, I_dup2, I_icne, I_iceq, I_iclt, I_icge, I_icgt, I_icle, I_ifnull, I_ifnonnull, I_ane, I_aeq, I_goto, I_lsw, I_iret, I_lret, I_fret, I_dret, I_vret, I_nret, I_aret, I_iald, I_bald, I_lald, I_aald, I_iast, I_bast, I_last, I_aast, I_alen, I_new, I_val, I_cast, I_inst, I_obj, I_throw, I_mkx, I_getf, I_putf, I_call, I_calli, I_callv, I_clone, I_getc, i_ifeq, i_ifne, i_iflt, i_ifge, i_ifgt, i_ifle, i_idiv, i_irem, i_newa, i_newo, i_abs, i_max, i_min, i_ldiv, en_, es_i, es_r, es_0, es_n, es_l, List.length_cons, List.length_nil, List.cons_append, List.nil_append, Nat.reduceAdd, Nat.reduceSub, List.replicate, lg_, st1_, st2_, cn_, nl_, mk_, pk_, kd_, sl_, la_, ft_a, ft_i, ft_l, ft_o, ft_n, ft_b0, ft_b1, ft_bI, nr_0, nr_1, nr_bI, ro_, no_, if_true, if_false, ite_true, ite_false, reduceIte, Nat.reduceMod, Nat.reduceEqDiff, Nat.zero_add, Nat.add_zero, lk_, lit_, nI_add, nI_mul, ix_nI, fgk_0, fgk_1, fgk_2, fgk_3, fgk_4, fgk_5, fgk_6, fgk_7, fgk_8, fgk_9, fgk_10, fgk_11, fgk_12, fgk_13, fsk_0, fsk_1, fsk_2, fsk_3, fsk_4, fsk_5, fsk_6, fsk_7, fsk_8, fsk_9, fsk_10, fsk_11, fsk_12, fsk_13, ca_i, ca_r, ca_n, Nat.reduceLT, true_or, or_true, if_true, false_or, or_false, and_true, true_and, List.mem_singleton, eq_self, c0, nf_6, nf_12, z1, z2, nI_leI, hlt, x1, o1, l1, l2, ix_nI, l3, hc, hb, nI_1]
    · rw [bI_f c1] at hc hb
      rw [if_neg c1, ← ih (i + 1) c (by omega)]
      simp (disch := first | assumption | omega) only [K300_1, R_cons, go_nx, go_jp, go_rt, go_th, go_ca, go_no, go_ite, rr_v, rr_n, rr_x, hx_n, hx_p, hx_b, I_push, I_pushl, I_fc0, I_fc1, I_dc0, I_null, I_mask, I_iload, I_lload, I_dload, I_fload, I_aload, I_istore, I_lstore, I_dstore, I_fstore, I_astore, I_iinc, I_iadd, I_isub, I_imul, I_iand, I_ior, I_ixor, I_ishl, I_ishr, I_iushr, I_ineg, I_ladd, I_lsub, I_lmul, I_lxor, I_i2l, I_l2i, I_i2b, I_i2c, I_i2f, I_i2d, I_lcmp, I_fdiv, I_ddiv, I_f2d, I_dcmp, I_dup, I_pop, I_dup_x1, I_dup2, I_icne, I_iceq, I_iclt, I_icge, I_icgt, I_icle, I_ifnull, I_ifnonnull, I_ane, I_aeq, I_goto, I_lsw, I_iret, I_lret, I_fret, I_dret, I_vret, I_nret, I_aret, I_iald, I_bald, I_lald, I_aald, I_iast, I_bast, I_last, I_aast, I_alen, I_new, I_val, I_cast, I_inst, I_obj, I_throw, I_mkx, I_getf, I_putf, I_call, I_calli, I_callv, I_clone, I_getc, i_ifeq, i_ifne, i_iflt, i_ifge, i_ifgt, i_ifle, i_idiv, i_irem, i_newa, i_newo, i_abs, i_max, i_min, i_ldiv, en_, es_i, es_r, es_0, es_n, es_l, List.length_cons, List.length_nil, List.cons_append, List.nil_append, Nat.reduceAdd, Nat.reduceSub, List.replicate, lg_, st1_, st2_, cn_, nl_, mk_, pk_, kd_, sl_, la_, ft_a, ft_i, ft_l, ft_o, ft_n, ft_b0, ft_b1, ft_bI, nr_0, nr_1, nr_bI, ro_, no_, if_true, if_false, ite_true, ite_false, reduceIte, Nat.reduceMod, Nat.reduceEqDiff, Nat.zero_add, Nat.add_zero, lk_, lit_, nI_add, nI_mul, ix_nI, fgk_0, fgk_1, fgk_2, fgk_3, fgk_4, fgk_5, fgk_6, fgk_7, fgk_8, fgk_9, fgk_10, fgk_11, fgk_12, fgk_13, fsk_0, fsk_1, fsk_2, fsk_3, fsk_4, fsk_5, fsk_6, fsk_7, fsk_8, fsk_9, fsk_10, fsk_11, fsk_12, fsk_13, ca_i, ca_r, ca_n, Nat.reduceLT, true_or, or_true, if_true, false_or, or_false, and_true, true_and, List.mem_singleton, eq_self, c0, nf_6, nf_12, z1, z2, nI_leI, hlt, x1, o1, l1, l2, ix_nI, l3, hc, hb, nI_1, Nat.add_zero]
theorem Nz_closed (h : Nz_ E σ b bb q w N r n s) : D_ E 300 [.ref b] σ = some (.inl (some (.int (nI (clq_ r n s)))), σ) := by
  rw [D_run]
  simp (disch := omega) only [b300_0, K300_0, l300, R_cons, go_nx, go_jp, go_rt, go_th, go_ca, go_no, go_ite, rr_v, rr_n, rr_x, hx_n, hx_p, hx_b, I_push, I_pushl, I_fc0, I_fc1, I_dc0, I_null, I_mask, I_iload, I_lload, I_dload, I_fload, I_aload, I_istore, I_lstore, I_dstore, I_fstore, I_astore, I_iinc, I_iadd, I_isub, I_imul, I_iand, I_ior, I_ixor, I_ishl, I_ishr, I_iushr, I_ineg, I_ladd, I_lsub, I_lmul, I_lxor, I_i2l, I_l2i, I_i2b, I_i2c, I_i2f, I_i2d, I_lcmp, I_fdiv, I_ddiv, I_f2d, I_dcmp, I_dup, I_pop, I_dup_x1, I_dup2, I_icne, I_iceq, I_iclt, I_icge, I_icgt, I_icle, I_ifnull, I_ifnonnull, I_ane, I_aeq, I_goto, I_lsw, I_iret, I_lret, I_fret, I_dret, I_vret, I_nret, I_aret, I_iald, I_bald, I_lald, I_aald, I_iast, I_bast, I_last, I_aast, I_alen, I_new, I_val, I_cast, I_inst, I_obj, I_throw, I_mkx, I_getf, I_putf, I_call, I_calli, I_callv, I_clone, I_getc, i_ifeq, i_ifne, i_iflt, i_ifge, i_ifgt, i_ifle, i_idiv, i_irem, i_newa, i_newo, i_abs, i_max, i_min, i_ldiv, en_, es_i, es_r, es_0, es_n, es_l, List.length_cons, List.length_nil, List.cons_append, List.nil_append, Nat.reduceAdd, Nat.reduceSub, List.replicate, lg_, st1_, st2_, cn_, nl_, mk_, pk_, kd_, sl_, la_, ft_a, ft_i, ft_l, ft_o, ft_n, ft_b0, ft_b1, ft_bI, nr_0, nr_1, nr_bI, ro_, no_, if_true, if_false, ite_true, ite_false, reduceIte, Nat.reduceMod, Nat.reduceEqDiff, Nat.zero_add, Nat.add_zero, lk_, lit_, nI_add, nI_mul, ix_nI, fgk_0, fgk_1, fgk_2, fgk_3, fgk_4, fgk_5, fgk_6, fgk_7, fgk_8, fgk_9, fgk_10, fgk_11, fgk_12, fgk_13, fsk_0, fsk_1, fsk_2, fsk_3, fsk_4, fsk_5, fsk_6, fsk_7, fsk_8, fsk_9, fsk_10, fsk_11, fsk_12, fsk_13, ca_i, ca_r, ca_n, Nat.reduceLT, true_or, or_true, if_true, false_or, or_false, and_true, true_and, List.mem_singleton, eq_self]
  exact cz_lp h _ 0 0 (by omega)
theorem LpL_ne3 {h : Nat → Option Ac_} {m a k x : Nat} {fs : List Value} {c : Ac_} (hL : LpL_ E h m a r n s k) (hx : h x = some (.inr (3, fs))) : LpL_ E (up_ h x c) m a r n s k := by
  obtain ⟨mc, e, xs, h1, he, h2, h3⟩ := hL
  have hlo : ∀ i y, xs[i]? = some y → LpO_ m (up_ h x c) y (lpe_ r n s i / 12) (lpw_ r n s i) (mis_ r n s i) (wal_ r n s i) := fun i y hy => by
    obtain ⟨_, a', f, e1, e2, e3⟩ := h3 i y hy
    refine ⟨a', f, ?_, ?_, e3⟩
    · rw [up_n (fun q => by rw [q, hx] at e1; cases e1)]
      exact e1
    · rw [up_n (fun q => by rw [q, hx] at e2; cases e2)]
      exact e2
  refine ⟨mc, e, xs, Ls_ne hx (fun _ q => by cases q) (fun _ _ _ q => by cases q) (all_i fun i y hy => ?_) h1, he, h2, fun i y hy => ⟨(h3 i y hy).1, hlo i y hy⟩⟩
  obtain ⟨a', f, e1, _⟩ := hlo i y hy
  exact ⟨_, _, e1, by decide⟩
theorem tur_at {i j : Nat} (h : j ≠ 68 + 6 * i + 5) : tur_ r i j = r j := by
  unfold tur_
  exact upd_n h
theorem tur_s {i : Nat} : tur_ r i (68 + 6 * i + 5) = nI 1 - r (68 + 6 * i + 5) := by
  unfold tur_
  exact upd_s
/-- the net if a sight was struck, or not -/
theorem S_netIf {i : Nat} (hY : WY_ E h0 σ w r am em as es st mc mc' ms ss) (hm : ms.length = n) (hss : ss.length = s) (hW : Wr_ r n s) (hi : i < s) (h7 : E7_ E h0) (h4 : E45_ E h0) :
    ∃ σ' b q N, D_ E 353 [.ref w, .int (nI i)] σ = some (.inl (some (.ref b)), σ') ∧ Nz_ E σ' b b q w N (tur_ r i) n s ∧ WY_ E h0 σ' w r am em as es st mc mc' ms ss ∧ Sz_ 4700 σ σ' := by
  have h12 := wr_n12 hW
  have h40 := wr_s40 hW
  have hil : i < ss.length := by omega
  have hxi := List.getElem?_eq_getElem hil
  have x1 := hY.1.2.2.2.2.2.1 i _ hxi
  obtain ⟨_, _, _, l5, _⟩ := id hY.1.2.2.1
  have gx := J_get (E := E) (σ := σ) hY.1.2.2.1 hil
  have hw1 := hY.1.1
  have hb := (wr_sb hW hi).2.2.2
  have hbt := bit_1m hb
  -- struck, or not
  have hY1 := WY_putG (r' := tur_ r i) hY hxi (fun j hj => tur_at (by omega)) (by omega)
  rw [tur_at (by omega), tur_at (by omega), tur_at (by omega), tur_at (by omega), tur_at (by omega), tur_s] at hY1
  have hW1 := tur_Wr hW hi
  obtain ⟨σ2, q, N, n1, n2, n3, n4⟩ := net_Y (E := E) hY1 hm hss hW1 h7 h4
  dsimp only at n1 n2 n3
  have n2' := n2
  obtain ⟨⟨lc, hV⟩, hK, hL, hwl2, _⟩ := n2'
  have hgl := hV.2.1
  have x2 : σ2.2.2 ss[i] = _ := hgl _ _ (up_s _ _ _)
  have hY2 : WY_ E h0 σ2 w (tur_ r i) am em as es st mc mc' ms ss := WY_up (σ := (σ.1 + 1, σ.2.1, _)) n3 hgl hV.2.2.1
  have hY3 := WY_putG (r' := r) hY2 hxi (fun j hj => (tur_at (by omega)).symm) (by omega)
  have hxb : ss[i] ≠ σ.1 := by
    have := Hw_lt hY.2.2.1 x1
    omega
  have hL' := LpL_ne3 (c := .inr (3, [.int (r (68 + 6 * i)), .int (r (68 + 6 * i + 1)), .int (r (68 + 6 * i + 2)), .int (r (68 + 6 * i + 3)), .int (r (68 + 6 * i + 4)), .int (r (68 + 6 * i + 5))])) hL x2
  obtain ⟨g3, t1, t2⟩ := hY3.1.2.2.2.1
  have hbc : up_ σ2.2.2 ss[i] (.inr (3, [.int (r (68 + 6 * i)), .int (r (68 + 6 * i + 1)), .int (r (68 + 6 * i + 2)), .int (r (68 + 6 * i + 3)), .int (r (68 + 6 * i + 4)), .int (r (68 + 6 * i + 5))])) σ.1 = some (.inr (6, nf_ σ.1 q w N)) := by
    rw [up_n (fun q => hxb q.symm)]
    exact hV.1.1
  refine ⟨_, σ.1, q, N, ?_, ⟨hbc, hL', ⟨_, _, _, _, _, g3, hY3.1.1, t1, ?_⟩, h12⟩, hY3, ⟨n4.1, by have := n4.2.1; dsimp only at this ⊢; omega, n4.2.2⟩⟩
  · unfold SgC_ at x1
    unfold n0_ at n1
    have hb2 := hV.1.1
    rw [D_run]
    rcases hb with e | e
    · have e1 : nI 1 - nI 0 = nI 1 := by decide
      rw [e, e1] at n1 x2
      rw [e] at x1 ⊢
      simp (disch := omega) only [l353, b353_0, K353_0, b353_1, K353_1, b353_2, K353_2, b353_3, K353_3, b353_4, K353_4, R_cons, go_nx, go_jp, go_rt, go_th, go_ca, go_no, go_ite, rr_v, rr_n, rr_x, hx_n, hx_p, hx_b, I_push, I_pushl, I_fc0, I_fc1, I_dc0, I_null, I_mask, I_iload, I_lload, I_dload, I_fload, I_aload, I_istore, I_lstore, I_dstore, I_fstore, I_astore, I_iinc, I_iadd, I_isub, I_imul, I_iand, I_ior, I_ixor, I_ishl, I_ishr, I_iushr, I_ineg, I_ladd, I_lsub, I_lmul, I_lxor, I_i2l, I_l2i, I_i2b, I_i2c, I_i2f, I_i2d, I_lcmp, I_fdiv, I_ddiv, I_f2d, I_dcmp, I_dup, I_pop, I_dup_x1, I_dup2, I_icne, I_iceq, I_iclt, I_icge, I_icgt, I_icle, I_ifnull, I_ifnonnull, I_ane, I_aeq, I_goto, I_lsw, I_iret, I_lret, I_fret, I_dret, I_vret, I_nret, I_aret, I_iald, I_bald, I_lald, I_aald, I_iast, I_bast, I_last, I_aast, I_alen, I_new, I_val, I_cast, I_inst, I_obj, I_throw, I_mkx, I_getf, I_putf, I_call, I_calli, I_callv, I_clone, I_getc, i_ifeq, i_ifne, i_iflt, i_ifge, i_ifgt, i_ifle, i_idiv, i_irem, i_newa, i_newo, i_abs, i_max, i_min, i_ldiv, en_, es_i, es_r, es_0, es_n, es_l, List.length_cons, List.length_nil, List.cons_append, List.nil_append, Nat.reduceAdd, Nat.reduceSub, List.replicate, lg_, st1_, st2_, cn_, nl_, mk_, pk_, kd_, sl_, la_, ft_a, ft_i, ft_l, ft_o, ft_n, ft_b0, ft_b1, ft_bI, nr_0, nr_1, nr_bI, ro_, no_, if_true, if_false, ite_true, ite_false, reduceIte, Nat.reduceMod, Nat.reduceEqDiff, Nat.zero_add, Nat.add_zero, lk_, lit_, nI_add, nI_mul, ix_nI, fgk_0, fgk_1, fgk_2, fgk_3, fgk_4, fgk_5, fgk_6, fgk_7, fgk_8, fgk_9, fgk_10, fgk_11, fgk_12, fgk_13, fsk_0, fsk_1, fsk_2, fsk_3, fsk_4, fsk_5, fsk_6, fsk_7, fsk_8, fsk_9, fsk_10, fsk_11, fsk_12, fsk_13, ca_i, ca_r, ca_n, Nat.reduceLT, true_or, or_true, if_true, false_or, or_false, and_true, true_and, List.mem_singleton, eq_self, hw1, l5, gx, x1, J_rnn, up_s, n1, x2, n10_, nr_0, nr_1]
    · have e1 : nI 1 - nI 1 = nI 0 := by decide
      rw [e, e1] at n1 x2
      rw [e] at x1 ⊢
      simp (disch := omega) only [l353, b353_0, K353_0, b353_1, K353_1, b353_2, K353_2, b353_3, K353_3, b353_4, K353_4, R_cons, go_nx, go_jp, go_rt, go_th, go_ca, go_no, go_ite, rr_v, rr_n, rr_x, hx_n, hx_p, hx_b, I_push, I_pushl, I_fc0, I_fc1, I_dc0, I_null, I_mask, I_iload, I_lload, I_dload, I_fload, I_aload, I_istore, I_lstore, I_dstore, I_fstore, I_astore, I_iinc, I_iadd, I_isub, I_imul, I_iand, I_ior, I_ixor, I_ishl, I_ishr, I_iushr, I_ineg, I_ladd, I_lsub, I_lmul, I_lxor, I_i2l, I_l2i, I_i2b, I_i2c, I_i2f, I_i2d, I_lcmp, I_fdiv, I_ddiv, I_f2d, I_dcmp, I_dup, I_pop, I_dup_x1, I_dup2, I_icne, I_iceq, I_iclt, I_icge, I_icgt, I_icle, I_ifnull, I_ifnonnull, I_ane, I_aeq, I_goto, I_lsw, I_iret, I_lret, I_fret, I_dret, I_vret, I_nret, I_aret, I_iald, I_bald, I_lald, I_aald, I_iast, I_bast, I_last, I_aast, I_alen, I_new, I_val, I_cast, I_inst, I_obj, I_throw, I_mkx, I_getf, I_putf, I_call, I_calli, I_callv, I_clone, I_getc, i_ifeq, i_ifne, i_iflt, i_ifge, i_ifgt, i_ifle, i_idiv, i_irem, i_newa, i_newo, i_abs, i_max, i_min, i_ldiv, en_, es_i, es_r, es_0, es_n, es_l, List.length_cons, List.length_nil, List.cons_append, List.nil_append, Nat.reduceAdd, Nat.reduceSub, List.replicate, lg_, st1_, st2_, cn_, nl_, mk_, pk_, kd_, sl_, la_, ft_a, ft_i, ft_l, ft_o, ft_n, ft_b0, ft_b1, ft_bI, nr_0, nr_1, nr_bI, ro_, no_, if_true, if_false, ite_true, ite_false, reduceIte, Nat.reduceMod, Nat.reduceEqDiff, Nat.zero_add, Nat.add_zero, lk_, lit_, nI_add, nI_mul, ix_nI, fgk_0, fgk_1, fgk_2, fgk_3, fgk_4, fgk_5, fgk_6, fgk_7, fgk_8, fgk_9, fgk_10, fgk_11, fgk_12, fgk_13, fsk_0, fsk_1, fsk_2, fsk_3, fsk_4, fsk_5, fsk_6, fsk_7, fsk_8, fsk_9, fsk_10, fsk_11, fsk_12, fsk_13, ca_i, ca_r, ca_n, Nat.reduceLT, true_or, or_true, if_true, false_or, or_false, and_true, true_and, List.mem_singleton, eq_self, hw1, l5, gx, x1, J_rnn, up_s, n1, x2, n10_, nr_0, nr_1]
  · rw [t2.2.2.2, tur_at (by omega)]
theorem S_closedIf {x : Int32} (h : Sq_ E σ p w fs r n s ms ss) : ∃ σ' a, D_ E 383 [.ref p, .int x] σ = some (an1_ (inN_ x s) (.int (nI (clq_ (tur_ r x.toNatClampNeg) n s))) a, σ') ∧ Fr_ 6700 σ σ' := by
  have hp := h.1
  have hW := Sq_W h
  have h40 := wr_s40 hW
  obtain ⟨am0, as0, st0, fm0, fa0, g0, z1, z2, _⟩ := Sq_w h
  unfold an1_
  by_cases c : inN_ x s
  · have k0 := S_ckS1 h c
    obtain ⟨i, hi, rfl⟩ := inN_nI c
    obtain ⟨σ1, am, em, as, es, st, mc, mc', ms', ss', c1, c2, c3, c4, c5⟩ := W_copy (E := E) h.2.2.2.2.2.2.1 h.2.1 h.2.2.1 h.2.2.2.1 hW (Sq_hw h)
    obtain ⟨σ2, b, q, N, n1, n2, n3, n4⟩ := S_netIf (E := E) c2 c3 c4 hW hi h.2.2.2.2.2.2.1 h.2.2.2.2.2.2.2.1
    have v1 := Nz_closed n2
    refine ⟨σ2, 0, ?_, ⟨n3.2.1, ?_, ?_, ?_, n3.2.2.1⟩⟩
    · have hb := n2.1
      rw [if_pos c, nI_clamp (by omega), D_run]
      simp (disch := omega) only [l383, b383_0, K383_0, R_cons, go_nx, go_jp, go_rt, go_th, go_ca, go_no, go_ite, rr_v, rr_n, rr_x, hx_n, hx_p, hx_b, I_push, I_pushl, I_fc0, I_fc1, I_dc0, I_null, I_mask, I_iload, I_lload, I_dload, I_fload, I_aload, I_istore, I_lstore, I_dstore, I_fstore, I_astore, I_iinc, I_iadd, I_isub, I_imul, I_iand, I_ior, I_ixor, I_ishl, I_ishr, I_iushr, I_ineg, I_ladd, I_lsub, I_lmul, I_lxor, I_i2l, I_l2i, I_i2b, I_i2c, I_i2f, I_i2d, I_lcmp, I_fdiv, I_ddiv, I_f2d, I_dcmp, I_dup, I_pop, I_dup_x1, I_dup2, I_icne, I_iceq, I_iclt, I_icge, I_icgt, I_icle, I_ifnull, I_ifnonnull, I_ane, I_aeq, I_goto, I_lsw, I_iret, I_lret, I_fret, I_dret, I_vret, I_nret, I_aret, I_iald, I_bald, I_lald, I_aald, I_iast, I_bast, I_last, I_aast, I_alen, I_new, I_val, I_cast, I_inst, I_obj, I_throw, I_mkx, I_getf, I_putf, I_call, I_calli, I_callv, I_clone, I_getc, i_ifeq, i_ifne, i_iflt, i_ifge, i_ifgt, i_ifle, i_idiv, i_irem, i_newa, i_newo, i_abs, i_max, i_min, i_ldiv, en_, es_i, es_r, es_0, es_n, es_l, List.length_cons, List.length_nil, List.cons_append, List.nil_append, Nat.reduceAdd, Nat.reduceSub, List.replicate, lg_, st1_, st2_, cn_, nl_, mk_, pk_, kd_, sl_, la_, ft_a, ft_i, ft_l, ft_o, ft_n, ft_b0, ft_b1, ft_bI, nr_0, nr_1, nr_bI, ro_, no_, if_true, if_false, ite_true, ite_false, reduceIte, Nat.reduceMod, Nat.reduceEqDiff, Nat.zero_add, Nat.add_zero, lk_, lit_, nI_add, nI_mul, ix_nI, fgk_0, fgk_1, fgk_2, fgk_3, fgk_4, fgk_5, fgk_6, fgk_7, fgk_8, fgk_9, fgk_10, fgk_11, fgk_12, fgk_13, fsk_0, fsk_1, fsk_2, fsk_3, fsk_4, fsk_5, fsk_6, fsk_7, fsk_8, fsk_9, fsk_10, fsk_11, fsk_12, fsk_13, ca_i, ca_r, ca_n, Nat.reduceLT, true_or, or_true, if_true, false_or, or_false, and_true, true_and, List.mem_singleton, eq_self, hp, k0, z1, c1, n1, hb, v1]
    · have := c5.1; have := n4.1; omega
    · have := c5.2.1; have := n4.2.1; omega
    · have := c5.2.2; have := n4.2.2; omega
  · refine ⟨thr_ σ 19, σ.1, ?_, Fr_le (Fr_thr (Sq_hw h)) (by decide)⟩
    have k1 := S_ckS0 h c
    rw [if_neg c, D_run]
    simp (disch := omega) only [b383_0, K383_0, l383, R_cons, go_nx, go_jp, go_rt, go_th, go_ca, go_no, go_ite, rr_v, rr_n, rr_x, hx_n, hx_p, hx_b, I_push, I_pushl, I_fc0, I_fc1, I_dc0, I_null, I_mask, I_iload, I_lload, I_dload, I_fload, I_aload, I_istore, I_lstore, I_dstore, I_fstore, I_astore, I_iinc, I_iadd, I_isub, I_imul, I_iand, I_ior, I_ixor, I_ishl, I_ishr, I_iushr, I_ineg, I_ladd, I_lsub, I_lmul, I_lxor, I_i2l, I_l2i, I_i2b, I_i2c, I_i2f, I_i2d, I_lcmp, I_fdiv, I_ddiv, I_f2d, I_dcmp, I_dup, I_pop, I_dup_x1, I_dup2, I_icne, I_iceq, I_iclt, I_icge, I_icgt, I_icle, I_ifnull, I_ifnonnull, I_ane, I_aeq, I_goto, I_lsw, I_iret, I_lret, I_fret, I_dret, I_vret, I_nret, I_aret, I_iald, I_bald, I_lald, I_aald, I_iast, I_bast, I_last, I_aast, I_alen, I_new, I_val, I_cast, I_inst, I_obj, I_throw, I_mkx, I_getf, I_putf, I_call, I_calli, I_callv, I_clone, I_getc, i_ifeq, i_ifne, i_iflt, i_ifge, i_ifgt, i_ifle, i_idiv, i_irem, i_newa, i_newo, i_abs, i_max, i_min, i_ldiv, en_, es_i, es_r, es_0, es_n, es_l, List.length_cons, List.length_nil, List.cons_append, List.nil_append, Nat.reduceAdd, Nat.reduceSub, List.replicate, lg_, st1_, st2_, cn_, nl_, mk_, pk_, kd_, sl_, la_, ft_a, ft_i, ft_l, ft_o, ft_n, ft_b0, ft_b1, ft_bI, nr_0, nr_1, nr_bI, ro_, no_, if_true, if_false, ite_true, ite_false, reduceIte, Nat.reduceMod, Nat.reduceEqDiff, Nat.zero_add, Nat.add_zero, lk_, lit_, nI_add, nI_mul, ix_nI, fgk_0, fgk_1, fgk_2, fgk_3, fgk_4, fgk_5, fgk_6, fgk_7, fgk_8, fgk_9, fgk_10, fgk_11, fgk_12, fgk_13, fsk_0, fsk_1, fsk_2, fsk_3, fsk_4, fsk_5, fsk_6, fsk_7, fsk_8, fsk_9, fsk_10, fsk_11, fsk_12, fsk_13, ca_i, ca_r, ca_n, Nat.reduceLT, true_or, or_true, if_true, false_or, or_false, and_true, true_and, List.mem_singleton, eq_self, hp, k1]
theorem Sq_le {σ' : As_} (h : Sq_ E σ p w fs r n s ms ss) (hl : le_ σ.2.2 σ'.2.2) (hw : Hw_ σ') : Sq_ E σ' p w fs r n s ms ss := by
  obtain ⟨h1, h2, h3, h4, h5, h6, h7, h8, h9⟩ := h
  exact ⟨hl _ _ h1, Wl_mono hl h2, h3, h4, h5, h6, E7_mono hl h7, E45_mono hl h8, hw⟩
theorem bs2_lp {v : Nat} (h : Sq_ E σ p w fs r n s ms ss) {am em as es st : Nat} {mc mc' : Int32} {ms' ss' : List Nat} (c3 : ms'.length = n) (c4 : ss'.length = s) : ∀ (d k : Nat) (x : Option Nat × Int32) (u5 u6 : Option Value) (σ1 : As_), k + d = s → (∀ j, x.1 = some j → j < 144) → WY_ E σ.2.2 σ1 v r am em as es st mc mc' ms' ss' →
    ∃ σ', R_ E 352 (B_ E 352 1) [some (.ref p), some (.ref v), some (.int (oI_ x.1)), some (.int x.2), some (.int (nI k)), u5, u6] [] σ1 = some (.inl (some (.int (oI_ (fo_ (bst1_ r n s) d k x).1))), σ') ∧ WY_ E σ.2.2 σ' v r am em as es st mc mc' ms' ss' ∧ Sz_ (4700 * d) σ1 σ' := by
  have hW := Sq_W h
  have h40 := wr_s40 hW
  intro d
  induction d with
  | zero =>
    intro k x u5 u6 σ1 hk hx hY
    have h1 := Sq_le h hY.2.1 hY.2.2.1
    have hp := h1.1
    obtain ⟨am0, as0, st0, fm0, fa0, g0, z1, z2, z3, z4, z5, _⟩ := Sq_w h1
    have c1 : nI s ≤ nI k := (nI_leI (by omega) (by omega)).2 (by omega)
    refine ⟨σ1, ?_, hY, Sz_rfl⟩
    rw [b352_1]
    simp (disch := omega) only [K352_1, b352_5, K352_5, R_cons, go_nx, go_jp, go_rt, go_th, go_ca, go_no, go_ite, rr_v, rr_n, rr_x, hx_n, hx_p, hx_b, I_push, I_pushl, I_fc0, I_fc1, I_dc0, I_null, I_mask, I_iload, I_lload, I_dload, I_fload, I_aload, I_istore, I_lstore, I_dstore, I_fstore, I_astore, I_iinc, I_iadd, I_isub, I_imul, I_iand, I_ior, I_ixor, I_ishl, I_ishr, I_iushr, I_ineg, I_ladd, I_lsub, I_lmul, I_lxor, I_i2l, I_l2i, I_i2b, I_i2c, I_i2f, I_i2d, I_lcmp, I_fdiv, I_ddiv, I_f2d, I_dcmp, I_dup, I_pop, I_dup_x1, I_dup2, I_icne, I_iceq, I_iclt, I_icge, I_icgt, I_icle, I_ifnull, I_ifnonnull, I_ane, I_aeq, I_goto, I_lsw, I_iret, I_lret, I_fret, I_dret, I_vret, I_nret, I_aret, I_iald, I_bald, I_lald, I_aald, I_iast, I_bast, I_last, I_aast, I_alen, I_new, I_val, I_cast, I_inst, I_obj, I_throw, I_mkx, I_getf, I_putf, I_call, I_calli, I_callv, I_clone, I_getc, i_ifeq, i_ifne, i_iflt, i_ifge, i_ifgt, i_ifle, i_idiv, i_irem, i_newa, i_newo, i_abs, i_max, i_min, i_ldiv, en_, es_i, es_r, es_0, es_n, es_l, List.length_cons, List.length_nil, List.cons_append, List.nil_append, Nat.reduceAdd, Nat.reduceSub, List.replicate, lg_, st1_, st2_, cn_, nl_, mk_, pk_, kd_, sl_, la_, ft_a, ft_i, ft_l, ft_o, ft_n, ft_b0, ft_b1, ft_bI, nr_0, nr_1, nr_bI, ro_, no_, if_true, if_false, ite_true, ite_false, reduceIte, Nat.reduceMod, Nat.reduceEqDiff, Nat.zero_add, Nat.add_zero, lk_, lit_, nI_add, nI_mul, ix_nI, fgk_0, fgk_1, fgk_2, fgk_3, fgk_4, fgk_5, fgk_6, fgk_7, fgk_8, fgk_9, fgk_10, fgk_11, fgk_12, fgk_13, fsk_0, fsk_1, fsk_2, fsk_3, fsk_4, fsk_5, fsk_6, fsk_7, fsk_8, fsk_9, fsk_10, fsk_11, fsk_12, fsk_13, ca_i, ca_r, ca_n, Nat.reduceLT, true_or, or_true, if_true, false_or, or_false, and_true, true_and, List.mem_singleton, eq_self, hp, z1, z3, z5, c1]
    rfl
  | succ d ih =>
    intro k x u5 u6 σ1 hk hx hY
    have h1 := Sq_le h hY.2.1 hY.2.2.1
    have hp := h1.1
    have hks : k < s := by omega
    obtain ⟨am0, as0, st0, fm0, fa0, g0, z1, z2, z3, z4, z5, z6, _, _, _, _, zm, zs⟩ := Sq_w h1
    have c1 : ¬ nI s ≤ nI k := fun q => absurd ((nI_leI (by omega) (by omega)).1 q) (by omega)
    obtain ⟨y, y1, y2⟩ := zs k hks
    unfold SgC_ at y2
    rw [fo_]
    by_cases e0 : r (68 + 6 * k + 5) = nI 0
    · obtain ⟨σ2, b, q, N, n1, n2, n3, n4⟩ := S_netIf (E := E) hY c3 c4 hW hks h.2.2.2.2.2.2.1 h.2.2.2.2.2.2.2.1
      have v1 := Nz_closed n2
      obtain ⟨⟨fl, v2⟩, v3⟩ := Nz_size (E := E) n2
      have hb := n2.1
      have eo : nI (lps_ (tur_ r k) n s).length - nI (clq_ (tur_ r k) n s) = opn_ (tur_ r k) n s := rfl
      have hstep : ∀ x', bst1_ r n s k x = x' → (∀ j, x'.1 = some j → j < 144) → R_ E 352 (B_ E 352 1) [some (.ref p), some (.ref v), some (.int (oI_ x.1)), some (.int x.2), some (.int (nI k)), u5, u6] [] σ1 = R_ E 352 (B_ E 352 1) [some (.ref p), some (.ref v), some (.int (oI_ x'.1)), some (.int x'.2), some (.int (nI (k + 1))), none, none] [] σ2 → ∃ σ', R_ E 352 (B_ E 352 1) [some (.ref p), some (.ref v), some (.int (oI_ x.1)), some (.int x.2), some (.int (nI k)), u5, u6] [] σ1 = some (.inl (some (.int (oI_ (fo_ (bst1_ r n s) d (k + 1) (bst1_ r n s k x)).1))), σ') ∧ WY_ E σ.2.2 σ' v r am em as es st mc mc' ms' ss' ∧ Sz_ (4700 * (d + 1)) σ1 σ' := fun x' hx' hj hR => by
        obtain ⟨σ3, i1, i2, i3⟩ := ih (k + 1) x' none none σ2 (by omega) hj n3
        refine ⟨σ3, by rw [hR, hx', i1], i2, ?_⟩
        unfold Sz_ at n4 i3 ⊢
        omega
      obtain ⟨x1, x2⟩ := x
      cases x1 with
      | none =>
        refine hstep (some k, opn_ (tur_ r k) n s) (by unfold bst1_; rw [if_pos e0]) (fun j hj => by cases hj; omega) ?_
        conv => lhs; rw [b352_1]
        simp (disch := omega) only [K352_1, b352_2, K352_2, b352_3, K352_3, b352_4, K352_4, R_cons, go_nx, go_jp, go_rt, go_th, go_ca, go_no, go_ite, rr_v, rr_n, rr_x, hx_n, hx_p, hx_b, I_push, I_pushl, I_fc0, I_fc1, I_dc0, I_null, I_mask, I_iload, I_lload, I_dload, I_fload, I_aload, I_istore, I_lstore, I_dstore, I_fstore, I_astore, I_iinc, I_iadd, I_isub, I_imul, I_iand, I_ior, I_ixor, I_ishl, I_ishr, I_iushr, I_ineg, I_ladd, I_lsub, I_lmul, I_lxor, I_i2l, I_l2i, I_i2b, I_i2c, I_i2f, I_i2d, I_lcmp, I_fdiv, I_ddiv, I_f2d, I_dcmp, I_dup, I_pop, I_dup_x1, I_dup2, I_icne, I_iceq, I_iclt, I_icge, I_icgt, I_icle, I_ifnull, I_ifnonnull, I_ane, I_aeq, I_goto, I_lsw, I_iret, I_lret, I_fret, I_dret, I_vret, I_nret, I_aret, I_iald, I_bald, I_lald, I_aald, I_iast, I_bast, I_last, I_aast, I_alen, I_new, I_val, I_cast, I_inst, I_obj, I_throw, I_mkx, I_getf, I_putf, I_call, I_calli, I_callv, I_clone, I_getc, i_ifeq, i_ifne, i_iflt, i_ifge, i_ifgt, i_ifle, i_idiv, i_irem, i_newa, i_newo, i_abs, i_max, i_min, i_ldiv, en_, es_i, es_r, es_0, es_n, es_l, List.length_cons, List.length_nil, List.cons_append, List.nil_append, Nat.reduceAdd, Nat.reduceSub, List.replicate, lg_, st1_, st2_, cn_, nl_, mk_, pk_, kd_, sl_, la_, ft_a, ft_i, ft_l, ft_o, ft_n, ft_b0, ft_b1, ft_bI, nr_0, nr_1, nr_bI, ro_, no_, if_true, if_false, ite_true, ite_false, reduceIte, Nat.reduceMod, Nat.reduceEqDiff, Nat.zero_add, Nat.add_zero, lk_, lit_, nI_add, nI_mul, ix_nI, fgk_0, fgk_1, fgk_2, fgk_3, fgk_4, fgk_5, fgk_6, fgk_7, fgk_8, fgk_9, fgk_10, fgk_11, fgk_12, fgk_13, fsk_0, fsk_1, fsk_2, fsk_3, fsk_4, fsk_5, fsk_6, fsk_7, fsk_8, fsk_9, fsk_10, fsk_11, fsk_12, fsk_13, ca_i, ca_r, ca_n, Nat.reduceLT, true_or, or_true, if_true, false_or, or_false, and_true, true_and, List.mem_singleton, eq_self, hp, z1, z3, z5, c1, y1, y2, e0, n1, hb, fg_nf6, v2, v3, v1, eo, oI_, nI_1]
      | some j =>
        have hj := hx j rfl
        have q6 : ¬ nI j = -nI 1 := nI_nm1 (by omega)
        by_cases cl : opn_ (tur_ r k) n s < x2
        · refine hstep (some k, opn_ (tur_ r k) n s) (by unfold bst1_; rw [if_pos e0]; exact if_pos cl) (fun j hj => by cases hj; omega) ?_
          conv => lhs; rw [b352_1]
          simp (disch := omega) only [K352_1, b352_2, K352_2, b352_3, K352_3, b352_4, K352_4, R_cons, go_nx, go_jp, go_rt, go_th, go_ca, go_no, go_ite, rr_v, rr_n, rr_x, hx_n, hx_p, hx_b, I_push, I_pushl, I_fc0, I_fc1, I_dc0, I_null, I_mask, I_iload, I_lload, I_dload, I_fload, I_aload, I_istore, I_lstore, I_dstore, I_fstore, I_astore, I_iinc, I_iadd, I_isub, I_imul, I_iand, I_ior, I_ixor, I_ishl, I_ishr, I_iushr, I_ineg, I_ladd, I_lsub, I_lmul, I_lxor, I_i2l, I_l2i, I_i2b, I_i2c, I_i2f, I_i2d, I_lcmp, I_fdiv, I_ddiv, I_f2d, I_dcmp, I_dup, I_pop, I_dup_x1, I_dup2, I_icne, I_iceq, I_iclt, I_icge, I_icgt, I_icle, I_ifnull, I_ifnonnull, I_ane, I_aeq, I_goto, I_lsw, I_iret, I_lret, I_fret, I_dret, I_vret, I_nret, I_aret, I_iald, I_bald, I_lald, I_aald, I_iast, I_bast, I_last, I_aast, I_alen, I_new, I_val, I_cast, I_inst, I_obj, I_throw, I_mkx, I_getf, I_putf, I_call, I_calli, I_callv, I_clone, I_getc, i_ifeq, i_ifne, i_iflt, i_ifge, i_ifgt, i_ifle, i_idiv, i_irem, i_newa, i_newo, i_abs, i_max, i_min, i_ldiv, en_, es_i, es_r, es_0, es_n, es_l, List.length_cons, List.length_nil, List.cons_append, List.nil_append, Nat.reduceAdd, Nat.reduceSub, List.replicate, lg_, st1_, st2_, cn_, nl_, mk_, pk_, kd_, sl_, la_, ft_a, ft_i, ft_l, ft_o, ft_n, ft_b0, ft_b1, ft_bI, nr_0, nr_1, nr_bI, ro_, no_, if_true, if_false, ite_true, ite_false, reduceIte, Nat.reduceMod, Nat.reduceEqDiff, Nat.zero_add, Nat.add_zero, lk_, lit_, nI_add, nI_mul, ix_nI, fgk_0, fgk_1, fgk_2, fgk_3, fgk_4, fgk_5, fgk_6, fgk_7, fgk_8, fgk_9, fgk_10, fgk_11, fgk_12, fgk_13, fsk_0, fsk_1, fsk_2, fsk_3, fsk_4, fsk_5, fsk_6, fsk_7, fsk_8, fsk_9, fsk_10, fsk_11, fsk_12, fsk_13, ca_i, ca_r, ca_n, Nat.reduceLT, true_or, or_true, if_true, false_or, or_false, and_true, true_and, List.mem_singleton, eq_self, hp, z1, z3, z5, c1, y1, y2, e0, n1, hb, fg_nf6, v2, v3, v1, eo, oI_, q6, cl, nI_1]
        · refine hstep (some j, x2) (by unfold bst1_; rw [if_pos e0]; exact if_neg cl) hx ?_
          conv => lhs; rw [b352_1]
          simp (disch := omega) only [K352_1, b352_2, K352_2, b352_4, K352_4, R_cons, go_nx, go_jp, go_rt, go_th, go_ca, go_no, go_ite, rr_v, rr_n, rr_x, hx_n, hx_p, hx_b, I_push, I_pushl, I_fc0, I_fc1, I_dc0, I_null, I_mask, I_iload, I_lload, I_dload, I_fload, I_aload, I_istore, I_lstore, I_dstore, I_fstore, I_astore, I_iinc, I_iadd, I_isub, I_imul, I_iand, I_ior, I_ixor, I_ishl, I_ishr, I_iushr, I_ineg, I_ladd, I_lsub, I_lmul, I_lxor, I_i2l, I_l2i, I_i2b, I_i2c, I_i2f, I_i2d, I_lcmp, I_fdiv, I_ddiv, I_f2d, I_dcmp, I_dup, I_pop, I_dup_x1, I_dup2, I_icne, I_iceq, I_iclt, I_icge, I_icgt, I_icle, I_ifnull, I_ifnonnull, I_ane, I_aeq, I_goto, I_lsw, I_iret, I_lret, I_fret, I_dret, I_vret, I_nret, I_aret, I_iald, I_bald, I_lald, I_aald, I_iast, I_bast, I_last, I_aast, I_alen, I_new, I_val, I_cast, I_inst, I_obj, I_throw, I_mkx, I_getf, I_putf, I_call, I_calli, I_callv, I_clone, I_getc, i_ifeq, i_ifne, i_iflt, i_ifge, i_ifgt, i_ifle, i_idiv, i_irem, i_newa, i_newo, i_abs, i_max, i_min, i_ldiv, en_, es_i, es_r, es_0, es_n, es_l, List.length_cons, List.length_nil, List.cons_append, List.nil_append, Nat.reduceAdd, Nat.reduceSub, List.replicate, lg_, st1_, st2_, cn_, nl_, mk_, pk_, kd_, sl_, la_, ft_a, ft_i, ft_l, ft_o, ft_n, ft_b0, ft_b1, ft_bI, nr_0, nr_1, nr_bI, ro_, no_, if_true, if_false, ite_true, ite_false, reduceIte, Nat.reduceMod, Nat.reduceEqDiff, Nat.zero_add, Nat.add_zero, lk_, lit_, nI_add, nI_mul, ix_nI, fgk_0, fgk_1, fgk_2, fgk_3, fgk_4, fgk_5, fgk_6, fgk_7, fgk_8, fgk_9, fgk_10, fgk_11, fgk_12, fgk_13, fsk_0, fsk_1, fsk_2, fsk_3, fsk_4, fsk_5, fsk_6, fsk_7, fsk_8, fsk_9, fsk_10, fsk_11, fsk_12, fsk_13, ca_i, ca_r, ca_n, Nat.reduceLT, true_or, or_true, if_true, false_or, or_false, and_true, true_and, List.mem_singleton, eq_self, hp, z1, z3, z5, c1, y1, y2, e0, n1, hb, fg_nf6, v2, v3, v1, eo, oI_, q6, cl, nI_1]
    · have e1 : bst1_ r n s k x = x := if_neg e0
      obtain ⟨σ3, i1, i2, i3⟩ := ih (k + 1) x none none σ1 (by omega) hx hY
      rw [e1]
      refine ⟨σ3, ?_, i2, Sz_le i3 (by omega)⟩
      rw [← i1]
      conv => lhs; rw [b352_1]
      simp (disch := omega) only [K352_1, b352_4, K352_4, R_cons, go_nx, go_jp, go_rt, go_th, go_ca, go_no, go_ite, rr_v, rr_n, rr_x, hx_n, hx_p, hx_b, I_push, I_pushl, I_fc0, I_fc1, I_dc0, I_null, I_mask, I_iload, I_lload, I_dload, I_fload, I_aload, I_istore, I_lstore, I_dstore, I_fstore, I_astore, I_iinc, I_iadd, I_isub, I_imul, I_iand, I_ior, I_ixor, I_ishl, I_ishr, I_iushr, I_ineg, I_ladd, I_lsub, I_lmul, I_lxor, I_i2l, I_l2i, I_i2b, I_i2c, I_i2f, I_i2d, I_lcmp, I_fdiv, I_ddiv, I_f2d, I_dcmp, I_dup, I_pop, I_dup_x1, I_dup2, I_icne, I_iceq, I_iclt, I_icge, I_icgt, I_icle, I_ifnull, I_ifnonnull, I_ane, I_aeq, I_goto, I_lsw, I_iret, I_lret, I_fret, I_dret, I_vret, I_nret, I_aret, I_iald, I_bald, I_lald, I_aald, I_iast, I_bast, I_last, I_aast, I_alen, I_new, I_val, I_cast, I_inst, I_obj, I_throw, I_mkx, I_getf, I_putf, I_call, I_calli, I_callv, I_clone, I_getc, i_ifeq, i_ifne, i_iflt, i_ifge, i_ifgt, i_ifle, i_idiv, i_irem, i_newa, i_newo, i_abs, i_max, i_min, i_ldiv, en_, es_i, es_r, es_0, es_n, es_l, List.length_cons, List.length_nil, List.cons_append, List.nil_append, Nat.reduceAdd, Nat.reduceSub, List.replicate, lg_, st1_, st2_, cn_, nl_, mk_, pk_, kd_, sl_, la_, ft_a, ft_i, ft_l, ft_o, ft_n, ft_b0, ft_b1, ft_bI, nr_0, nr_1, nr_bI, ro_, no_, if_true, if_false, ite_true, ite_false, reduceIte, Nat.reduceMod, Nat.reduceEqDiff, Nat.zero_add, Nat.add_zero, lk_, lit_, nI_add, nI_mul, ix_nI, fgk_0, fgk_1, fgk_2, fgk_3, fgk_4, fgk_5, fgk_6, fgk_7, fgk_8, fgk_9, fgk_10, fgk_11, fgk_12, fgk_13, fsk_0, fsk_1, fsk_2, fsk_3, fsk_4, fsk_5, fsk_6, fsk_7, fsk_8, fsk_9, fsk_10, fsk_11, fsk_12, fsk_13, ca_i, ca_r, ca_n, Nat.reduceLT, true_or, or_true, if_true, false_or, or_false, and_true, true_and, List.mem_singleton, eq_self, hp, z1, z3, z5, c1, y1, y2, e0, nI_1]
theorem S_bestStrike (h : Sq_ E σ p w fs r n s ms ss) : ∃ σ', D_ E 352 [.ref p] σ = some (.inl (some (.int (bsq_ r n s))), σ') ∧ Fr_ 189000 σ σ' := by
  have hp := h.1
  have hW := Sq_W h
  have h40 := wr_s40 hW
  obtain ⟨am0, as0, st0, fm0, fa0, g0, z1, z2, _⟩ := Sq_w h
  obtain ⟨σ1, am, em, as, es, st, mc, mc', ms', ss', c1, c2, c3, c4, c5⟩ := W_copy (E := E) h.2.2.2.2.2.2.1 h.2.1 h.2.2.1 h.2.2.2.1 hW (Sq_hw h)
  obtain ⟨σ2, n1, n2, n3⟩ := bs2_lp (E := E) h c3 c4 s 0 (none, nI 0) none none σ1 (by omega) (fun j hj => by cases hj) c2
  refine ⟨σ2, ?_, ⟨n2.2.1, ?_, ?_, ?_, n2.2.2.1⟩⟩
  · unfold bsq_
    rw [← n1, D_run]
    simp (disch := omega) only [b352_0, K352_0, l352, R_cons, go_nx, go_jp, go_rt, go_th, go_ca, go_no, go_ite, rr_v, rr_n, rr_x, hx_n, hx_p, hx_b, I_push, I_pushl, I_fc0, I_fc1, I_dc0, I_null, I_mask, I_iload, I_lload, I_dload, I_fload, I_aload, I_istore, I_lstore, I_dstore, I_fstore, I_astore, I_iinc, I_iadd, I_isub, I_imul, I_iand, I_ior, I_ixor, I_ishl, I_ishr, I_iushr, I_ineg, I_ladd, I_lsub, I_lmul, I_lxor, I_i2l, I_l2i, I_i2b, I_i2c, I_i2f, I_i2d, I_lcmp, I_fdiv, I_ddiv, I_f2d, I_dcmp, I_dup, I_pop, I_dup_x1, I_dup2, I_icne, I_iceq, I_iclt, I_icge, I_icgt, I_icle, I_ifnull, I_ifnonnull, I_ane, I_aeq, I_goto, I_lsw, I_iret, I_lret, I_fret, I_dret, I_vret, I_nret, I_aret, I_iald, I_bald, I_lald, I_aald, I_iast, I_bast, I_last, I_aast, I_alen, I_new, I_val, I_cast, I_inst, I_obj, I_throw, I_mkx, I_getf, I_putf, I_call, I_calli, I_callv, I_clone, I_getc, i_ifeq, i_ifne, i_iflt, i_ifge, i_ifgt, i_ifle, i_idiv, i_irem, i_newa, i_newo, i_abs, i_max, i_min, i_ldiv, en_, es_i, es_r, es_0, es_n, es_l, List.length_cons, List.length_nil, List.cons_append, List.nil_append, Nat.reduceAdd, Nat.reduceSub, List.replicate, lg_, st1_, st2_, cn_, nl_, mk_, pk_, kd_, sl_, la_, ft_a, ft_i, ft_l, ft_o, ft_n, ft_b0, ft_b1, ft_bI, nr_0, nr_1, nr_bI, ro_, no_, if_true, if_false, ite_true, ite_false, reduceIte, Nat.reduceMod, Nat.reduceEqDiff, Nat.zero_add, Nat.add_zero, lk_, lit_, nI_add, nI_mul, ix_nI, fgk_0, fgk_1, fgk_2, fgk_3, fgk_4, fgk_5, fgk_6, fgk_7, fgk_8, fgk_9, fgk_10, fgk_11, fgk_12, fgk_13, fsk_0, fsk_1, fsk_2, fsk_3, fsk_4, fsk_5, fsk_6, fsk_7, fsk_8, fsk_9, fsk_10, fsk_11, fsk_12, fsk_13, ca_i, ca_r, ca_n, Nat.reduceLT, true_or, or_true, if_true, false_or, or_false, and_true, true_and, List.mem_singleton, eq_self, hp, z1, c1, oI_]
  · have := c5.1; have := n3.1; omega
  · have := c5.2.1; have := n3.2.1; omega
  · have := c5.2.2; have := n3.2.2; omega
end CQB
