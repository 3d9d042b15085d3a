/-! THE NET in use -/
def Nx_ (E : En_) (h0 : Nat → Option Ac_) (σ : As_) (b bb q w : Nat) (N : Nat → Nat → Int32) (r : Nat → Int32) (n s : Nat) (ms ss : List Nat) : Prop :=
  (∃ lc, NV_ h0 σ b bb q w lc N) ∧ NtK_ N r n s ∧ LpL_ E σ.2.2 (q + 2) (bb + 7) r n s (lps_ r n s).length ∧ Wl_ E σ.2.2 w r ms ss ∧ ms.length = n ∧ ss.length = s ∧ Wr_ r n s ∧ E45_ E h0
section CNQ
variable {E : En_} {σ : As_} {w n s b bb q : Nat} {r : Nat → Int32} {ms ss : List Nat} {h0 : Nat → Option Ac_} {N : Nat → Nat → Int32}
theorem Nx_fr {σ' : As_} {c : Nat} (h : Nx_ E h0 σ b bb q w N r n s ms ss) (hf : Fr_ c σ σ') : Nx_ E h0 σ' b bb q w N r n s ms ss := by
  obtain ⟨⟨lc, h1⟩, h2, h3, h4, h5⟩ := h
  exact ⟨⟨lc, NV_fr h1 hf⟩, h2, LpL_mono h3 hf.1, Wl_mono hf.1 h4, h5⟩
/-- a step of the edges' iterator -/
theorem Nx_step {it k : Nat} (h : Nx_ E h0 σ b bb q w N r n s ms ss) (hw0 : Wl_ E h0 w r ms ss) (hI : NI_ σ.2.2 it k b) (hit : q + 2 < it) (hk : k < 144) : ∃ σ1 x fs cx, σ.2.2 it = some (.inr (7, fs)) ∧ D_ E 266 [.ref it] σ = some (.inl (some (.int (nI 1))), σ) ∧ D_ E 267 [.ref it] σ = some (.inl (some (.ref x)), σ1) ∧ σ1.2.2 x = some (.inr (cx, [.int (nI k)])) ∧ cx % 100 = 17 ∧ D_ E 43 [.ref x] σ1 = some (.inl (some (.int (nI k))), σ1) ∧ Nx_ E h0 σ1 b bb q w N r n s ms ss ∧ NI_ σ1.2.2 it (nxk_ (N 0) (144 - (k + 1)) (k + 1)) b ∧ Sz_ 5 σ σ1 := by
  obtain ⟨⟨lc, h1⟩, h2, h3, h4, h5, h6, h7, h8⟩ := h
  have hbq := h1.2.2.2.2
  have hH := I_hasNextN (E := E) h1 hI (by omega)
  rw [bI_t hk] at hH
  obtain ⟨σ1, x, g1, g2, g3, g4, g5⟩ := I_nextN (E := E) h8 h1 hI hk (by omega) (Or.inr hit)
  have hv := J_intValue (E := E) g4
  obtain ⟨cx, x1, x2⟩ := g4
  refine ⟨σ1, x, _, cx, hI, hH, g1, x1, x2, hv, ⟨⟨lc, g2⟩, h2, LpL_mono (LpL_up h3 hI (by omega)) g5.1, Wl_mono g2.2.1 hw0, h5, h6, h7, h8⟩, g3, ?_⟩
  obtain ⟨s1, s2, s3⟩ := Fr_Sz g5
  exact ⟨s1, s2, s3⟩
theorem Nx_stop {it : Nat} (h : Nx_ E h0 σ b bb q w N r n s ms ss) (hI : NI_ σ.2.2 it 144 b) : ∃ fs, σ.2.2 it = some (.inr (7, fs)) ∧ D_ E 266 [.ref it] σ = some (.inl (some (.int (nI 0))), σ) := by
  obtain ⟨⟨lc, h1⟩, _⟩ := h
  have hH := I_hasNextN (E := E) h1 hI (by omega)
  rw [bI_f (by omega)] at hH
  exact ⟨_, hI, hH⟩
/-- edges that are none are passed over -/
theorem Nx_flt {P : Nat → Bool} (h : NtK_ N r n s) (hW : Wr_ r n s) (hP : ∀ j, ct_ r s j = 0 → P j = false) (d k : Nat) (hk : k + d = 144) : (List.range' k d).filter P = (List.range' (nxk_ (N 0) d k) (144 - nxk_ (N 0) d k)).filter P := by
  have hfl := nxk_flt (c := N 0) (P := P) d k (fun j hj hj0 => by
    have h40 := ct_40 hW j
    rw [h.2.1.1 j (by omega), nI_eq (by omega) (by decide)] at hj0
    exact hP j hj0)
  have e8 : d + k - nxk_ (N 0) d k = 144 - nxk_ (N 0) d k := by omega
  rw [e8] at hfl
  exact hfl
theorem Nx_nz {k : Nat} (h : NtK_ N r n s) (hk : k < 144) (hz : ¬ N 0 k = nI 0) : ¬ ct_ r s k = 0 := fun q => hz (by rw [h.2.1.1 k hk, q])
def edP_ (r : Nat → Int32) (s k : Nat) : Bool := decide (¬ ct_ r s k = 0)
/-- edges are counted -/
theorem ed_lp {it : Nat} (hw0 : Wl_ E h0 w r ms ss) (hit : q + 2 < it) : ∀ (m k c : Nat) (σ : As_) (u : Option Value), 144 - k ≤ m → k ≤ 144 → (k < 144 → ¬ N 0 k = nI 0) → Nx_ E h0 σ b bb q w N r n s ms ss → NI_ σ.2.2 it k b →
    ∃ σ', R_ E 298 (B_ E 298 1) [some (.ref b), some (.int (nI c)), some (.ref it), u] [] σ = some (.inl (some (.int (nI (c + ((List.range' k (144 - k)).filter (edP_ r s)).length)))), σ') ∧ Nx_ E h0 σ' b bb q w N r n s ms ss ∧ Sz_ (5 * m) σ σ' := by
  have hz0 : ∀ (m c : Nat) (σ : As_) (u : Option Value), Nx_ E h0 σ b bb q w N r n s ms ss → NI_ σ.2.2 it 144 b → ∃ σ', R_ E 298 (B_ E 298 1) [some (.ref b), some (.int (nI c)), some (.ref it), u] [] σ = some (.inl (some (.int (nI (c + ((List.range' 144 (144 - 144)).filter (edP_ r s)).length)))), σ') ∧ Nx_ E h0 σ' b bb q w N r n s ms ss ∧ Sz_ (5 * m) σ σ' := by
    intro m c σ u h hI
    obtain ⟨fs, i1, i2⟩ := Nx_stop (E := E) h hI
    refine ⟨σ, ?_, h, Sz_le Sz_rfl (by omega)⟩
    rw [b298_1]
    simp (disch := omega) only [K298_1, b298_4, K298_4, R_cons, go_nx, go_jp, go_rt, go_th, go_ca, go_no, go_ite, rr_v, rr_n, rr_x, hx_n, hx_p, hx_b, I_push, I_pushl, I_fc0, I_fc1, I_dc0, I_null, I_mask, I_iload, I_lload, I_dload, I_fload, I_aload, I_istore, I_lstore, I_dstore, I_fstore, I_astore, I_iinc, I_iadd, I_isub, I_imul, I_iand, I_ior, I_ixor, I_ishl, I_ishr, I_iushr, I_ineg, I_ladd, I_lsub, I_lmul, I_lxor, I_i2l, I_l2i, I_i2b, I_i2c, I_i2f, I_i2d, I_lcmp, I_fdiv, I_ddiv, I_f2d, I_dcmp, I_dup, I_pop, I_dup_x1, I_dup2, I_icne, I_iceq, I_iclt, I_icge, I_icgt, I_icle, I_ifnull, I_ifnonnull, I_ane, I_aeq, I_goto, I_lsw, I_iret, I_lret, I_fret, I_dret, I_vret, I_nret, I_aret, I_iald, I_bald, I_lald, I_aald, I_iast, I_bast, I_last, I_aast, I_alen, I_new, I_val, I_cast, I_inst, I_obj, I_throw, I_mkx, I_getf, I_putf, I_call, I_calli, I_callv, I_clone, I_getc, i_ifeq, i_ifne, i_iflt, i_ifge, i_ifgt, i_ifle, i_idiv, i_irem, i_newa, i_newo, i_abs, i_max, i_min, i_ldiv, en_, es_i, es_r, es_0, es_n, es_l, List.length_cons, List.length_nil, List.cons_append, List.nil_append, Nat.reduceAdd, Nat.reduceSub, List.replicate, lg_, st1_, st2_, cn_, nl_, mk_, pk_, kd_, sl_, la_, ft_a, ft_i, ft_l, ft_o, ft_n, ft_b0, ft_b1, ft_bI, nr_0, nr_1, nr_bI, ro_, no_, if_true, if_false, ite_true, ite_false, reduceIte, Nat.reduceMod, Nat.reduceEqDiff, Nat.zero_add, Nat.add_zero, lk_, lit_, nI_add, nI_mul, ix_nI, fgk_0, fgk_1, fgk_2, fgk_3, fgk_4, fgk_5, fgk_6, fgk_7, fgk_8, fgk_9, fgk_10, fgk_11, fgk_12, fgk_13, fsk_0, fsk_1, fsk_2, fsk_3, fsk_4, fsk_5, fsk_6, fsk_7, fsk_8, fsk_9, fsk_10, fsk_11, fsk_12, fsk_13, ca_i, ca_r, ca_n, Nat.reduceLT, true_or, or_true, if_true, false_or, or_false, and_true, true_and, List.mem_singleton, eq_self, i1, i2]
    rfl
  intro m
  induction m with
  | zero =>
    intro k c σ u hm hk hz h hI
    obtain rfl : k = 144 := by omega
    exact hz0 _ c σ u h hI
  | succ m ih =>
    intro k c σ u hm hk hz h hI
    by_cases c1 : k < 144
    · obtain ⟨σ1, x, fs, cx, i1, i2, i3, i4, i5, i6, i7, i8, i9⟩ := Nx_step (E := E) h hw0 hI hit c1
      have hW := h.2.2.2.2.2.2.1
      have hK := h.2.1
      have hnk := nxk_le (c := N 0) (144 - (k + 1)) (k + 1)
      have hcz := Nx_nz hK c1 (hz c1)
      have h40 := ct_40 hW k
      obtain ⟨σ', m1, m2, m3⟩ := ih (nxk_ (N 0) (144 - (k + 1)) (k + 1)) (c + 1) σ1 none (by omega) (by omega) (fun q => nxk_nz (c := N 0) _ _ (by omega)) i7 i8
      have hed : (List.range' k (144 - k)) = k :: List.range' (k + 1) (144 - (k + 1)) := by
        have : 144 - k = (144 - (k + 1)) + 1 := by omega
        rw [this, List.range'_succ]
      have hfl := Nx_flt (P := edP_ r s) hK hW (fun j hj => decide_eq_false (fun q => q hj)) (144 - (k + 1)) (k + 1) (by omega)
      rw [hed, List.filter_cons_of_pos (show edP_ r s k = true from decide_eq_true hcz), hfl, List.length_cons]
      refine ⟨σ', ?_, m2, Sz_le (Sz_trans i9 m3) (by omega)⟩
      have ea : c + (((List.range' (nxk_ (N 0) (144 - (k + 1)) (k + 1)) (144 - nxk_ (N 0) (144 - (k + 1)) (k + 1))).filter (edP_ r s)).length + 1) = c + 1 + ((List.range' (nxk_ (N 0) (144 - (k + 1)) (k + 1)) (144 - nxk_ (N 0) (144 - (k + 1)) (k + 1))).filter (edP_ r s)).length := by omega
      rw [ea, ← m1]
      obtain ⟨⟨lc, ⟨c0, x1, _⟩, _⟩, _⟩ := i7
      have hN0 := hK.2.1.1 k c1
      have hle : ¬ nI (ct_ r s k) ≤ nI 0 := by rw [nI_leI (by omega) (by decide)]; omega
      have hb := S_bit (E := E) (σ := σ1) (x := nI 1) (Or.inr rfl)
      conv => lhs; rw [b298_1]
      simp (disch := first | assumption | omega) only [K298_1, b298_3, K298_3, R_cons, go_nx, go_jp, go_rt, go_th, go_ca, go_no, go_ite, rr_v, rr_n, rr_x, hx_n, hx_p, hx_b, I_push, I_pushl, I_fc0, I_fc1, I_dc0, I_null, I_mask, I_iload, I_lload, I_dload, I_fload, I_aload, I_istore, I_lstore, I_dstore, I_fstore, I_astore, I_iinc, I_iadd, I_isub, I_imul, I_iand, I_ior, I_ixor, I_ishl, I_ishr, I_iushr, I_ineg, I_ladd, I_lsub, I_lmul, I_lxor, I_i2l, I_l2i, I_i2b, I_i2c, I_i2f, I_i2d, I_lcmp, I_fdiv, I_ddiv, I_f2d, I_dcmp, I_dup, I_pop, I_dup_x1, I_dup2, I_icne, I_iceq, I_iclt, I_icge, I_icgt, I_icle, I_ifnull, I_ifnonnull, I_ane, I_aeq, I_goto, I_lsw, I_iret, I_lret, I_fret, I_dret, I_vret, I_nret, I_aret, I_iald, I_bald, I_lald, I_aald, I_iast, I_bast, I_last, I_aast, I_alen, I_new, I_val, I_cast, I_inst, I_obj, I_throw, I_mkx, I_getf, I_putf, I_call, I_calli, I_callv, I_clone, I_getc, i_ifeq, i_ifne, i_iflt, i_ifge, i_ifgt, i_ifle, i_idiv, i_irem, i_newa, i_newo, i_abs, i_max, i_min, i_ldiv, en_, es_i, es_r, es_0, es_n, es_l, List.length_cons, List.length_nil, List.cons_append, List.nil_append, Nat.reduceAdd, Nat.reduceSub, List.replicate, lg_, st1_, st2_, cn_, nl_, mk_, pk_, kd_, sl_, la_, ft_a, ft_i, ft_l, ft_o, ft_n, ft_b0, ft_b1, ft_bI, nr_0, nr_1, nr_bI, ro_, no_, if_true, if_false, ite_true, ite_false, reduceIte, Nat.reduceMod, Nat.reduceEqDiff, Nat.zero_add, Nat.add_zero, lk_, lit_, nI_add, nI_mul, ix_nI, fgk_0, fgk_1, fgk_2, fgk_3, fgk_4, fgk_5, fgk_6, fgk_7, fgk_8, fgk_9, fgk_10, fgk_11, fgk_12, fgk_13, fsk_0, fsk_1, fsk_2, fsk_3, fsk_4, fsk_5, fsk_6, fsk_7, fsk_8, fsk_9, fsk_10, fsk_11, fsk_12, fsk_13, ca_i, ca_r, ca_n, Nat.reduceLT, true_or, or_true, if_true, false_or, or_false, and_true, true_and, List.mem_singleton, eq_self, i1, i2, n10_, i3, i4, i5, i6, c0, nf_0, x1, ix_nI, hN0, hle, hb, nI_1]
    · obtain rfl : k = 144 := by omega
      exact hz0 _ c σ u h hI
theorem N_edges (hw0 : Wl_ E h0 w r ms ss) (h : Nx_ E h0 σ b bb q w N r n s ms ss) : ∃ σ', D_ E 298 [.ref b] σ = some (.inl (some (.int (nI (eds_ r s).length))), σ') ∧ Nx_ E h0 σ' b bb q w N r n s ms ss ∧ Sz_ 730 σ σ' := by
  obtain ⟨lc, h1⟩ := h.1
  obtain ⟨σ1, j1, j2, j3, j4⟩ := N_iter (E := E) h1
  have hF : Fr_ 6 σ σ1 := by rw [j4]; exact Fr_new h1.2.2.1
  have hnk := nxk_le (c := N 0) 144 0
  obtain ⟨σ', m1, m2, m3⟩ := ed_lp (E := E) hw0 (NV_lt h1) 144 (nxk_ (N 0) 144 0) 0 σ1 none (by omega) (by omega) (fun q => nxk_nz (c := N 0) _ _ (by omega)) (Nx_fr h hF) j3
  have hfl := Nx_flt (P := edP_ r s) h.2.1 h.2.2.2.2.2.2.1 (fun j hj => decide_eq_false (fun q => q hj)) 144 0 (by omega)
  rw [← hfl, Nat.zero_add] at m1
  refine ⟨σ', ?_, m2, Sz_le (Sz_trans (Fr_Sz hF) m3) (by omega)⟩
  have c0 := h1.1.1
  rw [show (eds_ r s) = (List.range' 0 144).filter (edP_ r s) from rfl, ← m1, D_run]
  simp (disch := omega) only [b298_0, K298_0, l298, R_cons, go_nx, go_jp, go_rt, go_th, go_ca, go_no, go_ite, rr_v, rr_n, rr_x, hx_n, hx_p, hx_b, I_push, I_pushl, I_fc0, I_fc1, I_dc0, I_null, I_mask, I_iload, I_lload, I_dload, I_fload, I_aload, I_istore, I_lstore, I_dstore, I_fstore, I_astore, I_iinc, I_iadd, I_isub, I_imul, I_iand, I_ior, I_ixor, I_ishl, I_ishr, I_iushr, I_ineg, I_ladd, I_lsub, I_lmul, I_lxor, I_i2l, I_l2i, I_i2b, I_i2c, I_i2f, I_i2d, I_lcmp, I_fdiv, I_ddiv, I_f2d, I_dcmp, I_dup, I_pop, I_dup_x1, I_dup2, I_icne, I_iceq, I_iclt, I_icge, I_icgt, I_icle, I_ifnull, I_ifnonnull, I_ane, I_aeq, I_goto, I_lsw, I_iret, I_lret, I_fret, I_dret, I_vret, I_nret, I_aret, I_iald, I_bald, I_lald, I_aald, I_iast, I_bast, I_last, I_aast, I_alen, I_new, I_val, I_cast, I_inst, I_obj, I_throw, I_mkx, I_getf, I_putf, I_call, I_calli, I_callv, I_clone, I_getc, i_ifeq, i_ifne, i_iflt, i_ifge, i_ifgt, i_ifle, i_idiv, i_irem, i_newa, i_newo, i_abs, i_max, i_min, i_ldiv, en_, es_i, es_r, es_0, es_n, es_l, List.length_cons, List.length_nil, List.cons_append, List.nil_append, Nat.reduceAdd, Nat.reduceSub, List.replicate, lg_, st1_, st2_, cn_, nl_, mk_, pk_, kd_, sl_, la_, ft_a, ft_i, ft_l, ft_o, ft_n, ft_b0, ft_b1, ft_bI, nr_0, nr_1, nr_bI, ro_, no_, if_true, if_false, ite_true, ite_false, reduceIte, Nat.reduceMod, Nat.reduceEqDiff, Nat.zero_add, Nat.add_zero, lk_, lit_, nI_add, nI_mul, ix_nI, fgk_0, fgk_1, fgk_2, fgk_3, fgk_4, fgk_5, fgk_6, fgk_7, fgk_8, fgk_9, fgk_10, fgk_11, fgk_12, fgk_13, fsk_0, fsk_1, fsk_2, fsk_3, fsk_4, fsk_5, fsk_6, fsk_7, fsk_8, fsk_9, fsk_10, fsk_11, fsk_12, fsk_13, ca_i, ca_r, ca_n, Nat.reduceLT, true_or, or_true, if_true, false_or, or_false, and_true, true_and, List.mem_singleton, eq_self, c0, j1]
end CNQ
