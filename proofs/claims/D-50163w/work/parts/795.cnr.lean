section CNR
variable {E : En_} {σ : As_} {w n s b bb q : Nat} {r : Nat → Int32} {ms ss : List Nat} {h0 : Nat → Option Ac_} {N : Nat → Nat → Int32}
/-- a loop over the edges -/
theorem Nx_ind {α β : Type} {it : Nat} (hw0 : Wl_ E h0 w r ms ss) (hit : q + 2 < it) (G : Nat → α → α) (hG : ∀ j x, ct_ r s j = 0 → G j x = x) (I : α → Prop) (hI : ∀ k x, k < 144 → I x → I (G k x)) (R : α → β → As_ → Option (Rs_ × As_)) (fin : α → Rs_)
    (hz : ∀ x u σ fs, I x → Nx_ E h0 σ b bb q w N r n s ms ss → σ.2.2 it = some (.inr (7, fs)) → D_ E 266 [.ref it] σ = some (.inl (some (.int (nI 0))), σ) → R x u σ = some (fin x, σ))
    (hs : ∀ k x u σ σ1 y fs cx, k < 144 → ¬ ct_ r s k = 0 → I x → Nx_ E h0 σ b bb q w N r n s ms ss → Nx_ E h0 σ1 b bb q w N r n s ms ss → σ.2.2 it = some (.inr (7, fs)) → D_ E 266 [.ref it] σ = some (.inl (some (.int (nI 1))), σ) → D_ E 267 [.ref it] σ = some (.inl (some (.ref y)), σ1) → σ1.2.2 y = some (.inr (cx, [.int (nI k)])) → cx % 100 = 17 → D_ E 43 [.ref y] σ1 = some (.inl (some (.int (nI k))), σ1) → ∃ u', R x u σ = R (G k x) u' σ1) :
    ∀ (m k : Nat) (x : α) (u : β) (σ : As_), 144 - k ≤ m → k ≤ 144 → (k < 144 → ¬ N 0 k = nI 0) → I x → Nx_ E h0 σ b bb q w N r n s ms ss → NI_ σ.2.2 it k b →
    ∃ σ', R x u σ = some (fin (fo_ G (144 - k) k x), σ') ∧ Nx_ E h0 σ' b bb q w N r n s ms ss ∧ Sz_ (5 * m) σ σ' := by
  have hz1 : ∀ (m : Nat) (x : α) (u : β) (σ : As_), I x → Nx_ E h0 σ b bb q w N r n s ms ss → NI_ σ.2.2 it 144 b → ∃ σ', R x u σ = some (fin (fo_ G (144 - 144) 144 x), σ') ∧ Nx_ E h0 σ' b bb q w N r n s ms ss ∧ Sz_ (5 * m) σ σ' := by
    intro m x u σ hx h hN
    obtain ⟨fs, i1, i2⟩ := Nx_stop (E := E) h hN
    exact ⟨σ, hz x u σ fs hx h i1 i2, h, Sz_le Sz_rfl (by omega)⟩
  intro m
  induction m with
  | zero =>
    intro k x u σ hm hk hn hx h hN
    obtain rfl : k = 144 := by omega
    exact hz1 _ x u σ hx h hN
  | succ m ih =>
    intro k x u σ hm hk hn hx h hN
    by_cases c1 : k < 144
    · obtain ⟨σ1, y, fs, cx, i1, i2, i3, i4, i5, i6, i7, i8, i9⟩ := Nx_step (E := E) h hw0 hN hit c1
      have hW := h.2.2.2.2.2.2.1
      have hK := h.2.1
      have hnk := nxk_le (c := N 0) (144 - (k + 1)) (k + 1)
      have hcz := Nx_nz hK c1 (hn c1)
      obtain ⟨u', hu⟩ := hs k x u σ σ1 y fs cx c1 hcz hx h i7 i1 i2 i3 i4 i5 i6
      obtain ⟨σ', m1, m2, m3⟩ := ih (nxk_ (N 0) (144 - (k + 1)) (k + 1)) (G k x) u' σ1 (by omega) (by omega) (fun q => nxk_nz (c := N 0) _ _ (by omega)) (hI k x c1 hx) i7 i8
      have ef : fo_ G (144 - k) k x = fo_ G (144 - nxk_ (N 0) (144 - (k + 1)) (k + 1)) (nxk_ (N 0) (144 - (k + 1)) (k + 1)) (G k x) := by
        have ed : 144 - k = (144 - (k + 1)) + 1 := by omega
        rw [ed, fo_]
        have ec : nxk_ (N 0) (144 - (k + 1)) (k + 1) = nxk_ (fun j => if j < 144 then N 0 j else nI 1) (144 - (k + 1)) (k + 1) := nxk_co _ _ (fun j hj => by rw [if_pos (by omega)])
        have sk := fe_skip (c := fun j => if j < 144 then N 0 j else nI 1) (G := G) (fun j x h => by
          by_cases cj : j < 144
          · rw [if_pos cj, hK.2.1.1 j cj] at h
            have h40 := ct_40 hW j
            rw [nI_eq (by omega) (by decide)] at h
            exact hG j x h
          · rw [if_neg cj] at h
            exact absurd h (by decide)) (144 - (k + 1)) (k + 1) (G k x)
        rw [← ec] at sk
        rw [sk]
        have e8 : 144 - (k + 1) + (k + 1) - nxk_ (N 0) (144 - (k + 1)) (k + 1) = 144 - nxk_ (N 0) (144 - (k + 1)) (k + 1) := by omega
        rw [e8]
      rw [ef]
      exact ⟨σ', hu.trans m1, m2, Sz_le (Sz_trans i9 m3) (by omega)⟩
    · obtain rfl : k = 144 := by omega
      exact hz1 _ x u σ hx h hN
/-- a loop over all edges -/
theorem Nx_all {α β : Type} (h : Nx_ E h0 σ b bb q w N r n s ms ss) (hw0 : Wl_ E h0 w r ms ss) (G : Nat → α → α) (hG : ∀ j x, ct_ r s j = 0 → G j x = x) (I : α → Prop) (hI : ∀ k x, k < 144 → I x → I (G k x)) (R : α → β → As_ → Option (Rs_ × As_)) (fin : α → Rs_)
    (hz : ∀ x u σ' fs, I x → Nx_ E h0 σ' b bb q w N r n s ms ss → σ'.2.2 σ.1 = some (.inr (7, fs)) → D_ E 266 [.ref σ.1] σ' = some (.inl (some (.int (nI 0))), σ') → R x u σ' = some (fin x, σ'))
    (hs : ∀ k x u σ0 σ1 y fs cx, k < 144 → ¬ ct_ r s k = 0 → I x → Nx_ E h0 σ0 b bb q w N r n s ms ss → Nx_ E h0 σ1 b bb q w N r n s ms ss → σ0.2.2 σ.1 = some (.inr (7, fs)) → D_ E 266 [.ref σ.1] σ0 = some (.inl (some (.int (nI 1))), σ0) → D_ E 267 [.ref σ.1] σ0 = some (.inl (some (.ref y)), σ1) → σ1.2.2 y = some (.inr (cx, [.int (nI k)])) → cx % 100 = 17 → D_ E 43 [.ref y] σ1 = some (.inl (some (.int (nI k))), σ1) → ∃ u', R x u σ0 = R (G k x) u' σ1) :
    ∃ σ1, D_ E 290 [.ref b] σ = some (.inl (some (.ref σ.1)), σ1) ∧ σ1.2.2 b = σ.2.2 b ∧ ∀ (x : α) (u : β), I x → ∃ σ', R x u σ1 = some (fin (fo_ G 144 0 x), σ') ∧ Nx_ E h0 σ' b bb q w N r n s ms ss ∧ Sz_ 730 σ σ' := by
  obtain ⟨lc, h1⟩ := h.1
  obtain ⟨σ1, j1, j2, j3, j4⟩ := N_iter (E := E) h1
  have hF : Fr_ 6 σ σ1 := by rw [j4]; exact Fr_new h1.2.2.1
  have hnk := nxk_le (c := N 0) 144 0
  refine ⟨σ1, j1, by rw [h1.1.1, j2.1.1], fun x u hx => ?_⟩
  obtain ⟨σ', m1, m2, m3⟩ := Nx_ind (E := E) hw0 (NV_lt h1) G hG I hI R fin hz hs 144 (nxk_ (N 0) 144 0) x u σ1 (by omega) (by omega) (fun q => nxk_nz (c := N 0) _ _ (by omega)) hx (Nx_fr h hF) j3
  have ef : fo_ G 144 0 x = fo_ G (144 - nxk_ (N 0) 144 0) (nxk_ (N 0) 144 0) x := by
    have ec : nxk_ (N 0) 144 0 = nxk_ (fun j => if j < 144 then N 0 j else nI 1) 144 0 := nxk_co _ _ (fun j hj => by rw [if_pos (by omega)])
    have sk := fe_skip (c := fun j => if j < 144 then N 0 j else nI 1) (G := G) (fun j x h' => by
      by_cases cj : j < 144
      · rw [if_pos cj, h.2.1.2.1.1 j cj] at h'
        have h40 := ct_40 h.2.2.2.2.2.2.1 j
        rw [nI_eq (by omega) (by decide)] at h'
        exact hG j x h'
      · rw [if_neg cj] at h'
        exact absurd h' (by decide)) 144 0 x
    rw [← ec] at sk
    exact sk
  rw [ef]
  exact ⟨σ', m1, m2, Sz_le (Sz_trans (Fr_Sz hF) m3) (by omega)⟩
theorem cnt_flt {P : Nat → Bool} : ∀ (d i c : Nat), cnt_ P d i c = c + ((List.range' i d).filter P).length := by
  intro d
  induction d with
  | zero => intro i c; rfl
  | succ d ih =>
    intro i c
    rw [cnt_, List.range'_succ, ih]
    by_cases h : P i = true
    · rw [if_pos h, List.filter_cons_of_pos h, List.length_cons]; omega
    · rw [if_neg h, List.filter_cons_of_neg h]
theorem cnt_fo {P : Nat → Bool} : ∀ (d i c : Nat), fo_ (fun k c => if P k = true then c + 1 else c) d i c = cnt_ P d i c := by
  intro d
  induction d with
  | zero => intro i c; rfl
  | succ d ih => intro i c; rw [fo_, cnt_, ih]
theorem N_forestCount (hw0 : Wl_ E h0 w r ms ss) (h : Nx_ E h0 σ b bb q w N r n s ms ss) : ∃ σ', D_ E 299 [.ref b] σ = some (.inl (some (.int (nI (tks_ r n s).length))), σ') ∧ Nx_ E h0 σ' b bb q w N r n s ms ss ∧ Sz_ 730 σ σ' := by
  have hW := h.2.2.2.2.2.2.1
  have hT := (kr_all (r := r) (n := n) (s := s) (wr_n12 hW)).2.2.2
  obtain ⟨σ1, j1, j2, j3⟩ := Nx_all (E := E) h hw0 (fun k c => if tkn_ r n s k = true then c + 1 else c) (fun j x hj => if_neg (fun q => (hT j q).1 hj)) (fun _ => True) (fun _ _ _ _ => trivial) (fun c (u : Option Value) σ' => R_ E 299 (B_ E 299 1) [some (.ref b), some (.int (nI c)), some (.ref σ.1), u] [] σ') (fun c => .inl (some (.int (nI c)))) (by
    intro x u σ' fs _ hx i1 i2
    rw [b299_1]
    simp (disch := omega) only [K299_1, b299_2, K299_2, R_cons, go_nx, go_jp, go_rt, go_th, go_ca, go_no, go_ite, rr_v, rr_n, rr_x, hx_n, hx_p, hx_b, I_push, I_pushl, I_fc0, I_fc1, I_dc0, I_null, I_mask, I_iload, I_lload, I_dload, I_fload, I_aload, I_istore, I_lstore, I_dstore, I_fstore, I_astore, I_iinc, I_iadd, I_isub, I_imul, I_iand, I_ior, I_ixor, I_ishl, I_ishr, I_iushr, I_ineg, I_ladd, I_lsub, I_lmul, I_lxor, I_i2l, I_l2i, I_i2b, I_i2c, I_i2f, I_i2d, I_lcmp, I_fdiv, I_ddiv, I_f2d, I_dcmp, I_dup, I_pop, I_dup_x1, I_dup2, I_icne, I_iceq, I_iclt, I_icge, I_icgt, I_icle, I_ifnull, I_ifnonnull, I_ane, I_aeq, I_goto, I_lsw, I_iret, I_lret, I_fret, I_dret, I_vret, I_nret, I_aret, I_iald, I_bald, I_lald, I_aald, I_iast, I_bast, I_last, I_aast, I_alen, I_new, I_val, I_cast, I_inst, I_obj, I_throw, I_mkx, I_getf, I_putf, I_call, I_calli, I_callv, I_clone, I_getc, i_ifeq, i_ifne, i_iflt, i_ifge, i_ifgt, i_ifle, i_idiv, i_irem, i_newa, i_newo, i_abs, i_max, i_min, i_ldiv, en_, es_i, es_r, es_0, es_n, es_l, List.length_cons, List.length_nil, List.cons_append, List.nil_append, Nat.reduceAdd, Nat.reduceSub, List.replicate, lg_, st1_, st2_, cn_, nl_, mk_, pk_, kd_, sl_, la_, ft_a, ft_i, ft_l, ft_o, ft_n, ft_b0, ft_b1, ft_bI, nr_0, nr_1, nr_bI, ro_, no_, if_true, if_false, ite_true, ite_false, reduceIte, Nat.reduceMod, Nat.reduceEqDiff, Nat.zero_add, Nat.add_zero, lk_, lit_, nI_add, nI_mul, ix_nI, fgk_0, fgk_1, fgk_2, fgk_3, fgk_4, fgk_5, fgk_6, fgk_7, fgk_8, fgk_9, fgk_10, fgk_11, fgk_12, fgk_13, fsk_0, fsk_1, fsk_2, fsk_3, fsk_4, fsk_5, fsk_6, fsk_7, fsk_8, fsk_9, fsk_10, fsk_11, fsk_12, fsk_13, ca_i, ca_r, ca_n, Nat.reduceLT, true_or, or_true, if_true, false_or, or_false, and_true, true_and, List.mem_singleton, eq_self, i1, i2]) (by
    intro k x u σ0 σ1 y fs cx hk hct _ hx hx1 i1 i2 i3 i4 i5 i6
    obtain ⟨⟨lc, ⟨c0, x1, x2, x3, x4, x5, x6, _⟩, _⟩, hK, _⟩ := hx1
    have h5 := hK.2.2.2.1 k hk
    refine ⟨some (.int (nI k)), ?_⟩
    conv => lhs; rw [b299_1]
    by_cases c : tkn_ r n s k = true
    · rw [bI_t c] at h5
      have hb := S_bit (E := E) (σ := σ1) (x := nI 1) (Or.inr rfl)
      rw [if_pos c]
      simp (disch := first | assumption | omega) only [K299_1, R_cons, go_nx, go_jp, go_rt, go_th, go_ca, go_no, go_ite, rr_v, rr_n, rr_x, hx_n, hx_p, hx_b, I_push, I_pushl, I_fc0, I_fc1, I_dc0, I_null, I_mask, I_iload, I_lload, I_dload, I_fload, I_aload, I_istore, I_lstore, I_dstore, I_fstore, I_astore, I_iinc, I_iadd, I_isub, I_imul, I_iand, I_ior, I_ixor, I_ishl, I_ishr, I_iushr, I_ineg, I_ladd, I_lsub, I_lmul, I_lxor, I_i2l, I_l2i, I_i2b, I_i2c, I_i2f, I_i2d, I_lcmp, I_fdiv, I_ddiv, I_f2d, I_dcmp, I_dup, I_pop, I_dup_x1, I_dup2, I_icne, I_iceq, I_iclt, I_icge, I_icgt, I_icle, I_ifnull, I_ifnonnull, I_ane, I_aeq, I_goto, I_lsw, I_iret, I_lret, I_fret, I_dret, I_vret, I_nret, I_aret, I_iald, I_bald, I_lald, I_aald, I_iast, I_bast, I_last, I_aast, I_alen, I_new, I_val, I_cast, I_inst, I_obj, I_throw, I_mkx, I_getf, I_putf, I_call, I_calli, I_callv, I_clone, I_getc, i_ifeq, i_ifne, i_iflt, i_ifge, i_ifgt, i_ifle, i_idiv, i_irem, i_newa, i_newo, i_abs, i_max, i_min, i_ldiv, en_, es_i, es_r, es_0, es_n, es_l, List.length_cons, List.length_nil, List.cons_append, List.nil_append, Nat.reduceAdd, Nat.reduceSub, List.replicate, lg_, st1_, st2_, cn_, nl_, mk_, pk_, kd_, sl_, la_, ft_a, ft_i, ft_l, ft_o, ft_n, ft_b0, ft_b1, ft_bI, nr_0, nr_1, nr_bI, ro_, no_, if_true, if_false, ite_true, ite_false, reduceIte, Nat.reduceMod, Nat.reduceEqDiff, Nat.zero_add, Nat.add_zero, lk_, lit_, nI_add, nI_mul, ix_nI, fgk_0, fgk_1, fgk_2, fgk_3, fgk_4, fgk_5, fgk_6, fgk_7, fgk_8, fgk_9, fgk_10, fgk_11, fgk_12, fgk_13, fsk_0, fsk_1, fsk_2, fsk_3, fsk_4, fsk_5, fsk_6, fsk_7, fsk_8, fsk_9, fsk_10, fsk_11, fsk_12, fsk_13, ca_i, ca_r, ca_n, Nat.reduceLT, true_or, or_true, if_true, false_or, or_false, and_true, true_and, List.mem_singleton, eq_self, i1, i2, n10_, i3, i4, i5, i6, c0, nf_5, x6, ix_nI, h5, hb, nI_1]
    · rw [bI_f c] at h5
      have hb := S_bit (E := E) (σ := σ1) (x := nI 0) (Or.inl rfl)
      rw [if_neg c]
      simp (disch := first | assumption | omega) only [K299_1, R_cons, go_nx, go_jp, go_rt, go_th, go_ca, go_no, go_ite, rr_v, rr_n, rr_x, hx_n, hx_p, hx_b, I_push, I_pushl, I_fc0, I_fc1, I_dc0, I_null, I_mask, I_iload, I_lload, I_dload, I_fload, I_aload, I_istore, I_lstore, I_dstore, I_fstore, I_astore, I_iinc, I_iadd, I_isub, I_imul, I_iand, I_ior, I_ixor, I_ishl, I_ishr, I_iushr, I_ineg, I_ladd, I_lsub, I_lmul, I_lxor, I_i2l, I_l2i, I_i2b, I_i2c, I_i2f, I_i2d, I_lcmp, I_fdiv, I_ddiv, I_f2d, I_dcmp, I_dup, I_pop, I_dup_x1, I_dup2, I_icne, I_iceq, I_iclt, I_icge, I_icgt, I_icle, I_ifnull, I_ifnonnull, I_ane, I_aeq, I_goto, I_lsw, I_iret, I_lret, I_fret, I_dret, I_vret, I_nret, I_aret, I_iald, I_bald, I_lald, I_aald, I_iast, I_bast, I_last, I_aast, I_alen, I_new, I_val, I_cast, I_inst, I_obj, I_throw, I_mkx, I_getf, I_putf, I_call, I_calli, I_callv, I_clone, I_getc, i_ifeq, i_ifne, i_iflt, i_ifge, i_ifgt, i_ifle, i_idiv, i_irem, i_newa, i_newo, i_abs, i_max, i_min, i_ldiv, en_, es_i, es_r, es_0, es_n, es_l, List.length_cons, List.length_nil, List.cons_append, List.nil_append, Nat.reduceAdd, Nat.reduceSub, List.replicate, lg_, st1_, st2_, cn_, nl_, mk_, pk_, kd_, sl_, la_, ft_a, ft_i, ft_l, ft_o, ft_n, ft_b0, ft_b1, ft_bI, nr_0, nr_1, nr_bI, ro_, no_, if_true, if_false, ite_true, ite_false, reduceIte, Nat.reduceMod, Nat.reduceEqDiff, Nat.zero_add, Nat.add_zero, lk_, lit_, nI_add, nI_mul, ix_nI, fgk_0, fgk_1, fgk_2, fgk_3, fgk_4, fgk_5, fgk_6, fgk_7, fgk_8, fgk_9, fgk_10, fgk_11, fgk_12, fgk_13, fsk_0, fsk_1, fsk_2, fsk_3, fsk_4, fsk_5, fsk_6, fsk_7, fsk_8, fsk_9, fsk_10, fsk_11, fsk_12, fsk_13, ca_i, ca_r, ca_n, Nat.reduceLT, true_or, or_true, if_true, false_or, or_false, and_true, true_and, List.mem_singleton, eq_self, i1, i2, n10_, i3, i4, i5, i6, c0, nf_5, x6, ix_nI, h5, hb, Nat.add_zero])
  obtain ⟨lc, h1⟩ := h.1
  have c0 := h1.1.1
  have c1 := c0
  rw [← j2] at c1
  obtain ⟨σ', m1, m2, m3⟩ := j3 0 none trivial
  have ef : fo_ (fun k c => if tkn_ r n s k = true then c + 1 else c) 144 0 0 = (tks_ r n s).length := by
    rw [cnt_fo, cnt_flt, Nat.zero_add]
    rfl
  rw [ef] at m1
  refine ⟨σ', ?_, m2, m3⟩
  rw [← m1, D_run]
  simp (disch := omega) only [b299_0, K299_0, l299, R_cons, go_nx, go_jp, go_rt, go_th, go_ca, go_no, go_ite, rr_v, rr_n, rr_x, hx_n, hx_p, hx_b, I_push, I_pushl, I_fc0, I_fc1, I_dc0, I_null, I_mask, I_iload, I_lload, I_dload, I_fload, I_aload, I_istore, I_lstore, I_dstore, I_fstore, I_astore, I_iinc, I_iadd, I_isub, I_imul, I_iand, I_ior, I_ixor, I_ishl, I_ishr, I_iushr, I_ineg, I_ladd, I_lsub, I_lmul, I_lxor, I_i2l, I_l2i, I_i2b, I_i2c, I_i2f, I_i2d, I_lcmp, I_fdiv, I_ddiv, I_f2d, I_dcmp, I_dup, I_pop, I_dup_x1, I_dup2, I_icne, I_iceq, I_iclt, I_icge, I_icgt, I_icle, I_ifnull, I_ifnonnull, I_ane, I_aeq, I_goto, I_lsw, I_iret, I_lret, I_fret, I_dret, I_vret, I_nret, I_aret, I_iald, I_bald, I_lald, I_aald, I_iast, I_bast, I_last, I_aast, I_alen, I_new, I_val, I_cast, I_inst, I_obj, I_throw, I_mkx, I_getf, I_putf, I_call, I_calli, I_callv, I_clone, I_getc, i_ifeq, i_ifne, i_iflt, i_ifge, i_ifgt, i_ifle, i_idiv, i_irem, i_newa, i_newo, i_abs, i_max, i_min, i_ldiv, en_, es_i, es_r, es_0, es_n, es_l, List.length_cons, List.length_nil, List.cons_append, List.nil_append, Nat.reduceAdd, Nat.reduceSub, List.replicate, lg_, st1_, st2_, cn_, nl_, mk_, pk_, kd_, sl_, la_, ft_a, ft_i, ft_l, ft_o, ft_n, ft_b0, ft_b1, ft_bI, nr_0, nr_1, nr_bI, ro_, no_, if_true, if_false, ite_true, ite_false, reduceIte, Nat.reduceMod, Nat.reduceEqDiff, Nat.zero_add, Nat.add_zero, lk_, lit_, nI_add, nI_mul, ix_nI, fgk_0, fgk_1, fgk_2, fgk_3, fgk_4, fgk_5, fgk_6, fgk_7, fgk_8, fgk_9, fgk_10, fgk_11, fgk_12, fgk_13, fsk_0, fsk_1, fsk_2, fsk_3, fsk_4, fsk_5, fsk_6, fsk_7, fsk_8, fsk_9, fsk_10, fsk_11, fsk_12, fsk_13, ca_i, ca_r, ca_n, Nat.reduceLT, true_or, or_true, if_true, false_or, or_false, and_true, true_and, List.mem_singleton, eq_self, c0, j1]
/-- a loop out of the list -/
theorem Nx_loop {i : Nat} (h : Nx_ E h0 σ b bb q w N r n s ms ss) (hi : i < (lps_ r n s).length) : ∃ x, D_ E 27 [.ref (bb + 7), .int (nI i)] σ = some (.inl (some (.ref x)), σ) ∧ LpO_ (q + 2) σ.2.2 x (lpe_ r n s i / 12) (lpw_ r n s i) (mis_ r n s i) (wal_ r n s i) := by
  obtain ⟨mc, e, xs, h1, _, h2, h3⟩ := h.2.2.1
  have hi' : i < xs.length := by omega
  exact ⟨xs[i], J_get h1 hi', (h3 i _ (List.getElem?_eq_getElem hi')).2⟩
theorem Nx_size (h : Nx_ E h0 σ b bb q w N r n s ms ss) : (∃ fs, σ.2.2 (bb + 7) = some (.inr (11, fs))) ∧ D_ E 26 [.ref (bb + 7)] σ = some (.inl (some (.int (nI (lps_ r n s).length))), σ) ∧ D_ E 36 [.ref (bb + 7)] σ = some (.inl (some (.int (bI ((lps_ r n s).length = 0)))), σ) := by
  obtain ⟨mc, e, xs, h1, _, h2, h3⟩ := h.2.2.1
  have hs := J_size (E := E) h1
  have he := J_isEmpty (E := E) h1
  rw [h2] at hs he
  obtain ⟨cap, f, tt, a1, _⟩ := h1
  exact ⟨⟨_, a1⟩, hs, he⟩
/-- the wall's limit of closing -/
theorem Nx_lim (h : Nx_ E h0 σ b bb q w N r n s ms ss) : ∃ am as st i j g, σ.2.2 w = some (.inr (1, [.ref am, .ref as, .ref st, .int i, .int j])) ∧ σ.2.2 st = some (tI_ 0 4 g) ∧ g 3 = r 5 := by
  obtain ⟨am, em, as, es, st, mc, mc', hA⟩ := h.2.2.2.1
  obtain ⟨g, s1, s2, s3, s4, s5⟩ := hA.2.2.2.1
  exact ⟨am, as, st, _, _, g, hA.1, s1, s5⟩
theorem cl_lp (h : Nx_ E h0 σ b bb q w N r n s ms ss) : ∀ (d i c : Nat), i + d = (lps_ r n s).length → R_ E 300 (B_ E 300 1) [some (.ref b), some (.int (nI c)), some (.int (nI i))] [] σ = some (.inl (some (.int (nI (cnt_ (cls_ r n s) d i c)))), σ) := by
  have hle := lps_le (r := r) (s := s) (wr_n12 h.2.2.2.2.2.2.1)
  obtain ⟨⟨fs, z1⟩, z2, z3⟩ := Nx_size (E := E) h
  obtain ⟨am, as, st, w1, w2, g, l1, l2, l3⟩ := Nx_lim h
  obtain ⟨lc, ⟨c0, _⟩, _⟩ := id h.1
  intro d
  induction d with
  | zero =>
    intro i c hi
    obtain rfl : i = (lps_ r n s).length := by omega
    rw [b300_1]
    simp (disch := omega) only [K300_1, b300_2, K300_2, R_cons, go_nx, go_jp, go_rt, go_th, go_ca, go_no, go_ite, rr_v, rr_n, rr_x, hx_n, hx_p, hx_b, I_push, I_pushl, I_fc0, I_fc1, I_dc0, I_null, I_mask, I_iload, I_lload, I_dload, I_fload, I_aload, I_istore, I_lstore, I_dstore, I_fstore, I_astore, I_iinc, I_iadd, I_isub, I_imul, I_iand, I_ior, I_ixor, I_ishl, I_ishr, I_iushr, I_ineg, I_ladd, I_lsub, I_lmul, I_lxor, I_i2l, I_l2i, I_i2b, I_i2c, I_i2f, I_i2d, I_lcmp, I_fdiv, I_ddiv, I_f2d, I_dcmp, I_dup, I_pop, I_dup_x1, I_dup2, I_icne, I_iceq, I_iclt, I_icge, I_icgt, I_icle, I_ifnull, I_ifnonnull, I_ane, I_aeq, I_goto, I_lsw, I_iret, I_lret, I_fret, I_dret, I_vret, I_nret, I_aret, I_iald, I_bald, I_lald, I_aald, I_iast, I_bast, I_last, I_aast, I_alen, I_new, I_val, I_cast, I_inst, I_obj, I_throw, I_mkx, I_getf, I_putf, I_call, I_calli, I_callv, I_clone, I_getc, i_ifeq, i_ifne, i_iflt, i_ifge, i_ifgt, i_ifle, i_idiv, i_irem, i_newa, i_newo, i_abs, i_max, i_min, i_ldiv, en_, es_i, es_r, es_0, es_n, es_l, List.length_cons, List.length_nil, List.cons_append, List.nil_append, Nat.reduceAdd, Nat.reduceSub, List.replicate, lg_, st1_, st2_, cn_, nl_, mk_, pk_, kd_, sl_, la_, ft_a, ft_i, ft_l, ft_o, ft_n, ft_b0, ft_b1, ft_bI, nr_0, nr_1, nr_bI, ro_, no_, if_true, if_false, ite_true, ite_false, reduceIte, Nat.reduceMod, Nat.reduceEqDiff, Nat.zero_add, Nat.add_zero, lk_, lit_, nI_add, nI_mul, ix_nI, fgk_0, fgk_1, fgk_2, fgk_3, fgk_4, fgk_5, fgk_6, fgk_7, fgk_8, fgk_9, fgk_10, fgk_11, fgk_12, fgk_13, fsk_0, fsk_1, fsk_2, fsk_3, fsk_4, fsk_5, fsk_6, fsk_7, fsk_8, fsk_9, fsk_10, fsk_11, fsk_12, fsk_13, ca_i, ca_r, ca_n, Nat.reduceLT, true_or, or_true, if_true, false_or, or_false, and_true, true_and, List.mem_singleton, eq_self, c0, nf_6, z1, z2, nI_leI, Nat.le_refl]
    rfl
  | succ d ih =>
    intro i c hi
    have hlt : ¬ (lps_ r n s).length ≤ i := by omega
    obtain ⟨x, x1, x2⟩ := Nx_loop (E := E) h (show i < (lps_ r n s).length by omega)
    have hc := L_closes (E := E) (l := r 5) x2
    rw [show clo_ (mis_ r n s i) (wal_ r n s i) (r 5) = cls_ r n s i from rfl] at hc
    have hb := S_bit (E := E) (σ := σ) (bit_bI (p := cls_ r n s i = true))
    obtain ⟨a, f, o1, o2, o3⟩ := x2
    rw [cnt_, b300_1]
    by_cases c1 : cls_ r n s i = true
    · rw [bI_t c1] at hc hb
      rw [if_pos c1, ← ih (i + 1) (c + 1) (by omega)]
      simp (disch := first | assumption | omega) only [K300_1, R_cons, go_nx, go_jp, go_rt, go_th, go_ca, go_no, go_ite, rr_v, rr_n, rr_x, hx_n, hx_p, hx_b, I_push, I_pushl, I_fc0, I_fc1, I_dc0, I_null, I_mask, I_iload, I_lload, I_dload, I_fload, I_aload, I_istore, I_lstore, I_dstore, I_fstore, I_astore, I_iinc, I_iadd, I_isub, I_imul, I_iand, I_ior, I_ixor, I_ishl, I_ishr, I_iushr, I_ineg, I_ladd, I_lsub, I_lmul, I_lxor, I_i2l, I_l2i, I_i2b, I_i2c, I_i2f, I_i2d, I_lcmp, I_fdiv, I_ddiv, I_f2d, I_dcmp, I_dup, I_pop, I_dup_x1, I_dup2, I_icne, I_iceq, I_iclt, I_icge, I_icgt, I_icle, I_ifnull, I_ifnonnull, I_ane, I_aeq, I_goto, I_lsw, I_iret, I_lret, I_fret, I_dret, I_vret, I_nret, I_aret, I_iald, I_bald, I_lald, I_aald, I_iast, I_bast, I_last, I_aast, I_alen, I_new, I_val, I_cast, I_inst, I_obj, I_throw, I_mkx, I_getf, I_putf, I_call, I_calli, I_callv, I_clone, I_getc, i_ifeq, i_ifne, i_iflt, i_ifge, i_ifgt, i_ifle, i_idiv, i_irem, i_newa, i_newo, i_abs, i_max, i_min, i_ldiv, en_, es_i, es_r, es_0, es_n, es_l, List.length_cons, List.length_nil, List.cons_append, List.nil_append, Nat.reduceAdd, Nat.reduceSub, List.replicate, lg_, st1_, st2_, cn_, nl_, mk_, pk_, kd_, sl_, la_, ft_a, ft_i, ft_l, ft_o, ft_n, ft_b0, ft_b1, ft_bI, nr_0, nr_1, nr_bI, ro_, no_, if_true, if_false, ite_true, ite_false, reduceIte, Nat.reduceMod, Nat.reduceEqDiff, Nat.zero_add, Nat.add_zero, lk_, lit_, nI_add, nI_mul, ix_nI, fgk_0, fgk_1, fgk_2, fgk_3, fgk_4, fgk_5, fgk_6, fgk_7, fgk_8, fgk_9, fgk_10, fgk_11, fgk_12, fgk_13, fsk_0, fsk_1, fsk_2, fsk_3, fsk_4, fsk_5, fsk_6, fsk_7, fsk_8, fsk_9, fsk_10, fsk_11, fsk_12, fsk_13, ca_i, ca_r, ca_n, Nat.reduceLT, true_or, or_true, if_true, false_or, or_false, and_true, true_and, List.mem_singleton, eq_self, c0, nf_6, nf_12, z1, z2, nI_leI, hlt, x1, o1, l1, l2, ix_nI, l3, hc, hb, nI_1]
    · rw [bI_f c1] at hc hb
      rw [if_neg c1, ← ih (i + 1) c (by omega)]
      simp (disch := first | assumption | omega) only [K300_1, R_cons, go_nx, go_jp, go_rt, go_th, go_ca, go_no, go_ite, rr_v, rr_n, rr_x, hx_n, hx_p, hx_b, I_push, I_pushl, I_fc0, I_fc1, I_dc0, I_null, I_mask, I_iload, I_lload, I_dload, I_fload, I_aload, I_istore, I_lstore, I_dstore, I_fstore, I_astore, I_iinc, I_iadd, I_isub, I_imul, I_iand, I_ior, I_ixor, I_ishl, I_ishr, I_iushr, I_ineg, I_ladd, I_lsub, I_lmul, I_lxor, I_i2l, I_l2i, I_i2b, I_i2c, I_i2f, I_i2d, I_lcmp, I_fdiv, I_ddiv, I_f2d, I_dcmp, I_dup, I_pop, I_dup_x1, I_dup2, I_icne, I_iceq, I_iclt, I_icge, I_icgt, I_icle, I_ifnull, I_ifnonnull, I_ane, I_aeq, I_goto, I_lsw, I_iret, I_lret, I_fret, I_dret, I_vret, I_nret, I_aret, I_iald, I_bald, I_lald, I_aald, I_iast, I_bast, I_last, I_aast, I_alen, I_new, I_val, I_cast, I_inst, I_obj, I_throw, I_mkx, I_getf, I_putf, I_call, I_calli, I_callv, I_clone, I_getc, i_ifeq, i_ifne, i_iflt, i_ifge, i_ifgt, i_ifle, i_idiv, i_irem, i_newa, i_newo, i_abs, i_max, i_min, i_ldiv, en_, es_i, es_r, es_0, es_n, es_l, List.length_cons, List.length_nil, List.cons_append, List.nil_append, Nat.reduceAdd, Nat.reduceSub, List.replicate, lg_, st1_, st2_, cn_, nl_, mk_, pk_, kd_, sl_, la_, ft_a, ft_i, ft_l, ft_o, ft_n, ft_b0, ft_b1, ft_bI, nr_0, nr_1, nr_bI, ro_, no_, if_true, if_false, ite_true, ite_false, reduceIte, Nat.reduceMod, Nat.reduceEqDiff, Nat.zero_add, Nat.add_zero, lk_, lit_, nI_add, nI_mul, ix_nI, fgk_0, fgk_1, fgk_2, fgk_3, fgk_4, fgk_5, fgk_6, fgk_7, fgk_8, fgk_9, fgk_10, fgk_11, fgk_12, fgk_13, fsk_0, fsk_1, fsk_2, fsk_3, fsk_4, fsk_5, fsk_6, fsk_7, fsk_8, fsk_9, fsk_10, fsk_11, fsk_12, fsk_13, ca_i, ca_r, ca_n, Nat.reduceLT, true_or, or_true, if_true, false_or, or_false, and_true, true_and, List.mem_singleton, eq_self, c0, nf_6, nf_12, z1, z2, nI_leI, hlt, x1, o1, l1, l2, ix_nI, l3, hc, hb, nI_1, Nat.add_zero]
theorem N_closed (h : Nx_ E h0 σ b bb q w N r n s ms ss) : D_ E 300 [.ref b] σ = some (.inl (some (.int (nI (cnt_ (cls_ r n s) (lps_ r n s).length 0 0)))), σ) := by
  rw [D_run]
  simp (disch := omega) only [b300_0, K300_0, l300, R_cons, go_nx, go_jp, go_rt, go_th, go_ca, go_no, go_ite, rr_v, rr_n, rr_x, hx_n, hx_p, hx_b, I_push, I_pushl, I_fc0, I_fc1, I_dc0, I_null, I_mask, I_iload, I_lload, I_dload, I_fload, I_aload, I_istore, I_lstore, I_dstore, I_fstore, I_astore, I_iinc, I_iadd, I_isub, I_imul, I_iand, I_ior, I_ixor, I_ishl, I_ishr, I_iushr, I_ineg, I_ladd, I_lsub, I_lmul, I_lxor, I_i2l, I_l2i, I_i2b, I_i2c, I_i2f, I_i2d, I_lcmp, I_fdiv, I_ddiv, I_f2d, I_dcmp, I_dup, I_pop, I_dup_x1, I_dup2, I_icne, I_iceq, I_iclt, I_icge, I_icgt, I_icle, I_ifnull, I_ifnonnull, I_ane, I_aeq, I_goto, I_lsw, I_iret, I_lret, I_fret, I_dret, I_vret, I_nret, I_aret, I_iald, I_bald, I_lald, I_aald, I_iast, I_bast, I_last, I_aast, I_alen, I_new, I_val, I_cast, I_inst, I_obj, I_throw, I_mkx, I_getf, I_putf, I_call, I_calli, I_callv, I_clone, I_getc, i_ifeq, i_ifne, i_iflt, i_ifge, i_ifgt, i_ifle, i_idiv, i_irem, i_newa, i_newo, i_abs, i_max, i_min, i_ldiv, en_, es_i, es_r, es_0, es_n, es_l, List.length_cons, List.length_nil, List.cons_append, List.nil_append, Nat.reduceAdd, Nat.reduceSub, List.replicate, lg_, st1_, st2_, cn_, nl_, mk_, pk_, kd_, sl_, la_, ft_a, ft_i, ft_l, ft_o, ft_n, ft_b0, ft_b1, ft_bI, nr_0, nr_1, nr_bI, ro_, no_, if_true, if_false, ite_true, ite_false, reduceIte, Nat.reduceMod, Nat.reduceEqDiff, Nat.zero_add, Nat.add_zero, lk_, lit_, nI_add, nI_mul, ix_nI, fgk_0, fgk_1, fgk_2, fgk_3, fgk_4, fgk_5, fgk_6, fgk_7, fgk_8, fgk_9, fgk_10, fgk_11, fgk_12, fgk_13, fsk_0, fsk_1, fsk_2, fsk_3, fsk_4, fsk_5, fsk_6, fsk_7, fsk_8, fsk_9, fsk_10, fsk_11, fsk_12, fsk_13, ca_i, ca_r, ca_n, Nat.reduceLT, true_or, or_true, if_true, false_or, or_false, and_true, true_and, List.mem_singleton, eq_self]
  exact cl_lp h _ 0 0 (by omega)
theorem pc_lp (h : Nx_ E h0 σ b bb q w N r n s ms ss) : ∀ (d i c : Nat), i + d = n → R_ E 301 (B_ E 301 1) [some (.ref b), some (.int (nI c)), some (.int (nI i))] [] σ = some (.inl (some (.int (nI (cnt_ (fun k => decide (prt_ r n s k = k)) d i c)))), σ) := by
  have h12 := wr_n12 h.2.2.2.2.2.2.1
  have hP := (kr_all (r := r) (n := n) (s := s) h12).1
  obtain ⟨am, em, as, es, st, mc, mc', hA⟩ := h.2.2.2.1
  have hsz := J_size (E := E) hA.2.1
  rw [h.2.2.2.2.1] at hsz
  obtain ⟨cap, f, tt, a1, _⟩ := hA.2.1
  have hwc := hA.1
  obtain ⟨lc, ⟨c0, x1, x2, x3, x4, x5, _⟩, _⟩ := id h.1
  intro d
  induction d with
  | zero =>
    intro i c hi
    obtain rfl : i = n := by omega
    rw [b301_1]
    simp (disch := omega) only [K301_1, b301_4, K301_4, R_cons, go_nx, go_jp, go_rt, go_th, go_ca, go_no, go_ite, rr_v, rr_n, rr_x, hx_n, hx_p, hx_b, I_push, I_pushl, I_fc0, I_fc1, I_dc0, I_null, I_mask, I_iload, I_lload, I_dload, I_fload, I_aload, I_istore, I_lstore, I_dstore, I_fstore, I_astore, I_iinc, I_iadd, I_isub, I_imul, I_iand, I_ior, I_ixor, I_ishl, I_ishr, I_iushr, I_ineg, I_ladd, I_lsub, I_lmul, I_lxor, I_i2l, I_l2i, I_i2b, I_i2c, I_i2f, I_i2d, I_lcmp, I_fdiv, I_ddiv, I_f2d, I_dcmp, I_dup, I_pop, I_dup_x1, I_dup2, I_icne, I_iceq, I_iclt, I_icge, I_icgt, I_icle, I_ifnull, I_ifnonnull, I_ane, I_aeq, I_goto, I_lsw, I_iret, I_lret, I_fret, I_dret, I_vret, I_nret, I_aret, I_iald, I_bald, I_lald, I_aald, I_iast, I_bast, I_last, I_aast, I_alen, I_new, I_val, I_cast, I_inst, I_obj, I_throw, I_mkx, I_getf, I_putf, I_call, I_calli, I_callv, I_clone, I_getc, i_ifeq, i_ifne, i_iflt, i_ifge, i_ifgt, i_ifle, i_idiv, i_irem, i_newa, i_newo, i_abs, i_max, i_min, i_ldiv, en_, es_i, es_r, es_0, es_n, es_l, List.length_cons, List.length_nil, List.cons_append, List.nil_append, Nat.reduceAdd, Nat.reduceSub, List.replicate, lg_, st1_, st2_, cn_, nl_, mk_, pk_, kd_, sl_, la_, ft_a, ft_i, ft_l, ft_o, ft_n, ft_b0, ft_b1, ft_bI, nr_0, nr_1, nr_bI, ro_, no_, if_true, if_false, ite_true, ite_false, reduceIte, Nat.reduceMod, Nat.reduceEqDiff, Nat.zero_add, Nat.add_zero, lk_, lit_, nI_add, nI_mul, ix_nI, fgk_0, fgk_1, fgk_2, fgk_3, fgk_4, fgk_5, fgk_6, fgk_7, fgk_8, fgk_9, fgk_10, fgk_11, fgk_12, fgk_13, fsk_0, fsk_1, fsk_2, fsk_3, fsk_4, fsk_5, fsk_6, fsk_7, fsk_8, fsk_9, fsk_10, fsk_11, fsk_12, fsk_13, ca_i, ca_r, ca_n, Nat.reduceLT, true_or, or_true, if_true, false_or, or_false, and_true, true_and, List.mem_singleton, eq_self, c0, nf_12, hwc, a1, hsz, nI_leI, Nat.le_refl]
    rfl
  | succ d ih =>
    intro i c hi
    have hlt : ¬ n ≤ i := by omega
    have hp := h.2.1.2.2.1 i (by omega)
    have hpi := (hP i (by omega)).1
    rw [cnt_, b301_1]
    by_cases c1 : prt_ r n s i = i
    · have hb := S_bit (E := E) (σ := σ) (x := nI 1) (Or.inr rfl)
      rw [if_pos (decide_eq_true c1), ← ih (i + 1) (c + 1) (by omega)]
      rw [c1] at hp
      simp (disch := first | assumption | omega) only [K301_1, b301_3, K301_3, R_cons, go_nx, go_jp, go_rt, go_th, go_ca, go_no, go_ite, rr_v, rr_n, rr_x, hx_n, hx_p, hx_b, I_push, I_pushl, I_fc0, I_fc1, I_dc0, I_null, I_mask, I_iload, I_lload, I_dload, I_fload, I_aload, I_istore, I_lstore, I_dstore, I_fstore, I_astore, I_iinc, I_iadd, I_isub, I_imul, I_iand, I_ior, I_ixor, I_ishl, I_ishr, I_iushr, I_ineg, I_ladd, I_lsub, I_lmul, I_lxor, I_i2l, I_l2i, I_i2b, I_i2c, I_i2f, I_i2d, I_lcmp, I_fdiv, I_ddiv, I_f2d, I_dcmp, I_dup, I_pop, I_dup_x1, I_dup2, I_icne, I_iceq, I_iclt, I_icge, I_icgt, I_icle, I_ifnull, I_ifnonnull, I_ane, I_aeq, I_goto, I_lsw, I_iret, I_lret, I_fret, I_dret, I_vret, I_nret, I_aret, I_iald, I_bald, I_lald, I_aald, I_iast, I_bast, I_last, I_aast, I_alen, I_new, I_val, I_cast, I_inst, I_obj, I_throw, I_mkx, I_getf, I_putf, I_call, I_calli, I_callv, I_clone, I_getc, i_ifeq, i_ifne, i_iflt, i_ifge, i_ifgt, i_ifle, i_idiv, i_irem, i_newa, i_newo, i_abs, i_max, i_min, i_ldiv, en_, es_i, es_r, es_0, es_n, es_l, List.length_cons, List.length_nil, List.cons_append, List.nil_append, Nat.reduceAdd, Nat.reduceSub, List.replicate, lg_, st1_, st2_, cn_, nl_, mk_, pk_, kd_, sl_, la_, ft_a, ft_i, ft_l, ft_o, ft_n, ft_b0, ft_b1, ft_bI, nr_0, nr_1, nr_bI, ro_, no_, if_true, if_false, ite_true, ite_false, reduceIte, Nat.reduceMod, Nat.reduceEqDiff, Nat.zero_add, Nat.add_zero, lk_, lit_, nI_add, nI_mul, ix_nI, fgk_0, fgk_1, fgk_2, fgk_3, fgk_4, fgk_5, fgk_6, fgk_7, fgk_8, fgk_9, fgk_10, fgk_11, fgk_12, fgk_13, fsk_0, fsk_1, fsk_2, fsk_3, fsk_4, fsk_5, fsk_6, fsk_7, fsk_8, fsk_9, fsk_10, fsk_11, fsk_12, fsk_13, ca_i, ca_r, ca_n, Nat.reduceLT, true_or, or_true, if_true, false_or, or_false, and_true, true_and, List.mem_singleton, eq_self, c0, nf_12, nf_4, hwc, a1, hsz, nI_leI, hlt, x5, ix_nI, hp, hb, nI_1]
    · have hb := S_bit (E := E) (σ := σ) (x := nI 0) (Or.inl rfl)
      have c1' : ¬ nI (prt_ r n s i) = nI i := by rw [nI_eq (by omega) (by omega)]; exact c1
      rw [if_neg (by rw [decide_eq_true_eq]; exact c1), ← ih (i + 1) c (by omega)]
      simp (disch := first | assumption | omega) only [K301_1, b301_2, K301_2, b301_3, K301_3, R_cons, go_nx, go_jp, go_rt, go_th, go_ca, go_no, go_ite, rr_v, rr_n, rr_x, hx_n, hx_p, hx_b, I_push, I_pushl, I_fc0, I_fc1, I_dc0, I_null, I_mask, I_iload, I_lload, I_dload, I_fload, I_aload, I_istore, I_lstore, I_dstore, I_fstore, I_astore, I_iinc, I_iadd, I_isub, I_imul, I_iand, I_ior, I_ixor, I_ishl, I_ishr, I_iushr, I_ineg, I_ladd, I_lsub, I_lmul, I_lxor, I_i2l, I_l2i, I_i2b, I_i2c, I_i2f, I_i2d, I_lcmp, I_fdiv, I_ddiv, I_f2d, I_dcmp, I_dup, I_pop, I_dup_x1, I_dup2, I_icne, I_iceq, I_iclt, I_icge, I_icgt, I_icle, I_ifnull, I_ifnonnull, I_ane, I_aeq, I_goto, I_lsw, I_iret, I_lret, I_fret, I_dret, I_vret, I_nret, I_aret, I_iald, I_bald, I_lald, I_aald, I_iast, I_bast, I_last, I_aast, I_alen, I_new, I_val, I_cast, I_inst, I_obj, I_throw, I_mkx, I_getf, I_putf, I_call, I_calli, I_callv, I_clone, I_getc, i_ifeq, i_ifne, i_iflt, i_ifge, i_ifgt, i_ifle, i_idiv, i_irem, i_newa, i_newo, i_abs, i_max, i_min, i_ldiv, en_, es_i, es_r, es_0, es_n, es_l, List.length_cons, List.length_nil, List.cons_append, List.nil_append, Nat.reduceAdd, Nat.reduceSub, List.replicate, lg_, st1_, st2_, cn_, nl_, mk_, pk_, kd_, sl_, la_, ft_a, ft_i, ft_l, ft_o, ft_n, ft_b0, ft_b1, ft_bI, nr_0, nr_1, nr_bI, ro_, no_, if_true, if_false, ite_true, ite_false, reduceIte, Nat.reduceMod, Nat.reduceEqDiff, Nat.zero_add, Nat.add_zero, lk_, lit_, nI_add, nI_mul, ix_nI, fgk_0, fgk_1, fgk_2, fgk_3, fgk_4, fgk_5, fgk_6, fgk_7, fgk_8, fgk_9, fgk_10, fgk_11, fgk_12, fgk_13, fsk_0, fsk_1, fsk_2, fsk_3, fsk_4, fsk_5, fsk_6, fsk_7, fsk_8, fsk_9, fsk_10, fsk_11, fsk_12, fsk_13, ca_i, ca_r, ca_n, Nat.reduceLT, true_or, or_true, if_true, false_or, or_false, and_true, true_and, List.mem_singleton, eq_self, c0, nf_12, nf_4, hwc, a1, hsz, nI_leI, hlt, x5, ix_nI, hp, c1', hb, nI_1, Nat.add_zero]
theorem N_partCount (h : Nx_ E h0 σ b bb q w N r n s ms ss) : D_ E 301 [.ref b] σ = some (.inl (some (.int (nI (cnt_ (fun k => decide (prt_ r n s k = k)) n 0 0)))), σ) := by
  rw [D_run]
  simp (disch := omega) only [b301_0, K301_0, l301, R_cons, go_nx, go_jp, go_rt, go_th, go_ca, go_no, go_ite, rr_v, rr_n, rr_x, hx_n, hx_p, hx_b, I_push, I_pushl, I_fc0, I_fc1, I_dc0, I_null, I_mask, I_iload, I_lload, I_dload, I_fload, I_aload, I_istore, I_lstore, I_dstore, I_fstore, I_astore, I_iinc, I_iadd, I_isub, I_imul, I_iand, I_ior, I_ixor, I_ishl, I_ishr, I_iushr, I_ineg, I_ladd, I_lsub, I_lmul, I_lxor, I_i2l, I_l2i, I_i2b, I_i2c, I_i2f, I_i2d, I_lcmp, I_fdiv, I_ddiv, I_f2d, I_dcmp, I_dup, I_pop, I_dup_x1, I_dup2, I_icne, I_iceq, I_iclt, I_icge, I_icgt, I_icle, I_ifnull, I_ifnonnull, I_ane, I_aeq, I_goto, I_lsw, I_iret, I_lret, I_fret, I_dret, I_vret, I_nret, I_aret, I_iald, I_bald, I_lald, I_aald, I_iast, I_bast, I_last, I_aast, I_alen, I_new, I_val, I_cast, I_inst, I_obj, I_throw, I_mkx, I_getf, I_putf, I_call, I_calli, I_callv, I_clone, I_getc, i_ifeq, i_ifne, i_iflt, i_ifge, i_ifgt, i_ifle, i_idiv, i_irem, i_newa, i_newo, i_abs, i_max, i_min, i_ldiv, en_, es_i, es_r, es_0, es_n, es_l, List.length_cons, List.length_nil, List.cons_append, List.nil_append, Nat.reduceAdd, Nat.reduceSub, List.replicate, lg_, st1_, st2_, cn_, nl_, mk_, pk_, kd_, sl_, la_, ft_a, ft_i, ft_l, ft_o, ft_n, ft_b0, ft_b1, ft_bI, nr_0, nr_1, nr_bI, ro_, no_, if_true, if_false, ite_true, ite_false, reduceIte, Nat.reduceMod, Nat.reduceEqDiff, Nat.zero_add, Nat.add_zero, lk_, lit_, nI_add, nI_mul, ix_nI, fgk_0, fgk_1, fgk_2, fgk_3, fgk_4, fgk_5, fgk_6, fgk_7, fgk_8, fgk_9, fgk_10, fgk_11, fgk_12, fgk_13, fsk_0, fsk_1, fsk_2, fsk_3, fsk_4, fsk_5, fsk_6, fsk_7, fsk_8, fsk_9, fsk_10, fsk_11, fsk_12, fsk_13, ca_i, ca_r, ca_n, Nat.reduceLT, true_or, or_true, if_true, false_or, or_false, and_true, true_and, List.mem_singleton, eq_self]
  exact pc_lp h _ 0 0 (by omega)
theorem lw3_lp {e : Nat} {op : Bool} (he : e < 144) (h : Nx_ E h0 σ b bb q w N r n s ms ss) : ∀ (d i c : Nat), i + d = (lps_ r n s).length → R_ E 303 (B_ E 303 1) [some (.ref b), some (.int (nI e)), some (.int (bI (op = true))), some (.int (nI c)), some (.int (nI i))] [] σ = some (.inl (some (.int (nI (cnt_ (fun i => hed_ r n s i e && (!op || !(cls_ r n s i))) d i c)))), σ) := by
  have hle := lps_le (r := r) (s := s) (wr_n12 h.2.2.2.2.2.2.1)
  have hW := h.2.2.2.2.2.2.1
  obtain ⟨⟨fs, z1⟩, z2, z3⟩ := Nx_size (E := E) h
  obtain ⟨am, as, st, w1, w2, g, l1, l2, l3⟩ := Nx_lim h
  obtain ⟨lc, ⟨c0, _⟩, _⟩ := id h.1
  intro d
  induction d with
  | zero =>
    intro i c hi
    obtain rfl : i = (lps_ r n s).length := by omega
    rw [b303_1]
    simp (disch := omega) only [K303_1, b303_5, K303_5, R_cons, go_nx, go_jp, go_rt, go_th, go_ca, go_no, go_ite, rr_v, rr_n, rr_x, hx_n, hx_p, hx_b, I_push, I_pushl, I_fc0, I_fc1, I_dc0, I_null, I_mask, I_iload, I_lload, I_dload, I_fload, I_aload, I_istore, I_lstore, I_dstore, I_fstore, I_astore, I_iinc, I_iadd, I_isub, I_imul, I_iand, I_ior, I_ixor, I_ishl, I_ishr, I_iushr, I_ineg, I_ladd, I_lsub, I_lmul, I_lxor, I_i2l, I_l2i, I_i2b, I_i2c, I_i2f, I_i2d, I_lcmp, I_fdiv, I_ddiv, I_f2d, I_dcmp, I_dup, I_pop, I_dup_x1, I_dup2, I_icne, I_iceq, I_iclt, I_icge, I_icgt, I_icle, I_ifnull, I_ifnonnull, I_ane, I_aeq, I_goto, I_lsw, I_iret, I_lret, I_fret, I_dret, I_vret, I_nret, I_aret, I_iald, I_bald, I_lald, I_aald, I_iast, I_bast, I_last, I_aast, I_alen, I_new, I_val, I_cast, I_inst, I_obj, I_throw, I_mkx, I_getf, I_putf, I_call, I_calli, I_callv, I_clone, I_getc, i_ifeq, i_ifne, i_iflt, i_ifge, i_ifgt, i_ifle, i_idiv, i_irem, i_newa, i_newo, i_abs, i_max, i_min, i_ldiv, en_, es_i, es_r, es_0, es_n, es_l, List.length_cons, List.length_nil, List.cons_append, List.nil_append, Nat.reduceAdd, Nat.reduceSub, List.replicate, lg_, st1_, st2_, cn_, nl_, mk_, pk_, kd_, sl_, la_, ft_a, ft_i, ft_l, ft_o, ft_n, ft_b0, ft_b1, ft_bI, nr_0, nr_1, nr_bI, ro_, no_, if_true, if_false, ite_true, ite_false, reduceIte, Nat.reduceMod, Nat.reduceEqDiff, Nat.zero_add, Nat.add_zero, lk_, lit_, nI_add, nI_mul, ix_nI, fgk_0, fgk_1, fgk_2, fgk_3, fgk_4, fgk_5, fgk_6, fgk_7, fgk_8, fgk_9, fgk_10, fgk_11, fgk_12, fgk_13, fsk_0, fsk_1, fsk_2, fsk_3, fsk_4, fsk_5, fsk_6, fsk_7, fsk_8, fsk_9, fsk_10, fsk_11, fsk_12, fsk_13, ca_i, ca_r, ca_n, Nat.reduceLT, true_or, or_true, if_true, false_or, or_false, and_true, true_and, List.mem_singleton, eq_self, c0, nf_6, z1, z2, nI_leI, Nat.le_refl]
    rfl
  | succ d ih =>
    intro i c hi
    have hlt : ¬ (lps_ r n s).length ≤ i := by omega
    have hi1 : i < (lps_ r n s).length := by omega
    obtain ⟨x, x1, x2⟩ := Nx_loop (E := E) h hi1
    have hc := L_closes (E := E) (l := r 5) x2
    rw [show clo_ (mis_ r n s i) (wal_ r n s i) (r 5) = cls_ r n s i from rfl] at hc
    have hh := L_has (E := E) hW hi1 x2 he
    have hb1 := S_bit (E := E) (σ := σ) (x := nI 1) (Or.inr rfl)
    have hb0 := S_bit (E := E) (σ := σ) (x := nI 0) (Or.inl rfl)
    obtain ⟨a, f, o1, o2, o3⟩ := x2
    have ih0 := ih (i + 1) c (by omega)
    have ih1 := ih (i + 1) (c + 1) (by omega)
    rw [cnt_, b303_1]
    by_cases c1 : hed_ r n s i e = true
    · rw [bI_t c1] at hh
      cases op with
      | false =>
        have eb : bI (false = true) = nI 0 := rfl
        rw [eb] at ih1 ⊢
        rw [if_pos (by rw [c1]; rfl), ← ih1]
        simp (disch := first | assumption | omega) only [K303_1, b303_2, K303_2, b303_4, K303_4, R_cons, go_nx, go_jp, go_rt, go_th, go_ca, go_no, go_ite, rr_v, rr_n, rr_x, hx_n, hx_p, hx_b, I_push, I_pushl, I_fc0, I_fc1, I_dc0, I_null, I_mask, I_iload, I_lload, I_dload, I_fload, I_aload, I_istore, I_lstore, I_dstore, I_fstore, I_astore, I_iinc, I_iadd, I_isub, I_imul, I_iand, I_ior, I_ixor, I_ishl, I_ishr, I_iushr, I_ineg, I_ladd, I_lsub, I_lmul, I_lxor, I_i2l, I_l2i, I_i2b, I_i2c, I_i2f, I_i2d, I_lcmp, I_fdiv, I_ddiv, I_f2d, I_dcmp, I_dup, I_pop, I_dup_x1, I_dup2, I_icne, I_iceq, I_iclt, I_icge, I_icgt, I_icle, I_ifnull, I_ifnonnull, I_ane, I_aeq, I_goto, I_lsw, I_iret, I_lret, I_fret, I_dret, I_vret, I_nret, I_aret, I_iald, I_bald, I_lald, I_aald, I_iast, I_bast, I_last, I_aast, I_alen, I_new, I_val, I_cast, I_inst, I_obj, I_throw, I_mkx, I_getf, I_putf, I_call, I_calli, I_callv, I_clone, I_getc, i_ifeq, i_ifne, i_iflt, i_ifge, i_ifgt, i_ifle, i_idiv, i_irem, i_newa, i_newo, i_abs, i_max, i_min, i_ldiv, en_, es_i, es_r, es_0, es_n, es_l, List.length_cons, List.length_nil, List.cons_append, List.nil_append, Nat.reduceAdd, Nat.reduceSub, List.replicate, lg_, st1_, st2_, cn_, nl_, mk_, pk_, kd_, sl_, la_, ft_a, ft_i, ft_l, ft_o, ft_n, ft_b0, ft_b1, ft_bI, nr_0, nr_1, nr_bI, ro_, no_, if_true, if_false, ite_true, ite_false, reduceIte, Nat.reduceMod, Nat.reduceEqDiff, Nat.zero_add, Nat.add_zero, lk_, lit_, nI_add, nI_mul, ix_nI, fgk_0, fgk_1, fgk_2, fgk_3, fgk_4, fgk_5, fgk_6, fgk_7, fgk_8, fgk_9, fgk_10, fgk_11, fgk_12, fgk_13, fsk_0, fsk_1, fsk_2, fsk_3, fsk_4, fsk_5, fsk_6, fsk_7, fsk_8, fsk_9, fsk_10, fsk_11, fsk_12, fsk_13, ca_i, ca_r, ca_n, Nat.reduceLT, true_or, or_true, if_true, false_or, or_false, and_true, true_and, List.mem_singleton, eq_self, c0, nf_6, nf_12, z1, z2, nI_leI, hlt, x1, o1, hh, n10_, hb1, nI_1]
      | true =>
        have eb : bI (true = true) = nI 1 := rfl
        rw [eb] at ih1 ih0 ⊢
        by_cases c2 : cls_ r n s i = true
        · rw [bI_t c2] at hc
          rw [if_neg (by rw [c1, c2]; decide), ← ih0]
          simp (disch := first | assumption | omega) only [K303_1, b303_3, K303_3, b303_4, K303_4, R_cons, go_nx, go_jp, go_rt, go_th, go_ca, go_no, go_ite, rr_v, rr_n, rr_x, hx_n, hx_p, hx_b, I_push, I_pushl, I_fc0, I_fc1, I_dc0, I_null, I_mask, I_iload, I_lload, I_dload, I_fload, I_aload, I_istore, I_lstore, I_dstore, I_fstore, I_astore, I_iinc, I_iadd, I_isub, I_imul, I_iand, I_ior, I_ixor, I_ishl, I_ishr, I_iushr, I_ineg, I_ladd, I_lsub, I_lmul, I_lxor, I_i2l, I_l2i, I_i2b, I_i2c, I_i2f, I_i2d, I_lcmp, I_fdiv, I_ddiv, I_f2d, I_dcmp, I_dup, I_pop, I_dup_x1, I_dup2, I_icne, I_iceq, I_iclt, I_icge, I_icgt, I_icle, I_ifnull, I_ifnonnull, I_ane, I_aeq, I_goto, I_lsw, I_iret, I_lret, I_fret, I_dret, I_vret, I_nret, I_aret, I_iald, I_bald, I_lald, I_aald, I_iast, I_bast, I_last, I_aast, I_alen, I_new, I_val, I_cast, I_inst, I_obj, I_throw, I_mkx, I_getf, I_putf, I_call, I_calli, I_callv, I_clone, I_getc, i_ifeq, i_ifne, i_iflt, i_ifge, i_ifgt, i_ifle, i_idiv, i_irem, i_newa, i_newo, i_abs, i_max, i_min, i_ldiv, en_, es_i, es_r, es_0, es_n, es_l, List.length_cons, List.length_nil, List.cons_append, List.nil_append, Nat.reduceAdd, Nat.reduceSub, List.replicate, lg_, st1_, st2_, cn_, nl_, mk_, pk_, kd_, sl_, la_, ft_a, ft_i, ft_l, ft_o, ft_n, ft_b0, ft_b1, ft_bI, nr_0, nr_1, nr_bI, ro_, no_, if_true, if_false, ite_true, ite_false, reduceIte, Nat.reduceMod, Nat.reduceEqDiff, Nat.zero_add, Nat.add_zero, lk_, lit_, nI_add, nI_mul, ix_nI, fgk_0, fgk_1, fgk_2, fgk_3, fgk_4, fgk_5, fgk_6, fgk_7, fgk_8, fgk_9, fgk_10, fgk_11, fgk_12, fgk_13, fsk_0, fsk_1, fsk_2, fsk_3, fsk_4, fsk_5, fsk_6, fsk_7, fsk_8, fsk_9, fsk_10, fsk_11, fsk_12, fsk_13, ca_i, ca_r, ca_n, Nat.reduceLT, true_or, or_true, if_true, false_or, or_false, and_true, true_and, List.mem_singleton, eq_self, c0, nf_6, nf_12, z1, z2, nI_leI, hlt, x1, o1, hh, n10_, l1, l2, ix_nI, l3, hc, hb0, nI_1, Nat.add_zero]
        · rw [bI_f c2] at hc
          rw [if_pos (by rw [c1]; simpa using c2), ← ih1]
          simp (disch := first | assumption | omega) only [K303_1, b303_2, K303_2, b303_4, K303_4, R_cons, go_nx, go_jp, go_rt, go_th, go_ca, go_no, go_ite, rr_v, rr_n, rr_x, hx_n, hx_p, hx_b, I_push, I_pushl, I_fc0, I_fc1, I_dc0, I_null, I_mask, I_iload, I_lload, I_dload, I_fload, I_aload, I_istore, I_lstore, I_dstore, I_fstore, I_astore, I_iinc, I_iadd, I_isub, I_imul, I_iand, I_ior, I_ixor, I_ishl, I_ishr, I_iushr, I_ineg, I_ladd, I_lsub, I_lmul, I_lxor, I_i2l, I_l2i, I_i2b, I_i2c, I_i2f, I_i2d, I_lcmp, I_fdiv, I_ddiv, I_f2d, I_dcmp, I_dup, I_pop, I_dup_x1, I_dup2, I_icne, I_iceq, I_iclt, I_icge, I_icgt, I_icle, I_ifnull, I_ifnonnull, I_ane, I_aeq, I_goto, I_lsw, I_iret, I_lret, I_fret, I_dret, I_vret, I_nret, I_aret, I_iald, I_bald, I_lald, I_aald, I_iast, I_bast, I_last, I_aast, I_alen, I_new, I_val, I_cast, I_inst, I_obj, I_throw, I_mkx, I_getf, I_putf, I_call, I_calli, I_callv, I_clone, I_getc, i_ifeq, i_ifne, i_iflt, i_ifge, i_ifgt, i_ifle, i_idiv, i_irem, i_newa, i_newo, i_abs, i_max, i_min, i_ldiv, en_, es_i, es_r, es_0, es_n, es_l, List.length_cons, List.length_nil, List.cons_append, List.nil_append, Nat.reduceAdd, Nat.reduceSub, List.replicate, lg_, st1_, st2_, cn_, nl_, mk_, pk_, kd_, sl_, la_, ft_a, ft_i, ft_l, ft_o, ft_n, ft_b0, ft_b1, ft_bI, nr_0, nr_1, nr_bI, ro_, no_, if_true, if_false, ite_true, ite_false, reduceIte, Nat.reduceMod, Nat.reduceEqDiff, Nat.zero_add, Nat.add_zero, lk_, lit_, nI_add, nI_mul, ix_nI, fgk_0, fgk_1, fgk_2, fgk_3, fgk_4, fgk_5, fgk_6, fgk_7, fgk_8, fgk_9, fgk_10, fgk_11, fgk_12, fgk_13, fsk_0, fsk_1, fsk_2, fsk_3, fsk_4, fsk_5, fsk_6, fsk_7, fsk_8, fsk_9, fsk_10, fsk_11, fsk_12, fsk_13, ca_i, ca_r, ca_n, Nat.reduceLT, true_or, or_true, if_true, false_or, or_false, and_true, true_and, List.mem_singleton, eq_self, c0, nf_6, nf_12, z1, z2, nI_leI, hlt, x1, o1, hh, n10_, l1, l2, ix_nI, l3, hc, hb1, nI_1]
    · rw [bI_f c1] at hh
      rw [if_neg (by intro q; rw [Bool.and_eq_true] at q; exact c1 q.1), ← ih0]
      simp (disch := first | assumption | omega) only [K303_1, b303_3, K303_3, b303_4, K303_4, R_cons, go_nx, go_jp, go_rt, go_th, go_ca, go_no, go_ite, rr_v, rr_n, rr_x, hx_n, hx_p, hx_b, I_push, I_pushl, I_fc0, I_fc1, I_dc0, I_null, I_mask, I_iload, I_lload, I_dload, I_fload, I_aload, I_istore, I_lstore, I_dstore, I_fstore, I_astore, I_iinc, I_iadd, I_isub, I_imul, I_iand, I_ior, I_ixor, I_ishl, I_ishr, I_iushr, I_ineg, I_ladd, I_lsub, I_lmul, I_lxor, I_i2l, I_l2i, I_i2b, I_i2c, I_i2f, I_i2d, I_lcmp, I_fdiv, I_ddiv, I_f2d, I_dcmp, I_dup, I_pop, I_dup_x1, I_dup2, I_icne, I_iceq, I_iclt, I_icge, I_icgt, I_icle, I_ifnull, I_ifnonnull, I_ane, I_aeq, I_goto, I_lsw, I_iret, I_lret, I_fret, I_dret, I_vret, I_nret, I_aret, I_iald, I_bald, I_lald, I_aald, I_iast, I_bast, I_last, I_aast, I_alen, I_new, I_val, I_cast, I_inst, I_obj, I_throw, I_mkx, I_getf, I_putf, I_call, I_calli, I_callv, I_clone, I_getc, i_ifeq, i_ifne, i_iflt, i_ifge, i_ifgt, i_ifle, i_idiv, i_irem, i_newa, i_newo, i_abs, i_max, i_min, i_ldiv, en_, es_i, es_r, es_0, es_n, es_l, List.length_cons, List.length_nil, List.cons_append, List.nil_append, Nat.reduceAdd, Nat.reduceSub, List.replicate, lg_, st1_, st2_, cn_, nl_, mk_, pk_, kd_, sl_, la_, ft_a, ft_i, ft_l, ft_o, ft_n, ft_b0, ft_b1, ft_bI, nr_0, nr_1, nr_bI, ro_, no_, if_true, if_false, ite_true, ite_false, reduceIte, Nat.reduceMod, Nat.reduceEqDiff, Nat.zero_add, Nat.add_zero, lk_, lit_, nI_add, nI_mul, ix_nI, fgk_0, fgk_1, fgk_2, fgk_3, fgk_4, fgk_5, fgk_6, fgk_7, fgk_8, fgk_9, fgk_10, fgk_11, fgk_12, fgk_13, fsk_0, fsk_1, fsk_2, fsk_3, fsk_4, fsk_5, fsk_6, fsk_7, fsk_8, fsk_9, fsk_10, fsk_11, fsk_12, fsk_13, ca_i, ca_r, ca_n, Nat.reduceLT, true_or, or_true, if_true, false_or, or_false, and_true, true_and, List.mem_singleton, eq_self, c0, nf_6, nf_12, z1, z2, nI_leI, hlt, x1, o1, hh, hb0, nI_1, Nat.add_zero]
theorem N_loopsWith {e : Nat} {op : Bool} (he : e < 144) (h : Nx_ E h0 σ b bb q w N r n s ms ss) : D_ E 303 [.ref b, .int (nI e), .int (bI (op = true))] σ = some (.inl (some (.int (nI (lwi_ r n s e op)))), σ) := by
  rw [D_run]
  simp (disch := omega) only [b303_0, K303_0, l303, R_cons, go_nx, go_jp, go_rt, go_th, go_ca, go_no, go_ite, rr_v, rr_n, rr_x, hx_n, hx_p, hx_b, I_push, I_pushl, I_fc0, I_fc1, I_dc0, I_null, I_mask, I_iload, I_lload, I_dload, I_fload, I_aload, I_istore, I_lstore, I_dstore, I_fstore, I_astore, I_iinc, I_iadd, I_isub, I_imul, I_iand, I_ior, I_ixor, I_ishl, I_ishr, I_iushr, I_ineg, I_ladd, I_lsub, I_lmul, I_lxor, I_i2l, I_l2i, I_i2b, I_i2c, I_i2f, I_i2d, I_lcmp, I_fdiv, I_ddiv, I_f2d, I_dcmp, I_dup, I_pop, I_dup_x1, I_dup2, I_icne, I_iceq, I_iclt, I_icge, I_icgt, I_icle, I_ifnull, I_ifnonnull, I_ane, I_aeq, I_goto, I_lsw, I_iret, I_lret, I_fret, I_dret, I_vret, I_nret, I_aret, I_iald, I_bald, I_lald, I_aald, I_iast, I_bast, I_last, I_aast, I_alen, I_new, I_val, I_cast, I_inst, I_obj, I_throw, I_mkx, I_getf, I_putf, I_call, I_calli, I_callv, I_clone, I_getc, i_ifeq, i_ifne, i_iflt, i_ifge, i_ifgt, i_ifle, i_idiv, i_irem, i_newa, i_newo, i_abs, i_max, i_min, i_ldiv, en_, es_i, es_r, es_0, es_n, es_l, List.length_cons, List.length_nil, List.cons_append, List.nil_append, Nat.reduceAdd, Nat.reduceSub, List.replicate, lg_, st1_, st2_, cn_, nl_, mk_, pk_, kd_, sl_, la_, ft_a, ft_i, ft_l, ft_o, ft_n, ft_b0, ft_b1, ft_bI, nr_0, nr_1, nr_bI, ro_, no_, if_true, if_false, ite_true, ite_false, reduceIte, Nat.reduceMod, Nat.reduceEqDiff, Nat.zero_add, Nat.add_zero, lk_, lit_, nI_add, nI_mul, ix_nI, fgk_0, fgk_1, fgk_2, fgk_3, fgk_4, fgk_5, fgk_6, fgk_7, fgk_8, fgk_9, fgk_10, fgk_11, fgk_12, fgk_13, fsk_0, fsk_1, fsk_2, fsk_3, fsk_4, fsk_5, fsk_6, fsk_7, fsk_8, fsk_9, fsk_10, fsk_11, fsk_12, fsk_13, ca_i, ca_r, ca_n, Nat.reduceLT, true_or, or_true, if_true, false_or, or_false, and_true, true_and, List.mem_singleton, eq_self]
  exact lw3_lp he h _ 0 0 (by omega)
end CNR
