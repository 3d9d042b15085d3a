section CNM
variable {E : En_} {σ : As_} {w n s b bb q : Nat} {r : Nat → Int32} {ms ss : List Nat} {h0 : Nat → Option Ac_} {lc : Ac_} {N : Nat → Nat → Int32} {hg dp : Nat → Nat}
/-- the rows of a way under way -/
def Wy_ (f : Nat → Int32) (l1 l2 : List Nat) : Prop := Rw_ f l1 ∧ ∀ i z, l2[i]? = some z → f (12 - l2.length + i) = nI z
theorem lw_lp (hn : n ≤ 12) (hD : Dn_ n (prt_ r n s) (tkn_ r n s) hg dp) (h8 : ∀ k, k < n → 0 < dp k → N 8 k = nI (hg k)) (h9 : ∀ k, k < n → N 9 k = nI (dp k) ∧ dp k ≤ 12) {P : List Nat} (hP : P.length ≤ 12) : ∀ (m a c : Nat) (l1 l2 : List Nat) (N' : Nat → Nat → Int32) (σ : As_) (u1 u2 : Option Value), (pth_ r n s a c).length ≤ m → a < n → c < n → prt_ r n s a = prt_ r n s c → l1 ++ pth_ r n s a c ++ l2 = P → NV_ h0 σ b bb q w lc N' → N' 8 = N 8 → N' 9 = N 9 → N' 11 0 = nI l1.length → Wy_ (N' 10) l1 l2 →
    ∃ σ' f x l1' l2' z, R_ E 296 (B_ E 296 1) [some (.ref b), u1, u2, some (.int (nI a)), some (.int (nI c)), some (.int (nI (12 - l2.length)))] [] σ = R_ E 296 (B_ E 296 3) [some (.ref b), none, none, some (.int (nI z)), some (.int (nI z)), some (.int (nI (12 - l2'.length)))] [] σ' ∧ NV_ h0 σ' b bb q w lc (um (um N' 10 f) 11 (fun _ => x)) ∧ x = nI l1'.length ∧ Wy_ f l1' l2' ∧ l1' ++ z :: l2' = P ∧ z < n ∧ σ'.1 = σ.1 ∧ σ'.2.1 = σ.2.1 ∧ (∀ x, x ≠ b → x ≠ q + 2 → σ'.2.2 x = σ.2.2 x) := by
  intro m
  induction m with
  | zero =>
    intro a c l1 l2 N' σ u1 u2 hm ha hc hac hl h e8 e9 e11 hw
    obtain ⟨⟨h1, h2, h3⟩, _⟩ := pth_spec (r := r) (s := s) hn ha hc hac
    rw [List.length_eq_zero_iff.mp (Nat.le_zero.mp hm)] at h2
    cases h2
  | succ m ih =>
    intro a c l1 l2 N' σ u1 u2 hm ha hc hac hl h e8 e9 e11 hw
    obtain ⟨⟨c0, c1, c2, c3, c4, c5, c6, c8, c9, c10, _⟩, _⟩ := id h
    have hbq := h.2.2.2.2
    by_cases e : a = c
    · subst e
      rw [pth_self hn ha] at hl
      refine ⟨σ, N' 10, N' 11 0, l1, l2, a, ?_, ?_, e11, hw, by rw [← hl]; simp, ha, rfl, rfl, fun _ _ _ => rfl⟩
      · conv => lhs; rw [b296_1]
        simp (disch := omega) only [K296_1, R_cons, go_nx, go_jp, go_rt, go_th, go_ca, go_no, go_ite, rr_v, rr_n, rr_x, hx_n, hx_p, hx_b, I_push, I_pushl, I_fc0, I_fc1, I_dc0, I_null, I_mask, I_iload, I_lload, I_dload, I_fload, I_aload, I_istore, I_lstore, I_dstore, I_fstore, I_astore, I_iinc, I_iadd, I_isub, I_imul, I_iand, I_ior, I_ixor, I_ishl, I_ishr, I_iushr, I_ineg, I_ladd, I_lsub, I_lmul, I_lxor, I_i2l, I_l2i, I_i2b, I_i2c, I_i2f, I_i2d, I_lcmp, I_fdiv, I_ddiv, I_f2d, I_dcmp, I_dup, I_pop, I_dup_x1, I_dup2, I_icne, I_iceq, I_iclt, I_icge, I_icgt, I_icle, I_ifnull, I_ifnonnull, I_ane, I_aeq, I_goto, I_lsw, I_iret, I_lret, I_fret, I_dret, I_vret, I_nret, I_aret, I_iald, I_bald, I_lald, I_aald, I_iast, I_bast, I_last, I_aast, I_alen, I_new, I_val, I_cast, I_inst, I_obj, I_throw, I_mkx, I_getf, I_putf, I_call, I_calli, I_callv, I_clone, I_getc, i_ifeq, i_ifne, i_iflt, i_ifge, i_ifgt, i_ifle, i_idiv, i_irem, i_newa, i_newo, i_abs, i_max, i_min, i_ldiv, en_, es_i, es_r, es_0, es_n, es_l, List.length_cons, List.length_nil, List.cons_append, List.nil_append, Nat.reduceAdd, Nat.reduceSub, List.replicate, lg_, st1_, st2_, cn_, nl_, mk_, pk_, kd_, sl_, la_, ft_a, ft_i, ft_l, ft_o, ft_n, ft_b0, ft_b1, ft_bI, nr_0, nr_1, nr_bI, ro_, no_, if_true, if_false, ite_true, ite_false, reduceIte, Nat.reduceMod, Nat.reduceEqDiff, Nat.zero_add, Nat.add_zero, lk_, lit_, nI_add, nI_mul, ix_nI, fgk_0, fgk_1, fgk_2, fgk_3, fgk_4, fgk_5, fgk_6, fgk_7, fgk_8, fgk_9, fgk_10, fgk_11, fgk_12, fgk_13, fsk_0, fsk_1, fsk_2, fsk_3, fsk_4, fsk_5, fsk_6, fsk_7, fsk_8, fsk_9, fsk_10, fsk_11, fsk_12, fsk_13, ca_i, ca_r, ca_n, Nat.reduceLT, true_or, or_true, if_true, false_or, or_false, and_true, true_and, List.mem_singleton, eq_self]
      · rw [um_id]
        exact h
    · have e' : ¬ nI a = nI c := by rw [nI_eq (by omega) (by omega)]; exact e
      have da := h9 a ha
      have dc := h9 c hc
      by_cases cd : dp a < dp c
      · obtain ⟨p1, p2, p3, p4⟩ := pth_dn hn hD ha hc hac cd
        have hlen : l1.length + ((pth_ r n s a (hg c)).length + 1) + l2.length ≤ 12 := by
          rw [← hl, p1] at hP
          simp only [List.length_append, List.length_cons, List.length_nil] at hP
          omega
        have hgc := h8 c hc p4
        have h1 := NV_10 (f := upd (N' 10) (12 - (l2.length + 1)) (nI c)) h
        obtain ⟨σ', f, x, l1', l2', z, g1, g2, g3, g4, g5, g6, g7, g8, g9⟩ := ih a (hg c) l1 (c :: l2) _ _ none none (by rw [p1] at hm; simp only [List.length_append, List.length_cons, List.length_nil] at hm; omega) ha p2 p3 (by rw [← hl, p1]; simp) h1 e8 e9 e11 (by
          refine ⟨fun i z hi => ?_, fun i z hi => ?_⟩
          · show upd (N' 10) (12 - (l2.length + 1)) (nI c) i = nI z
            have := (List.getElem?_eq_some_iff.mp hi).1
            rw [upd_n (by omega)]
            exact hw.1 i z hi
          · show upd (N' 10) (12 - (l2.length + 1)) (nI c) (12 - (l2.length + 1) + i) = nI z
            cases i with
            | zero =>
              cases hi
              exact upd_s
            | succ i =>
              rw [List.getElem?_cons_succ] at hi
              rw [upd_n (by omega), ← hw.2 i z hi]
              congr 1
              omega)
        have e1 : um (um (um N' 10 (upd (N' 10) (12 - (l2.length + 1)) (nI c))) 10 f) 11 (fun _ => x) = um (um N' 10 f) 11 (fun _ => x) := by rw [um_um]
        rw [e1] at g2
        refine ⟨σ', f, x, l1', l2', z, ?_, g2, g3, g4, g5, g6, g7, g8, fun y y1 y2 => (g9 y y1 y2).trans (by dsimp only; first | exact up_n y2 | exact (up_n y1).trans (up_n y2))⟩
        rw [← g1]
        have hlt : nI (dp a) < nI (dp c) := by rw [nIltI (by omega) (by omega)]; exact cd
        have hm1 : nI (12 - l2.length) + -nI 1 = nI (12 - (l2.length + 1)) := by
          have : 12 - l2.length = 12 - (l2.length + 1) + 1 := by omega
          rw [this]
          exact nm1_
        conv => lhs; rw [b296_1]
        rw [e9] at c9
        rw [e8] at c8
        have hne : q ≠ q + 2 := by omega
        simp (disch := first | assumption | omega) only [K296_1, b296_2, K296_2, R_cons, go_nx, go_jp, go_rt, go_th, go_ca, go_no, go_ite, rr_v, rr_n, rr_x, hx_n, hx_p, hx_b, I_push, I_pushl, I_fc0, I_fc1, I_dc0, I_null, I_mask, I_iload, I_lload, I_dload, I_fload, I_aload, I_istore, I_lstore, I_dstore, I_fstore, I_astore, I_iinc, I_iadd, I_isub, I_imul, I_iand, I_ior, I_ixor, I_ishl, I_ishr, I_iushr, I_ineg, I_ladd, I_lsub, I_lmul, I_lxor, I_i2l, I_l2i, I_i2b, I_i2c, I_i2f, I_i2d, I_lcmp, I_fdiv, I_ddiv, I_f2d, I_dcmp, I_dup, I_pop, I_dup_x1, I_dup2, I_icne, I_iceq, I_iclt, I_icge, I_icgt, I_icle, I_ifnull, I_ifnonnull, I_ane, I_aeq, I_goto, I_lsw, I_iret, I_lret, I_fret, I_dret, I_vret, I_nret, I_aret, I_iald, I_bald, I_lald, I_aald, I_iast, I_bast, I_last, I_aast, I_alen, I_new, I_val, I_cast, I_inst, I_obj, I_throw, I_mkx, I_getf, I_putf, I_call, I_calli, I_callv, I_clone, I_getc, i_ifeq, i_ifne, i_iflt, i_ifge, i_ifgt, i_ifle, i_idiv, i_irem, i_newa, i_newo, i_abs, i_max, i_min, i_ldiv, en_, es_i, es_r, es_0, es_n, es_l, List.length_cons, List.length_nil, List.cons_append, List.nil_append, Nat.reduceAdd, Nat.reduceSub, List.replicate, lg_, st1_, st2_, cn_, nl_, mk_, pk_, kd_, sl_, la_, ft_a, ft_i, ft_l, ft_o, ft_n, ft_b0, ft_b1, ft_bI, nr_0, nr_1, nr_bI, ro_, no_, if_true, if_false, ite_true, ite_false, reduceIte, Nat.reduceMod, Nat.reduceEqDiff, Nat.zero_add, Nat.add_zero, lk_, lit_, nI_add, nI_mul, ix_nI, fgk_0, fgk_1, fgk_2, fgk_3, fgk_4, fgk_5, fgk_6, fgk_7, fgk_8, fgk_9, fgk_10, fgk_11, fgk_12, fgk_13, fsk_0, fsk_1, fsk_2, fsk_3, fsk_4, fsk_5, fsk_6, fsk_7, fsk_8, fsk_9, fsk_10, fsk_11, fsk_12, fsk_13, ca_i, ca_r, ca_n, Nat.reduceLT, true_or, or_true, if_true, false_or, or_false, and_true, true_and, List.mem_singleton, eq_self, e', c0, c8, c9, c10, nf_8, nf_9, nf_10, ix_nI, da.1, dc.1, hlt, hm1, up_n, hgc]
      · obtain ⟨p1, p2, p3, p4⟩ := pth_up hn hD ha hc hac e (by omega)
        have hlen : l1.length + ((pth_ r n s (hg a) c).length + 1) + l2.length ≤ 12 := by
          rw [← hl, p1] at hP
          simp only [List.length_append, List.length_cons, List.length_nil] at hP
          omega
        have hga := h8 a ha p4
        have h1 := NV_11 (x := nI (l1.length + 1)) (NV_10 (f := upd (N' 10) l1.length (nI a)) h)
        obtain ⟨σ', f, x, l1', l2', z, g1, g2, g3, g4, g5, g6, g7, g8, g9⟩ := ih (hg a) c (l1 ++ [a]) l2 _ _ none none (by rw [p1] at hm; simp only [List.length_cons] at hm; omega) p2 hc p3 (by rw [← hl, p1]; simp) h1 e8 e9 (by rw [List.length_append]; rfl) (by
          refine ⟨Rw_snoc hw.1, fun i z hi => ?_⟩
          show upd (N' 10) l1.length (nI a) (12 - l2.length + i) = nI z
          rw [upd_n (by omega)]
          exact hw.2 i z hi)
        have e1 : um (um (um (um N' 10 (upd (N' 10) l1.length (nI a))) 11 (fun _ => nI (l1.length + 1))) 10 f) 11 (fun _ => x) = um (um N' 10 f) 11 (fun _ => x) := by
          funext i
          unfold um
          by_cases q9 : i = 11
          · simp only [if_pos q9]
          · simp only [if_neg q9]
            by_cases q8 : i = 10
            · simp only [if_pos q8]
            · simp only [if_neg q8]
        rw [e1] at g2
        refine ⟨σ', f, x, l1', l2', z, ?_, g2, g3, g4, g5, g6, g7, g8, fun y y1 y2 => (g9 y y1 y2).trans (by dsimp only; first | exact up_n y2 | exact (up_n y1).trans (up_n y2))⟩
        rw [← g1]
        have hlt : ¬ nI (dp a) < nI (dp c) := by rw [nIltI (by omega) (by omega)]; exact cd
        conv => lhs; rw [b296_1]
        rw [e9] at c9
        rw [e8] at c8
        have hne : q ≠ q + 2 := by omega
        have hne2 : b ≠ q + 2 := by omega
        have hne3 : q ≠ b := by omega
        simp (disch := first | assumption | omega) only [K296_1, R_cons, go_nx, go_jp, go_rt, go_th, go_ca, go_no, go_ite, rr_v, rr_n, rr_x, hx_n, hx_p, hx_b, I_push, I_pushl, I_fc0, I_fc1, I_dc0, I_null, I_mask, I_iload, I_lload, I_dload, I_fload, I_aload, I_istore, I_lstore, I_dstore, I_fstore, I_astore, I_iinc, I_iadd, I_isub, I_imul, I_iand, I_ior, I_ixor, I_ishl, I_ishr, I_iushr, I_ineg, I_ladd, I_lsub, I_lmul, I_lxor, I_i2l, I_l2i, I_i2b, I_i2c, I_i2f, I_i2d, I_lcmp, I_fdiv, I_ddiv, I_f2d, I_dcmp, I_dup, I_pop, I_dup_x1, I_dup2, I_icne, I_iceq, I_iclt, I_icge, I_icgt, I_icle, I_ifnull, I_ifnonnull, I_ane, I_aeq, I_goto, I_lsw, I_iret, I_lret, I_fret, I_dret, I_vret, I_nret, I_aret, I_iald, I_bald, I_lald, I_aald, I_iast, I_bast, I_last, I_aast, I_alen, I_new, I_val, I_cast, I_inst, I_obj, I_throw, I_mkx, I_getf, I_putf, I_call, I_calli, I_callv, I_clone, I_getc, i_ifeq, i_ifne, i_iflt, i_ifge, i_ifgt, i_ifle, i_idiv, i_irem, i_newa, i_newo, i_abs, i_max, i_min, i_ldiv, en_, es_i, es_r, es_0, es_n, es_l, List.length_cons, List.length_nil, List.cons_append, List.nil_append, Nat.reduceAdd, Nat.reduceSub, List.replicate, lg_, st1_, st2_, cn_, nl_, mk_, pk_, kd_, sl_, la_, ft_a, ft_i, ft_l, ft_o, ft_n, ft_b0, ft_b1, ft_bI, nr_0, nr_1, nr_bI, ro_, no_, if_true, if_false, ite_true, ite_false, reduceIte, Nat.reduceMod, Nat.reduceEqDiff, Nat.zero_add, Nat.add_zero, lk_, lit_, nI_add, nI_mul, ix_nI, fgk_0, fgk_1, fgk_2, fgk_3, fgk_4, fgk_5, fgk_6, fgk_7, fgk_8, fgk_9, fgk_10, fgk_11, fgk_12, fgk_13, fsk_0, fsk_1, fsk_2, fsk_3, fsk_4, fsk_5, fsk_6, fsk_7, fsk_8, fsk_9, fsk_10, fsk_11, fsk_12, fsk_13, ca_i, ca_r, ca_n, Nat.reduceLT, true_or, or_true, if_true, false_or, or_false, and_true, true_and, List.mem_singleton, eq_self, e', c0, c8, c9, c10, e11, nf_8, nf_9, nf_10, nf_11, nf_s, ix_nI, da.1, dc.1, hlt, up_n, up_s, hga, nI_1]
        rfl
theorem ly_lp : ∀ (l2 l : List Nat) (N : Nat → Nat → Int32) (σ : As_) (u1 u2 u3 u4 : Option Value), l.length + l2.length ≤ 12 → NV_ h0 σ b bb q w lc N → N 11 0 = nI l.length → Wy_ (N 10) l l2 →
    ∃ σ' f, R_ E 296 (B_ E 296 4) [some (.ref b), u1, u2, u3, u4, some (.int (nI (12 - l2.length)))] [] σ = some (.inl none, σ') ∧ NV_ h0 σ' b bb q w lc (um (um N 10 f) 11 (fun _ => nI (l ++ l2).length)) ∧ Rw_ f (l ++ l2) ∧ σ'.1 = σ.1 ∧ σ'.2.1 = σ.2.1 ∧ (∀ x, x ≠ b → x ≠ q + 2 → σ'.2.2 x = σ.2.2 x) := by
  intro l2
  induction l2 with
  | nil =>
    intro l N σ u1 u2 u3 u4 hl h h11 hw
    obtain ⟨⟨c0, _⟩, _⟩ := id h
    refine ⟨σ, N 10, ?_, ?_, by rw [List.append_nil]; exact hw.1, rfl, rfl, fun _ _ _ => rfl⟩
    · conv => lhs; rw [b296_4]
      simp (disch := omega) only [K296_4, b296_5, K296_5, R_cons, go_nx, go_jp, go_rt, go_th, go_ca, go_no, go_ite, rr_v, rr_n, rr_x, hx_n, hx_p, hx_b, I_push, I_pushl, I_fc0, I_fc1, I_dc0, I_null, I_mask, I_iload, I_lload, I_dload, I_fload, I_aload, I_istore, I_lstore, I_dstore, I_fstore, I_astore, I_iinc, I_iadd, I_isub, I_imul, I_iand, I_ior, I_ixor, I_ishl, I_ishr, I_iushr, I_ineg, I_ladd, I_lsub, I_lmul, I_lxor, I_i2l, I_l2i, I_i2b, I_i2c, I_i2f, I_i2d, I_lcmp, I_fdiv, I_ddiv, I_f2d, I_dcmp, I_dup, I_pop, I_dup_x1, I_dup2, I_icne, I_iceq, I_iclt, I_icge, I_icgt, I_icle, I_ifnull, I_ifnonnull, I_ane, I_aeq, I_goto, I_lsw, I_iret, I_lret, I_fret, I_dret, I_vret, I_nret, I_aret, I_iald, I_bald, I_lald, I_aald, I_iast, I_bast, I_last, I_aast, I_alen, I_new, I_val, I_cast, I_inst, I_obj, I_throw, I_mkx, I_getf, I_putf, I_call, I_calli, I_callv, I_clone, I_getc, i_ifeq, i_ifne, i_iflt, i_ifge, i_ifgt, i_ifle, i_idiv, i_irem, i_newa, i_newo, i_abs, i_max, i_min, i_ldiv, en_, es_i, es_r, es_0, es_n, es_l, List.length_cons, List.length_nil, List.cons_append, List.nil_append, Nat.reduceAdd, Nat.reduceSub, List.replicate, lg_, st1_, st2_, cn_, nl_, mk_, pk_, kd_, sl_, la_, ft_a, ft_i, ft_l, ft_o, ft_n, ft_b0, ft_b1, ft_bI, nr_0, nr_1, nr_bI, ro_, no_, if_true, if_false, ite_true, ite_false, reduceIte, Nat.reduceMod, Nat.reduceEqDiff, Nat.zero_add, Nat.add_zero, lk_, lit_, nI_add, nI_mul, ix_nI, fgk_0, fgk_1, fgk_2, fgk_3, fgk_4, fgk_5, fgk_6, fgk_7, fgk_8, fgk_9, fgk_10, fgk_11, fgk_12, fgk_13, fsk_0, fsk_1, fsk_2, fsk_3, fsk_4, fsk_5, fsk_6, fsk_7, fsk_8, fsk_9, fsk_10, fsk_11, fsk_12, fsk_13, ca_i, ca_r, ca_n, Nat.reduceLT, true_or, or_true, if_true, false_or, or_false, and_true, true_and, List.mem_singleton, eq_self, c0, nI_leI, Nat.le_refl, Nat.sub_zero]
    · rw [um_id, List.append_nil, ← h11]
      exact h
  | cons z l2 ih =>
    intro l N σ u1 u2 u3 u4 hl h h11 hw
    rw [List.length_cons] at hl
    obtain ⟨⟨c0, c1, c2, c3, c4, c5, c6, c8, c9, c10, _⟩, _⟩ := id h
    have hbq := h.2.2.2.2
    have hz : N 10 (12 - (l2.length + 1)) = nI z := hw.2 0 z rfl
    have h1 := NV_11 (x := nI (l.length + 1)) (NV_10 (f := upd (N 10) l.length (nI z)) h)
    obtain ⟨σ', f, g1, g2, g3, g4, g5, g6⟩ := ih (l ++ [z]) _ _ none none none none (by rw [List.length_append]; simp only [List.length_cons, List.length_nil]; omega) h1 (by rw [List.length_append]; rfl) (by
      refine ⟨Rw_snoc hw.1, fun i y hi => ?_⟩
      show upd (N 10) l.length (nI z) (12 - l2.length + i) = nI y
      rw [upd_n (by omega)]
      have := hw.2 (i + 1) y (by rw [List.getElem?_cons_succ]; exact hi)
      rw [← this, List.length_cons]
      congr 1
      omega)
    have e1 : um (um (um (um N 10 (upd (N 10) l.length (nI z))) 11 (fun _ => nI (l.length + 1))) 10 f) 11 (fun _ => nI (l ++ [z] ++ l2).length) = um (um N 10 f) 11 (fun _ => nI (l ++ z :: l2).length) := by
      rw [List.append_assoc, List.singleton_append]
      funext i
      unfold um
      by_cases q9 : i = 11
      · simp only [if_pos q9]
      · simp only [if_neg q9]
        by_cases q8 : i = 10
        · simp only [if_pos q8]
        · simp only [if_neg q8]
    rw [e1] at g2
    rw [List.append_assoc, List.singleton_append] at g3
    refine ⟨σ', f, ?_, g2, g3, g4, g5, fun y y1 y2 => (g6 y y1 y2).trans (by dsimp only; exact (up_n y1).trans (up_n y2))⟩
    rw [← g1]
    have hlt : ¬ 12 ≤ 12 - (l2.length + 1) := by omega
    have hj : nI (12 - (l2.length + 1)) + nI 1 = nI (12 - l2.length) := by rw [nI_add]; congr 1; omega
    have hne : q ≠ q + 2 := by omega
    have hne2 : b ≠ q + 2 := by omega
    conv => lhs; rw [b296_4]
    simp (disch := first | assumption | omega) only [K296_4, R_cons, go_nx, go_jp, go_rt, go_th, go_ca, go_no, go_ite, rr_v, rr_n, rr_x, hx_n, hx_p, hx_b, I_push, I_pushl, I_fc0, I_fc1, I_dc0, I_null, I_mask, I_iload, I_lload, I_dload, I_fload, I_aload, I_istore, I_lstore, I_dstore, I_fstore, I_astore, I_iinc, I_iadd, I_isub, I_imul, I_iand, I_ior, I_ixor, I_ishl, I_ishr, I_iushr, I_ineg, I_ladd, I_lsub, I_lmul, I_lxor, I_i2l, I_l2i, I_i2b, I_i2c, I_i2f, I_i2d, I_lcmp, I_fdiv, I_ddiv, I_f2d, I_dcmp, I_dup, I_pop, I_dup_x1, I_dup2, I_icne, I_iceq, I_iclt, I_icge, I_icgt, I_icle, I_ifnull, I_ifnonnull, I_ane, I_aeq, I_goto, I_lsw, I_iret, I_lret, I_fret, I_dret, I_vret, I_nret, I_aret, I_iald, I_bald, I_lald, I_aald, I_iast, I_bast, I_last, I_aast, I_alen, I_new, I_val, I_cast, I_inst, I_obj, I_throw, I_mkx, I_getf, I_putf, I_call, I_calli, I_callv, I_clone, I_getc, i_ifeq, i_ifne, i_iflt, i_ifge, i_ifgt, i_ifle, i_idiv, i_irem, i_newa, i_newo, i_abs, i_max, i_min, i_ldiv, en_, es_i, es_r, es_0, es_n, es_l, List.length_cons, List.length_nil, List.cons_append, List.nil_append, Nat.reduceAdd, Nat.reduceSub, List.replicate, lg_, st1_, st2_, cn_, nl_, mk_, pk_, kd_, sl_, la_, ft_a, ft_i, ft_l, ft_o, ft_n, ft_b0, ft_b1, ft_bI, nr_0, nr_1, nr_bI, ro_, no_, if_true, if_false, ite_true, ite_false, reduceIte, Nat.reduceMod, Nat.reduceEqDiff, Nat.zero_add, Nat.add_zero, lk_, lit_, nI_add, nI_mul, ix_nI, fgk_0, fgk_1, fgk_2, fgk_3, fgk_4, fgk_5, fgk_6, fgk_7, fgk_8, fgk_9, fgk_10, fgk_11, fgk_12, fgk_13, fsk_0, fsk_1, fsk_2, fsk_3, fsk_4, fsk_5, fsk_6, fsk_7, fsk_8, fsk_9, fsk_10, fsk_11, fsk_12, fsk_13, ca_i, ca_r, ca_n, Nat.reduceLT, true_or, or_true, if_true, false_or, or_false, and_true, true_and, List.mem_singleton, eq_self, c0, c10, nI_leI, hlt, h11, nf_10, nf_11, nf_s, ix_nI, hz, up_n, up_s, hj, List.length_cons]
    rfl
theorem N_layWay (hn : n ≤ 12) (hD : Dn_ n (prt_ r n s) (tkn_ r n s) hg dp) (h8 : ∀ k, k < n → 0 < dp k → N 8 k = nI (hg k)) (h9 : ∀ k, k < n → N 9 k = nI (dp k) ∧ dp k ≤ 12) {a c : Nat} (ha : a < n) (hc : c < n) (hac : prt_ r n s a = prt_ r n s c) (h : NV_ h0 σ b bb q w lc N) :
    ∃ σ' f, D_ E 296 [.ref b, .int (nI a), .int (nI c)] σ = some (.inl none, σ') ∧ NV_ h0 σ' b bb q w lc (um (um N 10 f) 11 (fun _ => nI (pth_ r n s a c).length)) ∧ Rw_ f (pth_ r n s a c) ∧ σ'.1 = σ.1 ∧ σ'.2.1 = σ.2.1 ∧ (∀ x, x ≠ b → x ≠ q + 2 → σ'.2.2 x = σ.2.2 x) := by
  obtain ⟨⟨p1, _, _⟩, p2⟩ := pth_spec (r := r) (s := s) hn ha hc hac
  have hlen : (pth_ r n s a c).length ≤ 12 := by
    have := wk_len hn (kr_all (r := r) (n := n) (s := s) hn).2.1 p1 p2
    omega
  have h1 := NV_11 (x := nI 0) h
  obtain ⟨σ1, f, x, l1, l2, z, g1, g2, g3, g4, g5, g6, g7, g8, g9⟩ := lw_lp (E := E) (N := N) hn hD h8 h9 hlen 100 a c [] [] _ _ (some (.int (nI a))) (some (.int (nI c))) (by omega) ha hc hac (by simp) h1 rfl rfl rfl ⟨fun i z hi => by simp at hi, fun i z hi => by simp at hi⟩
  have hl5 : l1.length + (1 + l2.length) ≤ 12 := by
    rw [← g5] at hlen
    simp only [List.length_append, List.length_cons] at hlen
    omega
  have h2 := NV_11 (x := nI (l1.length + 1)) (NV_10 (f := upd f l1.length (nI z)) g2)
  have hnq := g2.1.1
  obtain ⟨σ2, f2, j1, j2, j3, j4, j5, j6⟩ := ly_lp (E := E) l2 (l1 ++ [z]) _ _ none none (some (.int (nI z))) none (by rw [List.length_append]; simp only [List.length_cons, List.length_nil]; omega) h2 (by rw [List.length_append]; rfl) (by
    refine ⟨Rw_snoc g4.1, fun i y hi => ?_⟩
    show upd f l1.length (nI z) (12 - l2.length + i) = nI y
    have := (List.getElem?_eq_some_iff.mp hi).1
    rw [upd_n (by omega)]
    exact g4.2 i y hi)
  rw [List.append_assoc, List.singleton_append, g5] at j2 j3
  refine ⟨σ2, f2, ?_, ?_, j3, by rw [j4]; exact g7, by rw [j5]; exact g8, fun y y1 y2 => (j6 y y1 y2).trans (((up_n y1).trans (up_n y2)).trans ((g9 y y1 y2).trans (up_n y1)))⟩
  · rw [← j1, D_run]
    obtain ⟨⟨c0, _⟩, _⟩ := h
    simp (disch := first | assumption | omega) only [b296_0, K296_0, l296, R_cons, go_nx, go_jp, go_rt, go_th, go_ca, go_no, go_ite, rr_v, rr_n, rr_x, hx_n, hx_p, hx_b, I_push, I_pushl, I_fc0, I_fc1, I_dc0, I_null, I_mask, I_iload, I_lload, I_dload, I_fload, I_aload, I_istore, I_lstore, I_dstore, I_fstore, I_astore, I_iinc, I_iadd, I_isub, I_imul, I_iand, I_ior, I_ixor, I_ishl, I_ishr, I_iushr, I_ineg, I_ladd, I_lsub, I_lmul, I_lxor, I_i2l, I_l2i, I_i2b, I_i2c, I_i2f, I_i2d, I_lcmp, I_fdiv, I_ddiv, I_f2d, I_dcmp, I_dup, I_pop, I_dup_x1, I_dup2, I_icne, I_iceq, I_iclt, I_icge, I_icgt, I_icle, I_ifnull, I_ifnonnull, I_ane, I_aeq, I_goto, I_lsw, I_iret, I_lret, I_fret, I_dret, I_vret, I_nret, I_aret, I_iald, I_bald, I_lald, I_aald, I_iast, I_bast, I_last, I_aast, I_alen, I_new, I_val, I_cast, I_inst, I_obj, I_throw, I_mkx, I_getf, I_putf, I_call, I_calli, I_callv, I_clone, I_getc, i_ifeq, i_ifne, i_iflt, i_ifge, i_ifgt, i_ifle, i_idiv, i_irem, i_newa, i_newo, i_abs, i_max, i_min, i_ldiv, en_, es_i, es_r, es_0, es_n, es_l, List.length_cons, List.length_nil, List.cons_append, List.nil_append, Nat.reduceAdd, Nat.reduceSub, List.replicate, lg_, st1_, st2_, cn_, nl_, mk_, pk_, kd_, sl_, la_, ft_a, ft_i, ft_l, ft_o, ft_n, ft_b0, ft_b1, ft_bI, nr_0, nr_1, nr_bI, ro_, no_, if_true, if_false, ite_true, ite_false, reduceIte, Nat.reduceMod, Nat.reduceEqDiff, Nat.zero_add, Nat.add_zero, lk_, lit_, nI_add, nI_mul, ix_nI, fgk_0, fgk_1, fgk_2, fgk_3, fgk_4, fgk_5, fgk_6, fgk_7, fgk_8, fgk_9, fgk_10, fgk_11, fgk_12, fgk_13, fsk_0, fsk_1, fsk_2, fsk_3, fsk_4, fsk_5, fsk_6, fsk_7, fsk_8, fsk_9, fsk_10, fsk_11, fsk_12, fsk_13, ca_i, ca_r, ca_n, Nat.reduceLT, true_or, or_true, if_true, false_or, or_false, and_true, true_and, List.mem_singleton, eq_self, c0, nf_s]
    have g1' := g1
    simp only [List.length_nil, Nat.sub_zero] at g1'
    rw [g1', b296_3]
    obtain ⟨⟨d0, d1, d2, d3, d4, d5, d6, d8, d9, d10, _⟩, _⟩ := id g2
    have hbq := g2.2.2.2.2
    have hne2 : b ≠ q + 2 := by omega
    have em : um (um (um N 11 fun x => nI 0) 10 f) 11 (fun _ => x) 10 = f := rfl
    have e11 : um (um (um N 11 fun x => nI 0) 10 f) 11 (fun _ => x) 11 0 = nI l1.length := g3
    rw [em] at d10
    simp (disch := first | assumption | omega) only [K296_3, R_cons, go_nx, go_jp, go_rt, go_th, go_ca, go_no, go_ite, rr_v, rr_n, rr_x, hx_n, hx_p, hx_b, I_push, I_pushl, I_fc0, I_fc1, I_dc0, I_null, I_mask, I_iload, I_lload, I_dload, I_fload, I_aload, I_istore, I_lstore, I_dstore, I_fstore, I_astore, I_iinc, I_iadd, I_isub, I_imul, I_iand, I_ior, I_ixor, I_ishl, I_ishr, I_iushr, I_ineg, I_ladd, I_lsub, I_lmul, I_lxor, I_i2l, I_l2i, I_i2b, I_i2c, I_i2f, I_i2d, I_lcmp, I_fdiv, I_ddiv, I_f2d, I_dcmp, I_dup, I_pop, I_dup_x1, I_dup2, I_icne, I_iceq, I_iclt, I_icge, I_icgt, I_icle, I_ifnull, I_ifnonnull, I_ane, I_aeq, I_goto, I_lsw, I_iret, I_lret, I_fret, I_dret, I_vret, I_nret, I_aret, I_iald, I_bald, I_lald, I_aald, I_iast, I_bast, I_last, I_aast, I_alen, I_new, I_val, I_cast, I_inst, I_obj, I_throw, I_mkx, I_getf, I_putf, I_call, I_calli, I_callv, I_clone, I_getc, i_ifeq, i_ifne, i_iflt, i_ifge, i_ifgt, i_ifle, i_idiv, i_irem, i_newa, i_newo, i_abs, i_max, i_min, i_ldiv, en_, es_i, es_r, es_0, es_n, es_l, List.length_cons, List.length_nil, List.cons_append, List.nil_append, Nat.reduceAdd, Nat.reduceSub, List.replicate, lg_, st1_, st2_, cn_, nl_, mk_, pk_, kd_, sl_, la_, ft_a, ft_i, ft_l, ft_o, ft_n, ft_b0, ft_b1, ft_bI, nr_0, nr_1, nr_bI, ro_, no_, if_true, if_false, ite_true, ite_false, reduceIte, Nat.reduceMod, Nat.reduceEqDiff, Nat.zero_add, Nat.add_zero, lk_, lit_, nI_add, nI_mul, ix_nI, fgk_0, fgk_1, fgk_2, fgk_3, fgk_4, fgk_5, fgk_6, fgk_7, fgk_8, fgk_9, fgk_10, fgk_11, fgk_12, fgk_13, fsk_0, fsk_1, fsk_2, fsk_3, fsk_4, fsk_5, fsk_6, fsk_7, fsk_8, fsk_9, fsk_10, fsk_11, fsk_12, fsk_13, ca_i, ca_r, ca_n, Nat.reduceLT, true_or, or_true, if_true, false_or, or_false, and_true, true_and, List.mem_singleton, eq_self, d0, d10, e11, nf_10, nf_11, nf_s, ix_nI, up_n, up_s, nI_1]
    rfl
  · have e1 : um (um (um (um (um (um (um N 11 fun x => nI 0) 10 f) 11 fun _ => x) 10 (upd f l1.length (nI z))) 11 fun _ => nI (l1.length + 1)) 10 f2) 11 (fun _ => nI (pth_ r n s a c).length) = um (um N 10 f2) 11 (fun _ => nI (pth_ r n s a c).length) := by
      funext i
      unfold um
      by_cases q9 : i = 11
      · simp only [if_pos q9]
      · simp only [if_neg q9]
        by_cases q8 : i = 10
        · simp only [if_pos q8]
        · simp only [if_neg q8]
    rw [← e1]
    exact j2
end CNM
