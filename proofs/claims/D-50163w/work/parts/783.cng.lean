section CNG
variable {E : En_} {σ : As_} {w n s b bb q : Nat} {r : Nat → Int32} {ms ss : List Nat} {h0 : Nat → Option Ac_} {lc : Ac_} {N : Nat → Nat → Int32}
/-- the rows after layRises -/
def Ne_ (N : Nat → Nat → Int32) (r : Nat → Int32) (s : Nat) (e : Int32) : Prop := (∀ p, p < 144 → N 0 p = nI (ct_ r s p)) ∧ (∀ p, p < 144 → N 1 p = upv_ r e s p) ∧ (∀ p, p < 144 → ¬ ct_ r s p = 0 → N 3 p - N 2 p = (spd_ r e s p).2.1 - (spd_ r e s p).1)
theorem lr_sp {e : Int32} (p : Nat) : ∀ (d i c : Nat) (N : Nat → Nat → Int32) (x : Int32 × Int32 × Bool), N 0 p = nI c → c + d < 2 ^ 31 → (x.2.2 = true ↔ ¬ c = 0) → (¬ c = 0 → N 2 p = x.1 ∧ N 3 p = x.2.1) →
    (¬ fo_ (ctp_ r p) d i c = 0 → (fo_ (lr1_ r e) d i N) 2 p = (fo_ (spd1_ r e p) d i x).1 ∧ (fo_ (lr1_ r e) d i N) 3 p = (fo_ (spd1_ r e p) d i x).2.1) := by
  intro d
  induction d with
  | zero => intro i c N x h hc hx h23 hz; exact h23 hz
  | succ d ih =>
    intro i c N x h hc hx h23
    rw [fo_, fo_, fo_]
    by_cases c1 : r (68 + 6 * i + 5) = nI 0
    · have e1 : lr1_ r e i N = um (um (um (um N 2 (upd (N 2) (pas_ r i) (if N 0 (pas_ r i) = nI 0 then gv_ r e i else mn_ (N 2 (pas_ r i)) (gv_ r e i)))) 3 (upd (N 3) (pas_ r i) (if N 0 (pas_ r i) = nI 0 then gv_ r e i else mx_ (N 3 (pas_ r i)) (gv_ r e i)))) 1 (upd (N 1) (pas_ r i) (N 1 (pas_ r i) + gv_ r e i))) 0 (upd (N 0) (pas_ r i) (N 0 (pas_ r i) + nI 1)) := if_pos c1
      have f0 : (lr1_ r e i N) 0 = upd (N 0) (pas_ r i) (N 0 (pas_ r i) + nI 1) := by rw [e1]; rfl
      have f2 : (lr1_ r e i N) 2 = upd (N 2) (pas_ r i) (if N 0 (pas_ r i) = nI 0 then gv_ r e i else mn_ (N 2 (pas_ r i)) (gv_ r e i)) := by rw [e1]; rfl
      have f3 : (lr1_ r e i N) 3 = upd (N 3) (pas_ r i) (if N 0 (pas_ r i) = nI 0 then gv_ r e i else mx_ (N 3 (pas_ r i)) (gv_ r e i)) := by rw [e1]; rfl
      by_cases c2 : pas_ r i = p
      · have ec : ctp_ r p i c = c + 1 := if_pos ⟨c1, c2⟩
        have es : spd1_ r e p i x = (if x.2.2 = true then mn_ x.1 (gv_ r e i) else gv_ r e i, if x.2.2 = true then mx_ x.2.1 (gv_ r e i) else gv_ r e i, true) := if_pos ⟨c1, c2⟩
        rw [ec, es]
        refine ih (i + 1) (c + 1) (lr1_ r e i N) _ (by rw [f0, c2, upd_s, h]; exact nI_1 _) (by omega) ⟨fun _ => by omega, fun _ => rfl⟩ (fun _ => ?_)
        rw [f2, f3, c2, upd_s, upd_s, h]
        by_cases c3 : c = 0
        · have hx' : ¬ x.2.2 = true := fun q => hx.mp q c3
          have e0 : nI c = nI 0 := by rw [c3]
          rw [if_neg hx', if_neg hx', if_pos e0, if_pos e0]
          exact ⟨rfl, rfl⟩
        · have hx' : x.2.2 = true := hx.mpr c3
          have hn : ¬ nI c = nI 0 := by rw [nI_eq (by omega) (by decide)]; exact c3
          rw [if_neg hn, if_neg hn, if_pos hx', if_pos hx', (h23 c3).1, (h23 c3).2]
          exact ⟨rfl, rfl⟩
      · have ec : ctp_ r p i c = c := if_neg (fun h => c2 h.2)
        have es : spd1_ r e p i x = x := if_neg (fun h => c2 h.2)
        have hp : p ≠ pas_ r i := fun q => c2 q.symm
        rw [ec, es]
        refine ih (i + 1) c (lr1_ r e i N) x (by rw [f0, upd_n hp]; exact h) (by omega) hx (fun hc0 => ?_)
        rw [f2, f3, upd_n hp, upd_n hp]
        exact h23 hc0
    · have e1 : lr1_ r e i N = N := if_neg c1
      have ec : ctp_ r p i c = c := if_neg (fun h => c1 h.1)
      have es : spd1_ r e p i x = x := if_neg (fun h => c1 h.1)
      rw [e1, ec, es]
      exact ih (i + 1) c N x h (by omega) hx h23
theorem N_layRises {e : Int32} (h4 : E45_ E h0) (hwl : Wl_ E h0 w r ms ss) (hm : ms.length = n) (hss : ss.length = s) (hW : Wr_ r n s) (h : NV_ h0 σ b bb q w lc N) (h7 : N 7 0 = e) (hz : ∀ p, N 0 p = nI 0 ∧ N 1 p = nI 0) :
    ∃ σ' N', D_ E 289 [.ref b] σ = some (.inl none, σ') ∧ NV_ h0 σ' b bb q w lc N' ∧ Ne_ N' r s e ∧ (∀ j, ¬ j < 4 → N' j = N j) ∧ Sz_ 740 σ σ' := by
  have h40 := wr_s40 hW
  have hq := NV_lt h
  obtain ⟨am, em, as, es, st, mc, mc', hA⟩ := hwl
  have hL := Ls_mono h.2.1 hA.2.2.1
  have hI := J_iter (E := E) hL h.2.2.1
  obtain ⟨cap, f, tt, l1, _⟩ := hL
  have hwc := h.2.1 _ _ hA.1
  have hN1 := NV_new (k := 4) (c := .inr (12, [.int (nI 0), .int (-nI 1), .int mc', .ref as])) h
  obtain ⟨σ1, g1, g2, g3, g4⟩ := lr_lp (E := E) (e := e) hA hm hss hW hq s 0 N _ (-nI 1) none none none (by omega) hN1 h7 (up_s _ _ _)
  dsimp only at g3 g4
  obtain ⟨N1, hN1e⟩ : ∃ N1, N1 = fo_ (lr1_ r e) s 0 N := ⟨_, rfl⟩
  rw [← hN1e] at g2
  have hat : ∀ p, N1 0 p = nI (ct_ r s p) ∧ N1 1 p = su_ r e s p ∧ (∀ j, ¬ j < 4 → N1 j = N j) := fun p => by
    have := lr_at (r := r) (e := e) p s 0 0 N (hz p).1
    rw [← hN1e, (hz p).2] at this
    exact this
  have hsp : ∀ p, ¬ ct_ r s p = 0 → N1 2 p = (spd_ r e s p).1 ∧ N1 3 p = (spd_ r e s p).2.1 := fun p hp => by
    have := lr_sp (r := r) (e := e) p s 0 0 N (nI 0, nI 0, false) (hz p).1 (by omega) ⟨fun q => (by cases q), fun q => absurd rfl q⟩ (fun q => absurd rfl q) hp
    rw [← hN1e] at this
    exact this
  obtain ⟨σ2, j1, j2, j3, j4⟩ := N_iter (E := E) g2
  have hq1 := NV_lt g2
  have hnk := nxk_le (c := N1 0) 144 0
  obtain ⟨σ3, k1, k2, k3⟩ := lm_lp (E := E) h4 (show q + 2 < σ1.1 by omega) 144 (nxk_ (N1 0) 144 0) N1 σ2 none (by omega) (by omega) (fun q => nxk_nz (c := N1 0) 144 0 (by omega)) j2 j3
  have ef : fo_ (lm1_ (N1 0)) (144 - nxk_ (N1 0) 144 0) (nxk_ (N1 0) 144 0) (N1 1) = fo_ (lm1_ (N1 0)) 144 0 (N1 1) := by
    rw [fe_skip (c := N1 0) (G := lm1_ (N1 0)) (fun j x h => if_pos h) 144 0]
  rw [ef] at k2
  refine ⟨σ3, _, ?_, k2, ⟨fun p hp => (hat p).1, fun p hp => ?_, fun p hp hc => ?_⟩, fun j hj => ?_, ?_⟩
  · rw [← k1, D_run]
    obtain ⟨⟨c0, _⟩, _⟩ := h
    obtain ⟨⟨c0', _⟩, _⟩ := g2
    simp (disch := omega) only [b289_0, K289_0, l289, R_cons, go_nx, go_jp, go_rt, go_th, go_ca, go_no, go_ite, rr_v, rr_n, rr_x, hx_n, hx_p, hx_b, I_push, I_pushl, I_fc0, I_fc1, I_dc0, I_null, I_mask, I_iload, I_lload, I_dload, I_fload, I_aload, I_istore, I_lstore, I_dstore, I_fstore, I_astore, I_iinc, I_iadd, I_isub, I_imul, I_iand, I_ior, I_ixor, I_ishl, I_ishr, I_iushr, I_ineg, I_ladd, I_lsub, I_lmul, I_lxor, I_i2l, I_l2i, I_i2b, I_i2c, I_i2f, I_i2d, I_lcmp, I_fdiv, I_ddiv, I_f2d, I_dcmp, I_dup, I_pop, I_dup_x1, I_dup2, I_icne, I_iceq, I_iclt, I_icge, I_icgt, I_icle, I_ifnull, I_ifnonnull, I_ane, I_aeq, I_goto, I_lsw, I_iret, I_lret, I_fret, I_dret, I_vret, I_nret, I_aret, I_iald, I_bald, I_lald, I_aald, I_iast, I_bast, I_last, I_aast, I_alen, I_new, I_val, I_cast, I_inst, I_obj, I_throw, I_mkx, I_getf, I_putf, I_call, I_calli, I_callv, I_clone, I_getc, i_ifeq, i_ifne, i_iflt, i_ifge, i_ifgt, i_ifle, i_idiv, i_irem, i_newa, i_newo, i_abs, i_max, i_min, i_ldiv, en_, es_i, es_r, es_0, es_n, es_l, List.length_cons, List.length_nil, List.cons_append, List.nil_append, Nat.reduceAdd, Nat.reduceSub, List.replicate, lg_, st1_, st2_, cn_, nl_, mk_, pk_, kd_, sl_, la_, ft_a, ft_i, ft_l, ft_o, ft_n, ft_b0, ft_b1, ft_bI, nr_0, nr_1, nr_bI, ro_, no_, if_true, if_false, ite_true, ite_false, reduceIte, Nat.reduceMod, Nat.reduceEqDiff, Nat.zero_add, Nat.add_zero, lk_, lit_, nI_add, nI_mul, ix_nI, fgk_0, fgk_1, fgk_2, fgk_3, fgk_4, fgk_5, fgk_6, fgk_7, fgk_8, fgk_9, fgk_10, fgk_11, fgk_12, fgk_13, fsk_0, fsk_1, fsk_2, fsk_3, fsk_4, fsk_5, fsk_6, fsk_7, fsk_8, fsk_9, fsk_10, fsk_11, fsk_12, fsk_13, ca_i, ca_r, ca_n, Nat.reduceLT, true_or, or_true, if_true, false_or, or_false, and_true, true_and, List.mem_singleton, eq_self, c0, nf_12, hwc, l1, hI]
    rw [g1]
    simp (disch := omega) only [b289_7, K289_7, R_cons, go_nx, go_jp, go_rt, go_th, go_ca, go_no, go_ite, rr_v, rr_n, rr_x, hx_n, hx_p, hx_b, I_push, I_pushl, I_fc0, I_fc1, I_dc0, I_null, I_mask, I_iload, I_lload, I_dload, I_fload, I_aload, I_istore, I_lstore, I_dstore, I_fstore, I_astore, I_iinc, I_iadd, I_isub, I_imul, I_iand, I_ior, I_ixor, I_ishl, I_ishr, I_iushr, I_ineg, I_ladd, I_lsub, I_lmul, I_lxor, I_i2l, I_l2i, I_i2b, I_i2c, I_i2f, I_i2d, I_lcmp, I_fdiv, I_ddiv, I_f2d, I_dcmp, I_dup, I_pop, I_dup_x1, I_dup2, I_icne, I_iceq, I_iclt, I_icge, I_icgt, I_icle, I_ifnull, I_ifnonnull, I_ane, I_aeq, I_goto, I_lsw, I_iret, I_lret, I_fret, I_dret, I_vret, I_nret, I_aret, I_iald, I_bald, I_lald, I_aald, I_iast, I_bast, I_last, I_aast, I_alen, I_new, I_val, I_cast, I_inst, I_obj, I_throw, I_mkx, I_getf, I_putf, I_call, I_calli, I_callv, I_clone, I_getc, i_ifeq, i_ifne, i_iflt, i_ifge, i_ifgt, i_ifle, i_idiv, i_irem, i_newa, i_newo, i_abs, i_max, i_min, i_ldiv, en_, es_i, es_r, es_0, es_n, es_l, List.length_cons, List.length_nil, List.cons_append, List.nil_append, Nat.reduceAdd, Nat.reduceSub, List.replicate, lg_, st1_, st2_, cn_, nl_, mk_, pk_, kd_, sl_, la_, ft_a, ft_i, ft_l, ft_o, ft_n, ft_b0, ft_b1, ft_bI, nr_0, nr_1, nr_bI, ro_, no_, if_true, if_false, ite_true, ite_false, reduceIte, Nat.reduceMod, Nat.reduceEqDiff, Nat.zero_add, Nat.add_zero, lk_, lit_, nI_add, nI_mul, ix_nI, fgk_0, fgk_1, fgk_2, fgk_3, fgk_4, fgk_5, fgk_6, fgk_7, fgk_8, fgk_9, fgk_10, fgk_11, fgk_12, fgk_13, fsk_0, fsk_1, fsk_2, fsk_3, fsk_4, fsk_5, fsk_6, fsk_7, fsk_8, fsk_9, fsk_10, fsk_11, fsk_12, fsk_13, ca_i, ca_r, ca_n, Nat.reduceLT, true_or, or_true, if_true, false_or, or_false, and_true, true_and, List.mem_singleton, eq_self, c0', j1]
  · show fo_ (lm1_ (N1 0)) 144 0 (N1 1) p = upv_ r e s p
    rw [lm_at, (hat p).1, (hat p).2.1]
    unfold upv_
    have hc40 := ct_40 hW p
    by_cases c : ct_ r s p = 0
    · rw [if_neg (fun h => h.2.2 (by rw [c])), if_pos c]
      exact su_0 c
    · have hn : ¬ nI (ct_ r s p) = nI 0 := by rw [nI_eq (by omega) (by decide)]; exact c
      rw [if_pos ⟨by omega, by omega, hn⟩, if_neg c]
  · show N1 3 p - N1 2 p = _
    rw [(hsp p hc).1, (hsp p hc).2]
  · rw [um_n (by omega)]
    exact (hat 0).2.2 j hj
  · have s2 : Sz_ 6 σ1 σ2 := by
      rw [j4]
      exact ⟨by dsimp only; omega, by dsimp only; omega, by dsimp only; omega⟩
    obtain ⟨a1, a2, a3⟩ := s2
    obtain ⟨b1, b2, b3⟩ := k3
    exact ⟨by omega, by omega, by omega⟩
theorem N_far {p : Nat} (h : NV_ h0 σ b bb q w lc N) (hwl : Wl_ E h0 w r ms ss) (hm : ms.length = n) (hp : p / 12 < n ∧ p % 12 < n) (h12 : n ≤ 12) : D_ E 292 [.ref b, .int (nI p)] σ = some (.inl (some (.int (di_ r (p / 12) (p % 12)))), σ) := by
  have hwl' := Wl_mono h.2.1 hwl
  have hd := W_distance (E := E) hwl' (show p / 12 < ms.length by omega) (show p % 12 < ms.length by omega)
  obtain ⟨am, em, as, es, st, mc, mc', hA⟩ := hwl'
  obtain ⟨⟨c0, _⟩, _⟩ := h
  rw [D_run]
  simp (disch := first | omega | decide) only [l292, b292_0, K292_0, R_cons, go_nx, go_jp, go_rt, go_th, go_ca, go_no, go_ite, rr_v, rr_n, rr_x, hx_n, hx_p, hx_b, I_push, I_pushl, I_fc0, I_fc1, I_dc0, I_null, I_mask, I_iload, I_lload, I_dload, I_fload, I_aload, I_istore, I_lstore, I_dstore, I_fstore, I_astore, I_iinc, I_iadd, I_isub, I_imul, I_iand, I_ior, I_ixor, I_ishl, I_ishr, I_iushr, I_ineg, I_ladd, I_lsub, I_lmul, I_lxor, I_i2l, I_l2i, I_i2b, I_i2c, I_i2f, I_i2d, I_lcmp, I_fdiv, I_ddiv, I_f2d, I_dcmp, I_dup, I_pop, I_dup_x1, I_dup2, I_icne, I_iceq, I_iclt, I_icge, I_icgt, I_icle, I_ifnull, I_ifnonnull, I_ane, I_aeq, I_goto, I_lsw, I_iret, I_lret, I_fret, I_dret, I_vret, I_nret, I_aret, I_iald, I_bald, I_lald, I_aald, I_iast, I_bast, I_last, I_aast, I_alen, I_new, I_val, I_cast, I_inst, I_obj, I_throw, I_mkx, I_getf, I_putf, I_call, I_calli, I_callv, I_clone, I_getc, i_ifeq, i_ifne, i_iflt, i_ifge, i_ifgt, i_ifle, i_idiv, i_irem, i_newa, i_newo, i_abs, i_max, i_min, i_ldiv, en_, es_i, es_r, es_0, es_n, es_l, List.length_cons, List.length_nil, List.cons_append, List.nil_append, Nat.reduceAdd, Nat.reduceSub, List.replicate, lg_, st1_, st2_, cn_, nl_, mk_, pk_, kd_, sl_, la_, ft_a, ft_i, ft_l, ft_o, ft_n, ft_b0, ft_b1, ft_bI, nr_0, nr_1, nr_bI, ro_, no_, if_true, if_false, ite_true, ite_false, reduceIte, Nat.reduceMod, Nat.reduceEqDiff, Nat.zero_add, Nat.add_zero, lk_, lit_, nI_add, nI_mul, ix_nI, fgk_0, fgk_1, fgk_2, fgk_3, fgk_4, fgk_5, fgk_6, fgk_7, fgk_8, fgk_9, fgk_10, fgk_11, fgk_12, fgk_13, fsk_0, fsk_1, fsk_2, fsk_3, fsk_4, fsk_5, fsk_6, fsk_7, fsk_8, fsk_9, fsk_10, fsk_11, fsk_12, fsk_13, ca_i, ca_r, ca_n, Nat.reduceLT, true_or, or_true, if_true, false_or, or_false, and_true, true_and, List.mem_singleton, eq_self, c0, nf_12, hA.1, pk_div, nI_rm, hd]
theorem N_isEdge {x y : Nat} (h : NV_ h0 σ b bb q w lc N) (hW : Wr_ r n s) (hN : ∀ p, p < 144 → N 0 p = nI (ct_ r s p)) (hx : x < n) (hy : y < n) : D_ E 307 [.ref b, .int (nI x), .int (nI y)] σ = some (.inl (some (.int (bI (edg_ r s x y)))), σ) := by
  have h12 := wr_n12 hW
  have hk := S_key (E := E) (σ := σ) (a := x) (b := y) (by omega) (by omega)
  have hp : pa_ x y < 144 := pa_lt (by omega) (by omega)
  have hc := hN _ hp
  have h40 := ct_40 hW (pa_ x y)
  obtain ⟨⟨c0, c1, _⟩, _⟩ := h
  rw [D_run]
  by_cases e1 : x = y
  · subst e1
    rw [bI_f (fun h => h.1 rfl)]
    simp (disch := first | omega | decide) only [l307, b307_0, K307_0, b307_1, K307_1, b307_2, K307_2, R_cons, go_nx, go_jp, go_rt, go_th, go_ca, go_no, go_ite, rr_v, rr_n, rr_x, hx_n, hx_p, hx_b, I_push, I_pushl, I_fc0, I_fc1, I_dc0, I_null, I_mask, I_iload, I_lload, I_dload, I_fload, I_aload, I_istore, I_lstore, I_dstore, I_fstore, I_astore, I_iinc, I_iadd, I_isub, I_imul, I_iand, I_ior, I_ixor, I_ishl, I_ishr, I_iushr, I_ineg, I_ladd, I_lsub, I_lmul, I_lxor, I_i2l, I_l2i, I_i2b, I_i2c, I_i2f, I_i2d, I_lcmp, I_fdiv, I_ddiv, I_f2d, I_dcmp, I_dup, I_pop, I_dup_x1, I_dup2, I_icne, I_iceq, I_iclt, I_icge, I_icgt, I_icle, I_ifnull, I_ifnonnull, I_ane, I_aeq, I_goto, I_lsw, I_iret, I_lret, I_fret, I_dret, I_vret, I_nret, I_aret, I_iald, I_bald, I_lald, I_aald, I_iast, I_bast, I_last, I_aast, I_alen, I_new, I_val, I_cast, I_inst, I_obj, I_throw, I_mkx, I_getf, I_putf, I_call, I_calli, I_callv, I_clone, I_getc, i_ifeq, i_ifne, i_iflt, i_ifge, i_ifgt, i_ifle, i_idiv, i_irem, i_newa, i_newo, i_abs, i_max, i_min, i_ldiv, en_, es_i, es_r, es_0, es_n, es_l, List.length_cons, List.length_nil, List.cons_append, List.nil_append, Nat.reduceAdd, Nat.reduceSub, List.replicate, lg_, st1_, st2_, cn_, nl_, mk_, pk_, kd_, sl_, la_, ft_a, ft_i, ft_l, ft_o, ft_n, ft_b0, ft_b1, ft_bI, nr_0, nr_1, nr_bI, ro_, no_, if_true, if_false, ite_true, ite_false, reduceIte, Nat.reduceMod, Nat.reduceEqDiff, Nat.zero_add, Nat.add_zero, lk_, lit_, nI_add, nI_mul, ix_nI, fgk_0, fgk_1, fgk_2, fgk_3, fgk_4, fgk_5, fgk_6, fgk_7, fgk_8, fgk_9, fgk_10, fgk_11, fgk_12, fgk_13, fsk_0, fsk_1, fsk_2, fsk_3, fsk_4, fsk_5, fsk_6, fsk_7, fsk_8, fsk_9, fsk_10, fsk_11, fsk_12, fsk_13, ca_i, ca_r, ca_n, Nat.reduceLT, true_or, or_true, if_true, false_or, or_false, and_true, true_and, List.mem_singleton, eq_self]
  · have e1' : ¬ nI x = nI y := by rw [nI_eq (by omega) (by omega)]; exact e1
    by_cases e2 : ct_ r s (pa_ x y) = 0
    · have e3 : nI (ct_ r s (pa_ x y)) ≤ nI 0 := by rw [e2]; decide
      rw [bI_f (fun h => h.2 e2)]
      simp (disch := first | omega | decide) only [l307, b307_0, K307_0, b307_1, K307_1, b307_2, K307_2, R_cons, go_nx, go_jp, go_rt, go_th, go_ca, go_no, go_ite, rr_v, rr_n, rr_x, hx_n, hx_p, hx_b, I_push, I_pushl, I_fc0, I_fc1, I_dc0, I_null, I_mask, I_iload, I_lload, I_dload, I_fload, I_aload, I_istore, I_lstore, I_dstore, I_fstore, I_astore, I_iinc, I_iadd, I_isub, I_imul, I_iand, I_ior, I_ixor, I_ishl, I_ishr, I_iushr, I_ineg, I_ladd, I_lsub, I_lmul, I_lxor, I_i2l, I_l2i, I_i2b, I_i2c, I_i2f, I_i2d, I_lcmp, I_fdiv, I_ddiv, I_f2d, I_dcmp, I_dup, I_pop, I_dup_x1, I_dup2, I_icne, I_iceq, I_iclt, I_icge, I_icgt, I_icle, I_ifnull, I_ifnonnull, I_ane, I_aeq, I_goto, I_lsw, I_iret, I_lret, I_fret, I_dret, I_vret, I_nret, I_aret, I_iald, I_bald, I_lald, I_aald, I_iast, I_bast, I_last, I_aast, I_alen, I_new, I_val, I_cast, I_inst, I_obj, I_throw, I_mkx, I_getf, I_putf, I_call, I_calli, I_callv, I_clone, I_getc, i_ifeq, i_ifne, i_iflt, i_ifge, i_ifgt, i_ifle, i_idiv, i_irem, i_newa, i_newo, i_abs, i_max, i_min, i_ldiv, en_, es_i, es_r, es_0, es_n, es_l, List.length_cons, List.length_nil, List.cons_append, List.nil_append, Nat.reduceAdd, Nat.reduceSub, List.replicate, lg_, st1_, st2_, cn_, nl_, mk_, pk_, kd_, sl_, la_, ft_a, ft_i, ft_l, ft_o, ft_n, ft_b0, ft_b1, ft_bI, nr_0, nr_1, nr_bI, ro_, no_, if_true, if_false, ite_true, ite_false, reduceIte, Nat.reduceMod, Nat.reduceEqDiff, Nat.zero_add, Nat.add_zero, lk_, lit_, nI_add, nI_mul, ix_nI, fgk_0, fgk_1, fgk_2, fgk_3, fgk_4, fgk_5, fgk_6, fgk_7, fgk_8, fgk_9, fgk_10, fgk_11, fgk_12, fgk_13, fsk_0, fsk_1, fsk_2, fsk_3, fsk_4, fsk_5, fsk_6, fsk_7, fsk_8, fsk_9, fsk_10, fsk_11, fsk_12, fsk_13, ca_i, ca_r, ca_n, Nat.reduceLT, true_or, or_true, if_true, false_or, or_false, and_true, true_and, List.mem_singleton, eq_self, e1', c0, c1, nf_0, hk, ix_nI, hc, e3]
    · have e3 : ¬ nI (ct_ r s (pa_ x y)) ≤ nI 0 := by rw [nI_leI (by omega) (by decide)]; omega
      rw [bI_t ⟨e1, e2⟩]
      simp (disch := first | omega | decide) only [l307, b307_0, K307_0, b307_1, K307_1, b307_2, K307_2, R_cons, go_nx, go_jp, go_rt, go_th, go_ca, go_no, go_ite, rr_v, rr_n, rr_x, hx_n, hx_p, hx_b, I_push, I_pushl, I_fc0, I_fc1, I_dc0, I_null, I_mask, I_iload, I_lload, I_dload, I_fload, I_aload, I_istore, I_lstore, I_dstore, I_fstore, I_astore, I_iinc, I_iadd, I_isub, I_imul, I_iand, I_ior, I_ixor, I_ishl, I_ishr, I_iushr, I_ineg, I_ladd, I_lsub, I_lmul, I_lxor, I_i2l, I_l2i, I_i2b, I_i2c, I_i2f, I_i2d, I_lcmp, I_fdiv, I_ddiv, I_f2d, I_dcmp, I_dup, I_pop, I_dup_x1, I_dup2, I_icne, I_iceq, I_iclt, I_icge, I_icgt, I_icle, I_ifnull, I_ifnonnull, I_ane, I_aeq, I_goto, I_lsw, I_iret, I_lret, I_fret, I_dret, I_vret, I_nret, I_aret, I_iald, I_bald, I_lald, I_aald, I_iast, I_bast, I_last, I_aast, I_alen, I_new, I_val, I_cast, I_inst, I_obj, I_throw, I_mkx, I_getf, I_putf, I_call, I_calli, I_callv, I_clone, I_getc, i_ifeq, i_ifne, i_iflt, i_ifge, i_ifgt, i_ifle, i_idiv, i_irem, i_newa, i_newo, i_abs, i_max, i_min, i_ldiv, en_, es_i, es_r, es_0, es_n, es_l, List.length_cons, List.length_nil, List.cons_append, List.nil_append, Nat.reduceAdd, Nat.reduceSub, List.replicate, lg_, st1_, st2_, cn_, nl_, mk_, pk_, kd_, sl_, la_, ft_a, ft_i, ft_l, ft_o, ft_n, ft_b0, ft_b1, ft_bI, nr_0, nr_1, nr_bI, ro_, no_, if_true, if_false, ite_true, ite_false, reduceIte, Nat.reduceMod, Nat.reduceEqDiff, Nat.zero_add, Nat.add_zero, lk_, lit_, nI_add, nI_mul, ix_nI, fgk_0, fgk_1, fgk_2, fgk_3, fgk_4, fgk_5, fgk_6, fgk_7, fgk_8, fgk_9, fgk_10, fgk_11, fgk_12, fgk_13, fsk_0, fsk_1, fsk_2, fsk_3, fsk_4, fsk_5, fsk_6, fsk_7, fsk_8, fsk_9, fsk_10, fsk_11, fsk_12, fsk_13, ca_i, ca_r, ca_n, Nat.reduceLT, true_or, or_true, if_true, false_or, or_false, and_true, true_and, List.mem_singleton, eq_self, e1', c0, c1, nf_0, hk, ix_nI, hc, e3]
theorem N_riseE {x y : Nat} {e : Int32} (h : NV_ h0 σ b bb q w lc N) (hW : Wr_ r n s) (hN : ∀ p, p < 144 → N 1 p = upv_ r e s p) (hx : x < n) (hy : y < n) : D_ E 297 [.ref b, .int (nI x), .int (nI y)] σ = some (.inl (some (.int (rf_ r e s x y))), σ) := by
  have h12 := wr_n12 hW
  have hk := S_key (E := E) (σ := σ) (a := x) (b := y) (by omega) (by omega)
  have hp : pa_ x y < 144 := pa_lt (by omega) (by omega)
  have hc := hN _ hp
  obtain ⟨⟨c0, c1, c2, _⟩, _⟩ := h
  unfold rf_
  rw [D_run]
  by_cases e1 : x < y
  · have e1' : ¬ y ≤ x := by omega
    rw [if_pos e1]
    simp (disch := first | omega | decide) only [l297, b297_0, K297_0, b297_1, K297_1, b297_2, K297_2, R_cons, go_nx, go_jp, go_rt, go_th, go_ca, go_no, go_ite, rr_v, rr_n, rr_x, hx_n, hx_p, hx_b, I_push, I_pushl, I_fc0, I_fc1, I_dc0, I_null, I_mask, I_iload, I_lload, I_dload, I_fload, I_aload, I_istore, I_lstore, I_dstore, I_fstore, I_astore, I_iinc, I_iadd, I_isub, I_imul, I_iand, I_ior, I_ixor, I_ishl, I_ishr, I_iushr, I_ineg, I_ladd, I_lsub, I_lmul, I_lxor, I_i2l, I_l2i, I_i2b, I_i2c, I_i2f, I_i2d, I_lcmp, I_fdiv, I_ddiv, I_f2d, I_dcmp, I_dup, I_pop, I_dup_x1, I_dup2, I_icne, I_iceq, I_iclt, I_icge, I_icgt, I_icle, I_ifnull, I_ifnonnull, I_ane, I_aeq, I_goto, I_lsw, I_iret, I_lret, I_fret, I_dret, I_vret, I_nret, I_aret, I_iald, I_bald, I_lald, I_aald, I_iast, I_bast, I_last, I_aast, I_alen, I_new, I_val, I_cast, I_inst, I_obj, I_throw, I_mkx, I_getf, I_putf, I_call, I_calli, I_callv, I_clone, I_getc, i_ifeq, i_ifne, i_iflt, i_ifge, i_ifgt, i_ifle, i_idiv, i_irem, i_newa, i_newo, i_abs, i_max, i_min, i_ldiv, en_, es_i, es_r, es_0, es_n, es_l, List.length_cons, List.length_nil, List.cons_append, List.nil_append, Nat.reduceAdd, Nat.reduceSub, List.replicate, lg_, st1_, st2_, cn_, nl_, mk_, pk_, kd_, sl_, la_, ft_a, ft_i, ft_l, ft_o, ft_n, ft_b0, ft_b1, ft_bI, nr_0, nr_1, nr_bI, ro_, no_, if_true, if_false, ite_true, ite_false, reduceIte, Nat.reduceMod, Nat.reduceEqDiff, Nat.zero_add, Nat.add_zero, lk_, lit_, nI_add, nI_mul, ix_nI, fgk_0, fgk_1, fgk_2, fgk_3, fgk_4, fgk_5, fgk_6, fgk_7, fgk_8, fgk_9, fgk_10, fgk_11, fgk_12, fgk_13, fsk_0, fsk_1, fsk_2, fsk_3, fsk_4, fsk_5, fsk_6, fsk_7, fsk_8, fsk_9, fsk_10, fsk_11, fsk_12, fsk_13, ca_i, ca_r, ca_n, Nat.reduceLT, true_or, or_true, if_true, false_or, or_false, and_true, true_and, List.mem_singleton, eq_self, nI_leI, e1', c0, c2, nf_1, hk, ix_nI, hc]
  · have e1' : y ≤ x := by omega
    rw [if_neg e1]
    simp (disch := first | omega | decide) only [l297, b297_0, K297_0, b297_1, K297_1, b297_2, K297_2, R_cons, go_nx, go_jp, go_rt, go_th, go_ca, go_no, go_ite, rr_v, rr_n, rr_x, hx_n, hx_p, hx_b, I_push, I_pushl, I_fc0, I_fc1, I_dc0, I_null, I_mask, I_iload, I_lload, I_dload, I_fload, I_aload, I_istore, I_lstore, I_dstore, I_fstore, I_astore, I_iinc, I_iadd, I_isub, I_imul, I_iand, I_ior, I_ixor, I_ishl, I_ishr, I_iushr, I_ineg, I_ladd, I_lsub, I_lmul, I_lxor, I_i2l, I_l2i, I_i2b, I_i2c, I_i2f, I_i2d, I_lcmp, I_fdiv, I_ddiv, I_f2d, I_dcmp, I_dup, I_pop, I_dup_x1, I_dup2, I_icne, I_iceq, I_iclt, I_icge, I_icgt, I_icle, I_ifnull, I_ifnonnull, I_ane, I_aeq, I_goto, I_lsw, I_iret, I_lret, I_fret, I_dret, I_vret, I_nret, I_aret, I_iald, I_bald, I_lald, I_aald, I_iast, I_bast, I_last, I_aast, I_alen, I_new, I_val, I_cast, I_inst, I_obj, I_throw, I_mkx, I_getf, I_putf, I_call, I_calli, I_callv, I_clone, I_getc, i_ifeq, i_ifne, i_iflt, i_ifge, i_ifgt, i_ifle, i_idiv, i_irem, i_newa, i_newo, i_abs, i_max, i_min, i_ldiv, en_, es_i, es_r, es_0, es_n, es_l, List.length_cons, List.length_nil, List.cons_append, List.nil_append, Nat.reduceAdd, Nat.reduceSub, List.replicate, lg_, st1_, st2_, cn_, nl_, mk_, pk_, kd_, sl_, la_, ft_a, ft_i, ft_l, ft_o, ft_n, ft_b0, ft_b1, ft_bI, nr_0, nr_1, nr_bI, ro_, no_, if_true, if_false, ite_true, ite_false, reduceIte, Nat.reduceMod, Nat.reduceEqDiff, Nat.zero_add, Nat.add_zero, lk_, lit_, nI_add, nI_mul, ix_nI, fgk_0, fgk_1, fgk_2, fgk_3, fgk_4, fgk_5, fgk_6, fgk_7, fgk_8, fgk_9, fgk_10, fgk_11, fgk_12, fgk_13, fsk_0, fsk_1, fsk_2, fsk_3, fsk_4, fsk_5, fsk_6, fsk_7, fsk_8, fsk_9, fsk_10, fsk_11, fsk_12, fsk_13, ca_i, ca_r, ca_n, Nat.reduceLT, true_or, or_true, if_true, false_or, or_false, and_true, true_and, List.mem_singleton, eq_self, nI_leI, e1', c0, c2, nf_1, hk, ix_nI, hc]
theorem N_weight {p : Nat} (h : NV_ h0 σ b bb q w lc N) (hwl : Wl_ E h0 w r ms ss) (hm : ms.length = n) (hW : Wr_ r n s) (hp : p / 12 < n ∧ p % 12 < n) (hne : p / 12 ≠ p % 12) (hN : ∀ p, p < 144 → N 0 p = nI (ct_ r s p)) : D_ E 309 [.ref b, .int (nI p)] σ = some (.inl (some (.int (wgt_ r s p))), σ) := by
  have h12 := wr_n12 hW
  have hf := N_far (E := E) h hwl hm hp h12
  have hd := di_ne hW hp.1 hp.2 hne
  have hc := hN p (by omega)
  obtain ⟨⟨c0, c1, _⟩, _⟩ := h
  unfold wgt_
  rw [D_run]
  simp (disch := first | assumption | omega) only [l309, b309_0, K309_0, R_cons, go_nx, go_jp, go_rt, go_th, go_ca, go_no, go_ite, rr_v, rr_n, rr_x, hx_n, hx_p, hx_b, I_push, I_pushl, I_fc0, I_fc1, I_dc0, I_null, I_mask, I_iload, I_lload, I_dload, I_fload, I_aload, I_istore, I_lstore, I_dstore, I_fstore, I_astore, I_iinc, I_iadd, I_isub, I_imul, I_iand, I_ior, I_ixor, I_ishl, I_ishr, I_iushr, I_ineg, I_ladd, I_lsub, I_lmul, I_lxor, I_i2l, I_l2i, I_i2b, I_i2c, I_i2f, I_i2d, I_lcmp, I_fdiv, I_ddiv, I_f2d, I_dcmp, I_dup, I_pop, I_dup_x1, I_dup2, I_icne, I_iceq, I_iclt, I_icge, I_icgt, I_icle, I_ifnull, I_ifnonnull, I_ane, I_aeq, I_goto, I_lsw, I_iret, I_lret, I_fret, I_dret, I_vret, I_nret, I_aret, I_iald, I_bald, I_lald, I_aald, I_iast, I_bast, I_last, I_aast, I_alen, I_new, I_val, I_cast, I_inst, I_obj, I_throw, I_mkx, I_getf, I_putf, I_call, I_calli, I_callv, I_clone, I_getc, i_ifeq, i_ifne, i_iflt, i_ifge, i_ifgt, i_ifle, i_idiv, i_irem, i_newa, i_newo, i_abs, i_max, i_min, i_ldiv, en_, es_i, es_r, es_0, es_n, es_l, List.length_cons, List.length_nil, List.cons_append, List.nil_append, Nat.reduceAdd, Nat.reduceSub, List.replicate, lg_, st1_, st2_, cn_, nl_, mk_, pk_, kd_, sl_, la_, ft_a, ft_i, ft_l, ft_o, ft_n, ft_b0, ft_b1, ft_bI, nr_0, nr_1, nr_bI, ro_, no_, if_true, if_false, ite_true, ite_false, reduceIte, Nat.reduceMod, Nat.reduceEqDiff, Nat.zero_add, Nat.add_zero, lk_, lit_, nI_add, nI_mul, ix_nI, fgk_0, fgk_1, fgk_2, fgk_3, fgk_4, fgk_5, fgk_6, fgk_7, fgk_8, fgk_9, fgk_10, fgk_11, fgk_12, fgk_13, fsk_0, fsk_1, fsk_2, fsk_3, fsk_4, fsk_5, fsk_6, fsk_7, fsk_8, fsk_9, fsk_10, fsk_11, fsk_12, fsk_13, ca_i, ca_r, ca_n, Nat.reduceLT, true_or, or_true, if_true, false_or, or_false, and_true, true_and, List.mem_singleton, eq_self, c0, c1, nf_0, ix_nI, hc, hf]
end CNG
