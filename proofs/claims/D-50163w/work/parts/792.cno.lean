section CNO
variable {E : En_} {σ : As_} {w n s b bb q : Nat} {r : Nat → Int32} {ms ss : List Nat} {h0 : Nat → Option Ac_} {lc : Ac_} {N : Nat → Nat → Int32} {hg dp : Nat → Nat}
/-- a net object with nothing in it -/
def n0_ : Ac_ := .inr (6, [.null, .null, .null, .null, .null, .null, .null, .int (nI 0), .null, .null, .null, .int (nI 0), .null])
theorem up_3 {h : Nat → Option Ac_} {a c : Nat} {x y z : Ac_} (hac : a ≠ c) : up_ (up_ (up_ h c x) a y) c z = up_ (up_ h a y) c z := by
  funext i
  by_cases e : i = c
  · rw [e, up_s, up_s]
  · rw [up_n e, up_n e]
    by_cases e2 : i = a
    · rw [e2, up_s, up_s]
    · rw [up_n e2, up_n e2, up_n e]
/-- what the net is when it's laid -/
def NtK_ (N : Nat → Nat → Int32) (r : Nat → Int32) (n s : Nat) : Prop := N 7 0 = err_ r n s ∧ Ne_ N r s (err_ r n s) ∧ (∀ j, j < 12 → N 4 j = nI (prt_ r n s j)) ∧ (∀ p, p < 144 → N 5 p = bI (tkn_ r n s p = true)) ∧ Dq_ n (prt_ r n s) (tkn_ r n s) (N 8) (N 9)
/-- the loops in their list, up to k -/
def LpL_ (E : En_) (h : Nat → Option Ac_) (m a : Nat) (r : Nat → Int32) (n s k : Nat) : Prop := ∃ mc e xs, Ls_ E h a mc e xs ∧ (m < e ∨ E.2.2.2.1 7 = .ref e) ∧ xs.length = k ∧ (∀ i x, xs[i]? = some x → x ≠ a ∧ LpO_ m h x (lpe_ r n s i / 12) (lpw_ r n s i) (mis_ r n s i) (wal_ r n s i))
/-- the lasting cells of a net being made -/
def nl7_ (h : Nat → Option Ac_) (b bb d : Nat) (c : Ac_) : Nat → Option Ac_ :=
  up_ (up_ (up_ (up_ (up_ (up_ (up_ (up_ h (bb + 1) (tI_ 0 144 (fun _ => nI 0))) (bb + 2) (tI_ 0 144 (fun _ => nI 0))) (bb + 3) (tI_ 0 144 (fun _ => nI 0))) (bb + 4) (tI_ 0 144 (fun _ => nI 0))) (bb + 5) (tI_ 0 12 (fun _ => nI 0))) (bb + 6) (tI_ 2 144 (fun _ => nI 0))) (bb + 7) (.inr (11, [.int (nI 0), .ref d, .int (nI 0)]))) b c
theorem nl7_old {h : Nat → Option Ac_} {b bb d x : Nat} {c : Ac_} (hx : x ≠ b ∧ x ≤ bb) : nl7_ h b bb d c x = h x := by
  unfold nl7_
  rw [up_n (by omega), up_n (by omega), up_n (by omega), up_n (by omega), up_n (by omega), up_n (by omega), up_n (by omega), up_n (by omega)]
theorem Ls_nil {h : Nat → Option Ac_} {a d : Nat} (h1 : h a = some (.inr (11, [.int (nI 0), .ref d, .int (nI 0)]))) (h2 : h d = some (.inl (104, 0, .inr (.inr (.inr (.inr (fun _ => none))))))) (h3 : E.2.2.2.1 7 = .ref d) : Ls_ E h a (nI 0) d [] :=
  ⟨0, fun _ => none, 104, h1, h2, Nat.le_refl _, by decide, fun j x hj => by simp at hj, fun _ _ => rfl, fun x hx => by simp at hx, Or.inr ⟨rfl, rfl, h3⟩⟩
def nN_ (e : Int32) : Nat → Nat → Int32 := um (fun _ _ => nI 0) 7 (fun _ => e)
/-- a net is made, up to its loops -/
theorem N_init1 {dd : Nat} (hE7 : E.2.2.2.1 7 = .ref dd) (hd : E7_ E h0) (h4 : E45_ E h0) (hh : σ.2.2 = up_ h0 b n0_) (hb : σ.1 = bb + 1) (hbb : b ≤ bb) (hw0 : ∀ x, (x = b ∨ bb < x) → h0 x = none) (hwl : Wl_ E h0 w r ms ss) (hm : ms.length = n) (hss : ss.length = s) (hW : Wr_ r n s) :
    ∃ σ' q N it, D_ E 288 [.ref b, .ref w] σ = R_ E 288 (B_ E 288 1) [some (.ref b), some (.ref w), some (.ref it), none] [] σ' ∧ NV_ h0 σ' b bb q w (.inr (11, [.int (nI 0), .ref dd, .int (nI 0)])) N ∧ NtK_ N r n s ∧ Ls_ E σ'.2.2 (bb + 7) (nI 0) dd [] ∧ NI_ σ'.2.2 it (nxk_ (N 0) 144 0) b ∧ q + 2 < it ∧ Sz_ 2800 σ σ' := by
  obtain ⟨d1, q1, q2⟩ := id hd
  rw [hE7] at q1
  cases q1
  have hddb : dd ≠ b ∧ dd ≤ bb := by
    by_cases c : dd ≠ b ∧ dd ≤ bb
    · exact c
    · rw [hw0 dd (by omega)] at q2; cases q2
  have hwl' := hwl
  obtain ⟨am, em, as, es, st, mc, mc', hA⟩ := hwl'
  have hwc := hA.1
  have hwb : w ≠ b ∧ w ≤ bb := by
    by_cases c : w ≠ b ∧ w ≤ bb
    · exact c
    · rw [hw0 w (by omega)] at hwc; cases hwc
  have hxb : ∀ {x c}, h0 x = some c → x ≠ b ∧ x ≤ bb := fun {x c} hx => by
    by_cases q : x ≠ b ∧ x ≤ bb
    · exact q
    · rw [hw0 x (by omega)] at hx; cases hx
  have hold : ∀ {d c}, le_ h0 (nl7_ h0 b bb d c) := fun {d c} x y hx => by
    rw [nl7_old (hxb hx)]
    exact hx
  have hHw : ∀ {d c m}, Hw_ (bb + 8, m, nl7_ h0 b bb d c) := fun {d c m} x hx => by
    dsimp only at hx ⊢
    unfold nl7_
    rw [up_n (by omega), up_n (by omega), up_n (by omega), up_n (by omega), up_n (by omega), up_n (by omega), up_n (by omega), up_n (by omega)]
    exact hw0 x (by omega)
  have hle6 : le_ h0 (up_ (up_ (up_ (up_ (up_ (up_ (up_ (up_ h0 (bb + 1) (tI_ 0 144 (fun _ => nI 0))) (bb + 2) (tI_ 0 144 (fun _ => nI 0))) (bb + 3) (tI_ 0 144 (fun _ => nI 0))) (bb + 4) (tI_ 0 144 (fun _ => nI 0))) (bb + 5) (tI_ 0 12 (fun _ => nI 0))) (bb + 6) (tI_ 2 144 (fun _ => nI 0))) b (.inr (6, [.ref (bb + 1), .ref (bb + 2), .ref (bb + 3), .ref (bb + 4), .ref (bb + 5), .ref (bb + 6), .null, .int (nI 0), .null, .null, .null, .int (nI 0), .ref w]))) (bb + 7) (.inr (11, [.int (nI 0), .null, .int (nI 0)]))) := fun x y hx => by
    have := hxb hx
    rw [up_n (by omega), up_n (by omega), up_n (by omega), up_n (by omega), up_n (by omega), up_n (by omega), up_n (by omega), up_n (by omega)]
    exact hx
  have hJ := J_newL (E := E) (σ := (bb + 8, σ.2.1 + 735, up_ (up_ (up_ (up_ (up_ (up_ (up_ (up_ h0 (bb + 1) (tI_ 0 144 (fun _ => nI 0))) (bb + 2) (tI_ 0 144 (fun _ => nI 0))) (bb + 3) (tI_ 0 144 (fun _ => nI 0))) (bb + 4) (tI_ 0 144 (fun _ => nI 0))) (bb + 5) (tI_ 0 12 (fun _ => nI 0))) (bb + 6) (tI_ 2 144 (fun _ => nI 0))) b (.inr (6, [.ref (bb + 1), .ref (bb + 2), .ref (bb + 3), .ref (bb + 4), .ref (bb + 5), .ref (bb + 6), .null, .int (nI 0), .null, .null, .null, .int (nI 0), .ref w]))) (bb + 7) (.inr (11, [.int (nI 0), .null, .int (nI 0)])))) (a := bb + 7) (E7_mono hle6 hd) (fun x hx => by
    dsimp only at hx ⊢
    rw [up_n (by omega), up_n (by omega), up_n (by omega), up_n (by omega), up_n (by omega), up_n (by omega), up_n (by omega), up_n (by omega)]
    exact hw0 x (by omega)) (up_s _ _ _)
  obtain ⟨d1, q1, hJ1, hJ2⟩ := hJ
  rw [hE7] at q1
  cases q1
  obtain ⟨σ1, e1, e2⟩ := W_error (E := E) (σ := (bb + 8, σ.2.1 + 735, nl7_ h0 b bb dd (.inr (6, [.ref (bb + 1), .ref (bb + 2), .ref (bb + 3), .ref (bb + 4), .ref (bb + 5), .ref (bb + 6), .ref (bb + 7), .int (nI 0), .null, .null, .null, .int (nI 0), .ref w])))) (E7_mono hold hd) (E45_mono hold h4) (Wl_mono hold hwl) hm hss hW hHw
  have hfr := e2.1
  have hs11 := e2.2.1
  dsimp only at hs11
  obtain ⟨q, hq⟩ : ∃ q, q = σ1.1 := ⟨_, rfl⟩
  have c0 : σ1.2.2 b = some (.inr (6, [.ref (bb + 1), .ref (bb + 2), .ref (bb + 3), .ref (bb + 4), .ref (bb + 5), .ref (bb + 6), .ref (bb + 7), .int (nI 0), .null, .null, .null, .int (nI 0), .ref w])) := hfr _ _ (up_s _ _ _)
  have cw : σ1.2.2 w = some (.inr (1, [.ref am, .ref as, .ref st, .int (r 6), .int (r 7)])) := hfr _ _ (hold _ _ hwc)
  have hc : σ.2.2 b = some n0_ := by rw [hh, up_s]
  unfold n0_ at hc hh
  have c7 : σ1.2.2 (bb + 7) = some (.inr (11, [.int (nI 0), .ref dd, .int (nI 0)])) := hfr _ _ (by dsimp only; unfold nl7_; rw [up_n (by omega)]; exact up_s _ _ _)
  have hNV : NV_ h0 (q + 3, σ1.2.1 + 36, up_ (up_ (up_ (up_ σ1.2.2 q (tI_ 0 12 (fun _ => nI 0))) (q + 1) (tI_ 0 12 (fun _ => nI 0))) (q + 2) (tI_ 0 12 (fun _ => nI 0))) b (.inr (6, nf_ bb q w (nN_ (err_ r n s))))) b bb q w (.inr (11, [.int (nI 0), .ref dd, .int (nI 0)])) (nN_ (err_ r n s)) := by
    have hcell : ∀ {x y}, x < bb + 8 → x ≠ b → nl7_ h0 b bb dd (.inr (6, [.ref (bb + 1), .ref (bb + 2), .ref (bb + 3), .ref (bb + 4), .ref (bb + 5), .ref (bb + 6), .ref (bb + 7), .int (nI 0), .null, .null, .null, .int (nI 0), .ref w])) x = some y → up_ (up_ (up_ (up_ σ1.2.2 q (tI_ 0 12 (fun _ => nI 0))) (q + 1) (tI_ 0 12 (fun _ => nI 0))) (q + 2) (tI_ 0 12 (fun _ => nI 0))) b (.inr (6, nf_ bb q w (nN_ (err_ r n s)))) x = some y := fun {x y} hx hxn h => by
      rw [up_n hxn, up_n (by omega), up_n (by omega), up_n (by omega)]
      exact hfr _ _ h
    refine ⟨⟨up_s _ _ _, hcell (by omega) (by omega) ?_, hcell (by omega) (by omega) ?_, hcell (by omega) (by omega) ?_, hcell (by omega) (by omega) ?_, hcell (by omega) (by omega) ?_, hcell (by omega) (by omega) ?_, ?_, ?_, ?_, hcell (by omega) (by omega) ?_⟩, ?_, ?_, hw0, by omega⟩
    · unfold nl7_; rw [up_n (by omega), up_n (by omega), up_n (by omega), up_n (by omega), up_n (by omega), up_n (by omega), up_n (by omega)]; exact up_s _ _ _
    · unfold nl7_; rw [up_n (by omega), up_n (by omega), up_n (by omega), up_n (by omega), up_n (by omega), up_n (by omega)]; exact up_s _ _ _
    · unfold nl7_; rw [up_n (by omega), up_n (by omega), up_n (by omega), up_n (by omega), up_n (by omega)]; exact up_s _ _ _
    · unfold nl7_; rw [up_n (by omega), up_n (by omega), up_n (by omega), up_n (by omega)]; exact up_s _ _ _
    · unfold nl7_; rw [up_n (by omega), up_n (by omega), up_n (by omega)]; exact up_s _ _ _
    · unfold nl7_; rw [up_n (by omega), up_n (by omega)]; exact up_s _ _ _
    · dsimp only; rw [up_n (by omega), up_n (by omega), up_n (by omega)]; exact up_s _ _ _
    · dsimp only; rw [up_n (by omega), up_n (by omega)]; exact up_s _ _ _
    · dsimp only; rw [up_n (by omega)]; exact up_s _ _ _
    · unfold nl7_; rw [up_n (by omega)]; exact up_s _ _ _
    · intro x y hx
      have := hxb hx
      exact hcell (by omega) (by omega) (hold _ _ hx)
    · intro x hx
      dsimp only at hx ⊢
      rw [up_n (by omega), up_n (by omega), up_n (by omega), up_n (by omega)]
      exact e2.2.2.2.2 x (by omega)
  obtain ⟨σ3, N1, k1, k2, k3, k4, k5⟩ := N_layRises (E := E) (e := err_ r n s) h4 hwl hm hss hW hNV rfl (fun p => ⟨rfl, rfl⟩)
  obtain ⟨σ4, f4, f5, l1, l2, l3, l4, l5⟩ := N_layForest (E := E) hd h4 hwl hm hW k2 k3.1 (fun p _ => by rw [k4 5 (by omega)]; rfl) (fun n q => by intro q; cases q)
  obtain ⟨σ5, f8, f9, m1, m2, m3, m4, m5⟩ := N_layDepths (E := E) (s := s) hW l2 (fun j hj => l3 j hj) (fun p hp => l4 p hp)
  obtain ⟨σ6, o1, o2, o3, o4⟩ := N_iter (E := E) m2
  have c3 := k2.1.1
  have c4 := l2.1.1
  have c5 := m2.1.1
  have hq5 := NV_lt m2
  refine ⟨σ6, q, _, σ5.1, ?_, o2, ⟨?_, k3, l3, l4, m3⟩, Ls_nil o2.1.2.2.2.2.2.2.2.2.2.2 (o2.2.1 _ _ q2) hE7, o3, hq5, ?_⟩
  · rw [D_run]
    simp (disch := omega) only [b288_0, K288_0, l288, R_cons, go_nx, go_jp, go_rt, go_th, go_ca, go_no, go_ite, rr_v, rr_n, rr_x, hx_n, hx_p, hx_b, I_push, I_pushl, I_fc0, I_fc1, I_dc0, I_null, I_mask, I_iload, I_lload, I_dload, I_fload, I_aload, I_istore, I_lstore, I_dstore, I_fstore, I_astore, I_iinc, I_iadd, I_isub, I_imul, I_iand, I_ior, I_ixor, I_ishl, I_ishr, I_iushr, I_ineg, I_ladd, I_lsub, I_lmul, I_lxor, I_i2l, I_l2i, I_i2b, I_i2c, I_i2f, I_i2d, I_lcmp, I_fdiv, I_ddiv, I_f2d, I_dcmp, I_dup, I_pop, I_dup_x1, I_dup2, I_icne, I_iceq, I_iclt, I_icge, I_icgt, I_icle, I_ifnull, I_ifnonnull, I_ane, I_aeq, I_goto, I_lsw, I_iret, I_lret, I_fret, I_dret, I_vret, I_nret, I_aret, I_iald, I_bald, I_lald, I_aald, I_iast, I_bast, I_last, I_aast, I_alen, I_new, I_val, I_cast, I_inst, I_obj, I_throw, I_mkx, I_getf, I_putf, I_call, I_calli, I_callv, I_clone, I_getc, i_ifeq, i_ifne, i_iflt, i_ifge, i_ifgt, i_ifle, i_idiv, i_irem, i_newa, i_newo, i_abs, i_max, i_min, i_ldiv, en_, es_i, es_r, es_0, es_n, es_l, List.length_cons, List.length_nil, List.cons_append, List.nil_append, Nat.reduceAdd, Nat.reduceSub, List.replicate, lg_, st1_, st2_, cn_, nl_, mk_, pk_, kd_, sl_, la_, ft_a, ft_i, ft_l, ft_o, ft_n, ft_b0, ft_b1, ft_bI, nr_0, nr_1, nr_bI, ro_, no_, if_true, if_false, ite_true, ite_false, reduceIte, Nat.reduceMod, Nat.reduceEqDiff, Nat.zero_add, Nat.add_zero, lk_, lit_, nI_add, nI_mul, ix_nI, fgk_0, fgk_1, fgk_2, fgk_3, fgk_4, fgk_5, fgk_6, fgk_7, fgk_8, fgk_9, fgk_10, fgk_11, fgk_12, fgk_13, fsk_0, fsk_1, fsk_2, fsk_3, fsk_4, fsk_5, fsk_6, fsk_7, fsk_8, fsk_9, fsk_10, fsk_11, fsk_12, fsk_13, ca_i, ca_r, ca_n, Nat.reduceLT, true_or, or_true, if_true, false_or, or_false, and_true, true_and, List.mem_singleton, eq_self, hc, i_newa, up_s, up_up, up_n, up_3, hb, hh, Nat.add_assoc]
    rw [hJ1]
    unfold nl7_ at e1
    simp (disch := omega) only [R_cons, go_nx, go_jp, go_rt, go_th, go_ca, go_no, go_ite, rr_v, rr_n, rr_x, hx_n, hx_p, hx_b, I_push, I_pushl, I_fc0, I_fc1, I_dc0, I_null, I_mask, I_iload, I_lload, I_dload, I_fload, I_aload, I_istore, I_lstore, I_dstore, I_fstore, I_astore, I_iinc, I_iadd, I_isub, I_imul, I_iand, I_ior, I_ixor, I_ishl, I_ishr, I_iushr, I_ineg, I_ladd, I_lsub, I_lmul, I_lxor, I_i2l, I_l2i, I_i2b, I_i2c, I_i2f, I_i2d, I_lcmp, I_fdiv, I_ddiv, I_f2d, I_dcmp, I_dup, I_pop, I_dup_x1, I_dup2, I_icne, I_iceq, I_iclt, I_icge, I_icgt, I_icle, I_ifnull, I_ifnonnull, I_ane, I_aeq, I_goto, I_lsw, I_iret, I_lret, I_fret, I_dret, I_vret, I_nret, I_aret, I_iald, I_bald, I_lald, I_aald, I_iast, I_bast, I_last, I_aast, I_alen, I_new, I_val, I_cast, I_inst, I_obj, I_throw, I_mkx, I_getf, I_putf, I_call, I_calli, I_callv, I_clone, I_getc, i_ifeq, i_ifne, i_iflt, i_ifge, i_ifgt, i_ifle, i_idiv, i_irem, i_newa, i_newo, i_abs, i_max, i_min, i_ldiv, en_, es_i, es_r, es_0, es_n, es_l, List.length_cons, List.length_nil, List.cons_append, List.nil_append, Nat.reduceAdd, Nat.reduceSub, List.replicate, lg_, st1_, st2_, cn_, nl_, mk_, pk_, kd_, sl_, la_, ft_a, ft_i, ft_l, ft_o, ft_n, ft_b0, ft_b1, ft_bI, nr_0, nr_1, nr_bI, ro_, no_, if_true, if_false, ite_true, ite_false, reduceIte, Nat.reduceMod, Nat.reduceEqDiff, Nat.zero_add, Nat.add_zero, lk_, lit_, nI_add, nI_mul, ix_nI, fgk_0, fgk_1, fgk_2, fgk_3, fgk_4, fgk_5, fgk_6, fgk_7, fgk_8, fgk_9, fgk_10, fgk_11, fgk_12, fgk_13, fsk_0, fsk_1, fsk_2, fsk_3, fsk_4, fsk_5, fsk_6, fsk_7, fsk_8, fsk_9, fsk_10, fsk_11, fsk_12, fsk_13, ca_i, ca_r, ca_n, Nat.reduceLT, true_or, or_true, if_true, false_or, or_false, and_true, true_and, List.mem_singleton, eq_self, up_s, up_up, up_n, up_3, hwc, e1, c0, Nat.add_assoc, ← hq]
    have e9 : nf_ bb q w (nN_ (err_ r n s)) = [.ref (bb + 1), .ref (bb + 2), .ref (bb + 3), .ref (bb + 4), .ref (bb + 5), .ref (bb + 6), .ref (bb + 7), .int (err_ r n s), .ref q, .ref (q + 1), .ref (q + 2), .int (nI 0), .ref w] := rfl
    rw [e9] at k1
    rw [k1]
    simp (disch := omega) only [R_cons, go_nx, go_jp, go_rt, go_th, go_ca, go_no, go_ite, rr_v, rr_n, rr_x, hx_n, hx_p, hx_b, I_push, I_pushl, I_fc0, I_fc1, I_dc0, I_null, I_mask, I_iload, I_lload, I_dload, I_fload, I_aload, I_istore, I_lstore, I_dstore, I_fstore, I_astore, I_iinc, I_iadd, I_isub, I_imul, I_iand, I_ior, I_ixor, I_ishl, I_ishr, I_iushr, I_ineg, I_ladd, I_lsub, I_lmul, I_lxor, I_i2l, I_l2i, I_i2b, I_i2c, I_i2f, I_i2d, I_lcmp, I_fdiv, I_ddiv, I_f2d, I_dcmp, I_dup, I_pop, I_dup_x1, I_dup2, I_icne, I_iceq, I_iclt, I_icge, I_icgt, I_icle, I_ifnull, I_ifnonnull, I_ane, I_aeq, I_goto, I_lsw, I_iret, I_lret, I_fret, I_dret, I_vret, I_nret, I_aret, I_iald, I_bald, I_lald, I_aald, I_iast, I_bast, I_last, I_aast, I_alen, I_new, I_val, I_cast, I_inst, I_obj, I_throw, I_mkx, I_getf, I_putf, I_call, I_calli, I_callv, I_clone, I_getc, i_ifeq, i_ifne, i_iflt, i_ifge, i_ifgt, i_ifle, i_idiv, i_irem, i_newa, i_newo, i_abs, i_max, i_min, i_ldiv, en_, es_i, es_r, es_0, es_n, es_l, List.length_cons, List.length_nil, List.cons_append, List.nil_append, Nat.reduceAdd, Nat.reduceSub, List.replicate, lg_, st1_, st2_, cn_, nl_, mk_, pk_, kd_, sl_, la_, ft_a, ft_i, ft_l, ft_o, ft_n, ft_b0, ft_b1, ft_bI, nr_0, nr_1, nr_bI, ro_, no_, if_true, if_false, ite_true, ite_false, reduceIte, Nat.reduceMod, Nat.reduceEqDiff, Nat.zero_add, Nat.add_zero, lk_, lit_, nI_add, nI_mul, ix_nI, fgk_0, fgk_1, fgk_2, fgk_3, fgk_4, fgk_5, fgk_6, fgk_7, fgk_8, fgk_9, fgk_10, fgk_11, fgk_12, fgk_13, fsk_0, fsk_1, fsk_2, fsk_3, fsk_4, fsk_5, fsk_6, fsk_7, fsk_8, fsk_9, fsk_10, fsk_11, fsk_12, fsk_13, ca_i, ca_r, ca_n, Nat.reduceLT, true_or, or_true, if_true, false_or, or_false, and_true, true_and, List.mem_singleton, eq_self, c3, c4, c5, l1, m1, o1]
  · show N1 7 0 = _
    rw [k4 7 (by omega)]
    rfl
  · obtain ⟨t1, t2, t3⟩ := Fr_Sz e2
    obtain ⟨u1, u2, u3⟩ := k5
    obtain ⟨v1, v2, v3⟩ := l5
    have ho : σ6.1 = σ5.1 + 1 ∧ σ6.2.1 = σ5.2.1 + 2 := by rw [o4]; exact ⟨rfl, rfl⟩
    dsimp only at t1 t2 t3 u1 u2 u3
    exact ⟨by omega, by omega, by omega⟩
end CNO
