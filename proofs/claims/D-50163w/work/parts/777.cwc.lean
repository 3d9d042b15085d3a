section CWC
variable {E : En_} {σ : As_} {w n s : Nat} {r : Nat → Int32} {ms ss : List Nat}
/-- sums of pure readings are bounded -/
def esb_ (x : Int64 × Int64 × Nat × Nat) : Prop := -(26000 * (x.2.2.1 : Int)) ≤ x.1.toInt ∧ x.1.toInt ≤ 26000 * (x.2.2.1 : Int) ∧ -(26000 * (x.2.2.2 : Int)) ≤ x.2.1.toInt ∧ x.2.1.toInt ≤ 26000 * (x.2.2.2 : Int)
theorem esb_add {x : Int64} {p : Int32} {k : Nat} (h1 : -(26000 * (k : Int)) ≤ x.toInt) (h2 : x.toInt ≤ 26000 * (k : Int)) (hk : k ≤ 100) (hp : inr_ p (-26000) 26000) : -(26000 * ((k + 1 : Nat) : Int)) ≤ (x + p.toInt64).toInt ∧ (x + p.toInt64).toInt ≤ 26000 * ((k + 1 : Nat) : Int) := by
  unfold inr_ at hp
  rw [Int64.toInt_add, Int32.toInt_toInt64, Int.bmod_eq_of_le (by omega) (by omega)]
  omega
theorem neg_in {p : Int32} (hp : inr_ p (-26000) 26000) : inr_ (-p) (-26000) 26000 := by
  unfold inr_ at hp ⊢
  rw [Int32.toInt_neg, Int.bmod_eq_of_le (by omega) (by omega)]
  omega
theorem es1_b {p i : Nat} {x : Int64 × Int64 × Nat × Nat} (hW : Wr_ r n s) (hi : i < s) (h : esb_ x) (hc : x.2.2.1 ≤ 100 ∧ x.2.2.2 ≤ 100) : esb_ (es1_ r p i x) := by
  have hp := pu_in hW hi
  have hn := neg_in hp
  obtain ⟨h1, h2, h3, h4⟩ := h
  have a1 := esb_add h1 h2 hc.1 hp
  have a2 := esb_add h3 h4 hc.2 hp
  have a3 := esb_add h1 h2 hc.1 hn
  have a4 := esb_add h3 h4 hc.2 hn
  unfold es1_
  split
  · split
    · split
      · split
        · exact ⟨a1.1, a1.2, h3, h4⟩
        · exact ⟨h1, h2, a2.1, a2.2⟩
      · split
        · exact ⟨h1, h2, a4.1, a4.2⟩
        · exact ⟨a3.1, a3.2, h3, h4⟩
    · exact ⟨h1, h2, h3, h4⟩
  · exact ⟨h1, h2, h3, h4⟩
theorem es_b {p : Nat} (hW : Wr_ r n s) : ∀ (d i : Nat) (x : Int64 × Int64 × Nat × Nat), i + d = s → esb_ x → x.2.2.1 ≤ i → x.2.2.2 ≤ i → esb_ (fo_ (es1_ r p) d i x) := by
  have h40 := wr_s40 hW
  intro d
  induction d with
  | zero => intro i x hi h h1 h2; exact h
  | succ d ih =>
    intro i x hi h h1 h2
    have hc := fo_count (r := r) (p := p) 1 i x
    have e : fo_ (es1_ r p) 1 i x = es1_ r p i x := rfl
    rw [e] at hc
    rw [fo_]
    exact ih (i + 1) _ (by omega) (es1_b hW (by omega) h ⟨by omega, by omega⟩) (by omega) (by omega)
theorem esf_b {p : Nat} (hW : Wr_ r n s) : esb_ (esf_ r s p) ∧ (esf_ r s p).2.2.1 ≤ 40 ∧ (esf_ r s p).2.2.2 ≤ 40 := by
  have h40 := wr_s40 hW
  have hc := fo_count (r := r) (p := p) s 0 (0, 0, 0, 0)
  have e0 : (0 : Int64).toInt = 0 := by decide
  refine ⟨es_b hW s 0 _ (by omega) ⟨?_, ?_, ?_, ?_⟩ (Nat.le_refl _) (Nat.le_refl _), ?_, ?_⟩
  · show -(26000 * ((0 : Nat) : Int)) ≤ (0 : Int64).toInt
    rw [e0]; decide
  · show (0 : Int64).toInt ≤ 26000 * ((0 : Nat) : Int)
    rw [e0]; decide
  · show -(26000 * ((0 : Nat) : Int)) ≤ (0 : Int64).toInt
    rw [e0]; decide
  · show (0 : Int64).toInt ≤ 26000 * ((0 : Nat) : Int)
    rw [e0]; decide
  · have := hc.1; unfold esf_; dsimp only at this; omega
  · have := hc.2; unfold esf_; dsimp only at this; omega
/-- a mean -/
theorem mean_in {x : Int64} {k : Nat} (h1 : -(26000 * (k : Int)) ≤ x.toInt) (h2 : x.toInt ≤ 26000 * (k : Int)) (hk : k ≤ 40) (h0 : ¬ k = 0) : -26000 ≤ (fdL x (nI k).toInt64).toInt ∧ (fdL x (nI k).toInt64).toInt ≤ 26000 ∧ ((fdL x (nI k).toInt64).toInt32).toInt = (fdL x (nI k).toInt64).toInt := by
  have hk2 : (nI k).toInt64.toInt = k := by rw [Int32.toInt_toInt64, nI_toInt (by omega)]
  have e := fdL_in (x := x) (y := (nI k).toInt64) ⟨by omega, by omega⟩ (by rw [hk2]; omega)
  rw [hk2] at e
  have hb := dv_in (a := x.toInt) (b := (k : Int)) (B := 26000) (by omega) (by omega) (by omega)
  rw [← e] at hb
  exact ⟨hb.1, hb.2, l2i_in ⟨by omega, by omega⟩⟩
theorem NOH_toInt : NOH.toInt = -10000000 := by decide
/-- what an edge tells of the error, as the component reckons it -/
def ece_ (r : Nat → Int32) (s p : Nat) : Int32 := if od_ r (p / 12) (p % 12) = true then (if mnp_ r s p true = NOH then NOH else if mnp_ r s p false = NOH then NOH else fdI (mnp_ r s p true - mnp_ r s p false) (nI 2)) else NOH
theorem mnp_no {p : Nat} {q : Bool} (hW : Wr_ r n s) : (mnp_ r s p q = NOH ↔ (sd_ q (esf_ r s p)).2 = 0) ∧ (¬ (sd_ q (esf_ r s p)).2 = 0 → inr_ (mnp_ r s p q) (-26000) 26000 ∧ (mnp_ r s p q).toInt = (fdL (sd_ q (esf_ r s p)).1 (nI (sd_ q (esf_ r s p)).2).toInt64).toInt) := by
  obtain ⟨⟨b1, b2, b3, b4⟩, b5, b6⟩ := esf_b (p := p) hW
  have key : ∀ y : Int64 × Nat, -(26000 * (y.2 : Int)) ≤ y.1.toInt → y.1.toInt ≤ 26000 * (y.2 : Int) → y.2 ≤ 40 → ((if y.2 = 0 then NOH else (fdL y.1 (nI y.2).toInt64).toInt32) = NOH ↔ y.2 = 0) ∧ (¬ y.2 = 0 → inr_ (if y.2 = 0 then NOH else (fdL y.1 (nI y.2).toInt64).toInt32) (-26000) 26000 ∧ (if y.2 = 0 then NOH else (fdL y.1 (nI y.2).toInt64).toInt32).toInt = (fdL y.1 (nI y.2).toInt64).toInt) := fun y h1 h2 h3 => by
    by_cases c : y.2 = 0
    · rw [if_pos c]
      exact ⟨⟨fun _ => c, fun _ => rfl⟩, fun q => absurd c q⟩
    · rw [if_neg c]
      obtain ⟨m1, m2, m3⟩ := mean_in h1 h2 h3 c
      refine ⟨⟨fun q => ?_, fun q => absurd q c⟩, fun _ => ⟨?_, m3⟩⟩
      · have := congrArg Int32.toInt q
        rw [m3, NOH_toInt] at this
        omega
      · unfold inr_
        rw [m3]
        exact ⟨m1, m2⟩
  unfold mnp_
  cases q with
  | true => exact key _ b1 b2 b5
  | false => exact key _ b3 b4 b6
theorem ece_est {a b : Nat} (hW : Wr_ r n s) (hab : a < b) (hb : b < n) : ece_ r s (12 * a + b) = est_ r s a b := by
  have h12 := wr_n12 hW
  have d1 : (12 * a + b) / 12 = a := by omega
  have d2 : (12 * a + b) % 12 = b := by omega
  have hp : pa_ a b = 12 * a + b := if_pos hab
  unfold ece_ est_
  rw [d1, d2, hp, if_neg (show ¬ a = b by omega)]
  by_cases c : od_ r a b = true
  · rw [if_pos c, if_pos c]
    obtain ⟨t1, t2⟩ := mnp_no (p := 12 * a + b) (q := true) hW
    obtain ⟨f1, f2⟩ := mnp_no (p := 12 * a + b) (q := false) hW
    have st : sd_ true (esf_ r s (12 * a + b)) = ((esf_ r s (12 * a + b)).1, (esf_ r s (12 * a + b)).2.2.1) := rfl
    have sf : sd_ false (esf_ r s (12 * a + b)) = ((esf_ r s (12 * a + b)).2.1, (esf_ r s (12 * a + b)).2.2.2) := rfl
    rw [st] at t1 t2
    rw [sf] at f1 f2
    dsimp only at t1 t2 f1 f2
    by_cases c1 : (esf_ r s (12 * a + b)).2.2.1 = 0
    · rw [if_pos (t1.mpr c1), if_pos c1]
    · rw [if_neg (fun q => c1 (t1.mp q)), if_neg c1]
      by_cases c2 : (esf_ r s (12 * a + b)).2.2.2 = 0
      · rw [if_pos (f1.mpr c2), if_pos c2]
      · rw [if_neg (fun q => c2 (f1.mp q)), if_neg c2]
        obtain ⟨i1, e1⟩ := t2 c1
        obtain ⟨i2, e2⟩ := f2 c2
        unfold inr_ at i1 i2
        generalize mnp_ r s (12 * a + b) true = x at i1 e1 ⊢
        generalize mnp_ r s (12 * a + b) false = y at i2 e2 ⊢
        generalize fdL (esf_ r s (12 * a + b)).1 (nI (esf_ r s (12 * a + b)).2.2.1).toInt64 = X at e1 ⊢
        generalize fdL (esf_ r s (12 * a + b)).2.1 (nI (esf_ r s (12 * a + b)).2.2.2).toInt64 = Y at e2 ⊢
        have hs : (x - y).toInt = x.toInt - y.toInt := by
          rw [Int32.toInt_sub]
          exact Int.bmod_eq_of_le (by omega) (by omega)
        have hS : (X - Y).toInt = x.toInt - y.toInt := by
          rw [Int64.toInt_sub, ← e1, ← e2]
          exact Int.bmod_eq_of_le (by omega) (by omega)
        have c2I : (nI 2).toInt = 2 := by decide
        have c2L : (2 : Int64).toInt = 2 := by decide
        have k1 := fdI_in (x := x - y) (y := nI 2) ⟨by rw [hs]; omega, by rw [hs]; omega⟩ (by decide)
        have k2 := fdL_in (x := X - Y) (y := 2) ⟨by rw [hS]; omega, by rw [hS]; omega⟩ (by decide)
        rw [hs, c2I] at k1
        rw [hS, c2L] at k2
        apply Int32.toInt_inj.mp
        rw [k1, l2i_in (by rw [k2]; omega), k2]
  · rw [if_neg c, if_neg c]
/-- estimates are small, or none -/
theorem est_in {a b : Nat} (hW : Wr_ r n s) (hab : a < b) (hb : b < n) : est_ r s a b = NOH ∨ inr_ (est_ r s a b) (-26001) 26000 := by
  rw [← ece_est hW hab hb]
  unfold ece_
  split
  · split
    · exact Or.inl rfl
    · next c1 =>
      split
      · exact Or.inl rfl
      · next c2 =>
        right
        obtain ⟨t1, t2⟩ := mnp_no (p := 12 * a + b) (q := true) hW
        obtain ⟨f1, f2⟩ := mnp_no (p := 12 * a + b) (q := false) hW
        have i1 := (t2 (fun q => c1 (t1.mpr q))).1
        have i2 := (f2 (fun q => c2 (f1.mpr q))).1
        unfold inr_ at i1 i2
        have hs : (mnp_ r s (12 * a + b) true - mnp_ r s (12 * a + b) false).toInt = (mnp_ r s (12 * a + b) true).toInt - (mnp_ r s (12 * a + b) false).toInt := by
          rw [Int32.toInt_sub]
          exact Int.bmod_eq_of_le (by omega) (by omega)
        have c2I : (nI 2).toInt = 2 := by decide
        have k1 := fdI_in (x := mnp_ r s (12 * a + b) true - mnp_ r s (12 * a + b) false) (y := nI 2) ⟨by rw [hs]; omega, by rw [hs]; omega⟩ (by decide)
        rw [hs, c2I] at k1
        unfold inr_
        rw [k1]
        omega
  · exact Or.inl rfl
theorem W_estimate {p : Nat} (h : Wl_ E σ.2.2 w r ms ss) (hm : ms.length = n) (hss : ss.length = s) (hW : Wr_ r n s) (hp : p / 12 < n ∧ p % 12 < n) : D_ E 277 [.ref w, .int (nI p)] σ = some (.inl (some (.int (ece_ r s p))), σ) := by
  have h12 := wr_n12 hW
  have hd := W_distance (E := E) h (show p / 12 < ms.length by omega) (show p % 12 < ms.length by omega)
  have hw := W_swings (E := E) (d := di_ r (p / 12) (p % 12)) h (wr_L hW)
  obtain ⟨k, k1, k2⟩ := od_nat hW hp.1 hp.2
  have m1 := W_meanPure (E := E) (q := true) h hm hss hW (show p < 144 by omega)
  have m2 := W_meanPure (E := E) (q := false) h hm hss hW (show p < 144 by omega)
  have esw : (di_ r (p / 12) (p % 12) + r 2 - nI 1) / r 2 = sw_ r (p / 12) (p % 12) := rfl
  rw [esw] at hw
  rw [show bI (true = true) = nI 1 from rfl] at m1
  rw [show bI (false = true) = nI 0 from rfl] at m2
  obtain ⟨am, em, as, es, st, mc, mc', h⟩ := h
  unfold ece_
  rw [D_run]
  by_cases c : od_ r (p / 12) (p % 12) = true
  · have ck : nI (k % 2) = nI 1 := by rw [k2.mp c]
    rw [ck] at k1
    rw [if_pos c]
    by_cases c1 : mnp_ r s p true = NOH
    · rw [if_pos c1]
      rw [c1] at m1
      simp (disch := first | assumption | omega | decide) only [l277, b277_0, K277_0, b277_1, K277_1, b277_2, K277_2, b277_3, K277_3, b277_4, K277_4, R_cons, go_nx, go_jp, go_rt, go_th, go_ca, go_no, go_ite, rr_v, rr_n, rr_x, hx_n, hx_p, hx_b, I_push, I_pushl, I_fc0, I_fc1, I_dc0, I_null, I_mask, I_iload, I_lload, I_dload, I_fload, I_aload, I_istore, I_lstore, I_dstore, I_fstore, I_astore, I_iinc, I_iadd, I_isub, I_imul, I_iand, I_ior, I_ixor, I_ishl, I_ishr, I_iushr, I_ineg, I_ladd, I_lsub, I_lmul, I_lxor, I_i2l, I_l2i, I_i2b, I_i2c, I_i2f, I_i2d, I_lcmp, I_fdiv, I_ddiv, I_f2d, I_dcmp, I_dup, I_pop, I_dup_x1, I_dup2, I_icne, I_iceq, I_iclt, I_icge, I_icgt, I_icle, I_ifnull, I_ifnonnull, I_ane, I_aeq, I_goto, I_lsw, I_iret, I_lret, I_fret, I_dret, I_vret, I_nret, I_aret, I_iald, I_bald, I_lald, I_aald, I_iast, I_bast, I_last, I_aast, I_alen, I_new, I_val, I_cast, I_inst, I_obj, I_throw, I_mkx, I_getf, I_putf, I_call, I_calli, I_callv, I_clone, I_getc, i_ifeq, i_ifne, i_iflt, i_ifge, i_ifgt, i_ifle, i_idiv, i_irem, i_newa, i_newo, i_abs, i_max, i_min, i_ldiv, en_, es_i, es_r, es_0, es_n, es_l, List.length_cons, List.length_nil, List.cons_append, List.nil_append, Nat.reduceAdd, Nat.reduceSub, List.replicate, lg_, st1_, st2_, cn_, nl_, mk_, pk_, kd_, sl_, la_, ft_a, ft_i, ft_l, ft_o, ft_n, ft_b0, ft_b1, ft_bI, nr_0, nr_1, nr_bI, ro_, no_, if_true, if_false, ite_true, ite_false, reduceIte, Nat.reduceMod, Nat.reduceEqDiff, Nat.zero_add, Nat.add_zero, lk_, lit_, nI_add, nI_mul, ix_nI, fgk_0, fgk_1, fgk_2, fgk_3, fgk_4, fgk_5, fgk_6, fgk_7, fgk_8, fgk_9, fgk_10, fgk_11, fgk_12, fgk_13, fsk_0, fsk_1, fsk_2, fsk_3, fsk_4, fsk_5, fsk_6, fsk_7, fsk_8, fsk_9, fsk_10, fsk_11, fsk_12, fsk_13, ca_i, ca_r, ca_n, Nat.reduceLT, true_or, or_true, if_true, false_or, or_false, and_true, true_and, List.mem_singleton, eq_self, h.1, pk_div, nI_rm, hd, hw, k1, n10_, m1, m2]
    · rw [if_neg c1]
      by_cases c2 : mnp_ r s p false = NOH
      · rw [if_pos c2]
        rw [c2] at m2
        simp (disch := first | assumption | omega | decide) only [l277, b277_0, K277_0, b277_1, K277_1, b277_2, K277_2, b277_3, K277_3, b277_4, K277_4, R_cons, go_nx, go_jp, go_rt, go_th, go_ca, go_no, go_ite, rr_v, rr_n, rr_x, hx_n, hx_p, hx_b, I_push, I_pushl, I_fc0, I_fc1, I_dc0, I_null, I_mask, I_iload, I_lload, I_dload, I_fload, I_aload, I_istore, I_lstore, I_dstore, I_fstore, I_astore, I_iinc, I_iadd, I_isub, I_imul, I_iand, I_ior, I_ixor, I_ishl, I_ishr, I_iushr, I_ineg, I_ladd, I_lsub, I_lmul, I_lxor, I_i2l, I_l2i, I_i2b, I_i2c, I_i2f, I_i2d, I_lcmp, I_fdiv, I_ddiv, I_f2d, I_dcmp, I_dup, I_pop, I_dup_x1, I_dup2, I_icne, I_iceq, I_iclt, I_icge, I_icgt, I_icle, I_ifnull, I_ifnonnull, I_ane, I_aeq, I_goto, I_lsw, I_iret, I_lret, I_fret, I_dret, I_vret, I_nret, I_aret, I_iald, I_bald, I_lald, I_aald, I_iast, I_bast, I_last, I_aast, I_alen, I_new, I_val, I_cast, I_inst, I_obj, I_throw, I_mkx, I_getf, I_putf, I_call, I_calli, I_callv, I_clone, I_getc, i_ifeq, i_ifne, i_iflt, i_ifge, i_ifgt, i_ifle, i_idiv, i_irem, i_newa, i_newo, i_abs, i_max, i_min, i_ldiv, en_, es_i, es_r, es_0, es_n, es_l, List.length_cons, List.length_nil, List.cons_append, List.nil_append, Nat.reduceAdd, Nat.reduceSub, List.replicate, lg_, st1_, st2_, cn_, nl_, mk_, pk_, kd_, sl_, la_, ft_a, ft_i, ft_l, ft_o, ft_n, ft_b0, ft_b1, ft_bI, nr_0, nr_1, nr_bI, ro_, no_, if_true, if_false, ite_true, ite_false, reduceIte, Nat.reduceMod, Nat.reduceEqDiff, Nat.zero_add, Nat.add_zero, lk_, lit_, nI_add, nI_mul, ix_nI, fgk_0, fgk_1, fgk_2, fgk_3, fgk_4, fgk_5, fgk_6, fgk_7, fgk_8, fgk_9, fgk_10, fgk_11, fgk_12, fgk_13, fsk_0, fsk_1, fsk_2, fsk_3, fsk_4, fsk_5, fsk_6, fsk_7, fsk_8, fsk_9, fsk_10, fsk_11, fsk_12, fsk_13, ca_i, ca_r, ca_n, Nat.reduceLT, true_or, or_true, if_true, false_or, or_false, and_true, true_and, List.mem_singleton, eq_self, h.1, pk_div, nI_rm, hd, hw, k1, n10_, m1, m2, c1]
      · rw [if_neg c2]
        simp (disch := first | assumption | omega | decide) only [l277, b277_0, K277_0, b277_1, K277_1, b277_2, K277_2, b277_3, K277_3, b277_4, K277_4, R_cons, go_nx, go_jp, go_rt, go_th, go_ca, go_no, go_ite, rr_v, rr_n, rr_x, hx_n, hx_p, hx_b, I_push, I_pushl, I_fc0, I_fc1, I_dc0, I_null, I_mask, I_iload, I_lload, I_dload, I_fload, I_aload, I_istore, I_lstore, I_dstore, I_fstore, I_astore, I_iinc, I_iadd, I_isub, I_imul, I_iand, I_ior, I_ixor, I_ishl, I_ishr, I_iushr, I_ineg, I_ladd, I_lsub, I_lmul, I_lxor, I_i2l, I_l2i, I_i2b, I_i2c, I_i2f, I_i2d, I_lcmp, I_fdiv, I_ddiv, I_f2d, I_dcmp, I_dup, I_pop, I_dup_x1, I_dup2, I_icne, I_iceq, I_iclt, I_icge, I_icgt, I_icle, I_ifnull, I_ifnonnull, I_ane, I_aeq, I_goto, I_lsw, I_iret, I_lret, I_fret, I_dret, I_vret, I_nret, I_aret, I_iald, I_bald, I_lald, I_aald, I_iast, I_bast, I_last, I_aast, I_alen, I_new, I_val, I_cast, I_inst, I_obj, I_throw, I_mkx, I_getf, I_putf, I_call, I_calli, I_callv, I_clone, I_getc, i_ifeq, i_ifne, i_iflt, i_ifge, i_ifgt, i_ifle, i_idiv, i_irem, i_newa, i_newo, i_abs, i_max, i_min, i_ldiv, en_, es_i, es_r, es_0, es_n, es_l, List.length_cons, List.length_nil, List.cons_append, List.nil_append, Nat.reduceAdd, Nat.reduceSub, List.replicate, lg_, st1_, st2_, cn_, nl_, mk_, pk_, kd_, sl_, la_, ft_a, ft_i, ft_l, ft_o, ft_n, ft_b0, ft_b1, ft_bI, nr_0, nr_1, nr_bI, ro_, no_, if_true, if_false, ite_true, ite_false, reduceIte, Nat.reduceMod, Nat.reduceEqDiff, Nat.zero_add, Nat.add_zero, lk_, lit_, nI_add, nI_mul, ix_nI, fgk_0, fgk_1, fgk_2, fgk_3, fgk_4, fgk_5, fgk_6, fgk_7, fgk_8, fgk_9, fgk_10, fgk_11, fgk_12, fgk_13, fsk_0, fsk_1, fsk_2, fsk_3, fsk_4, fsk_5, fsk_6, fsk_7, fsk_8, fsk_9, fsk_10, fsk_11, fsk_12, fsk_13, ca_i, ca_r, ca_n, Nat.reduceLT, true_or, or_true, if_true, false_or, or_false, and_true, true_and, List.mem_singleton, eq_self, h.1, pk_div, nI_rm, hd, hw, k1, n10_, m1, m2, c1, c2, J_fdI]
  · have ck : nI (k % 2) = nI 0 := by
      have : ¬ k % 2 = 1 := fun q => c (k2.mpr q)
      have : k % 2 = 0 := by omega
      rw [this]
    rw [ck] at k1
    rw [if_neg c]
    simp (disch := first | assumption | omega | decide) only [b277_0, K277_0, l277, R_cons, go_nx, go_jp, go_rt, go_th, go_ca, go_no, go_ite, rr_v, rr_n, rr_x, hx_n, hx_p, hx_b, I_push, I_pushl, I_fc0, I_fc1, I_dc0, I_null, I_mask, I_iload, I_lload, I_dload, I_fload, I_aload, I_istore, I_lstore, I_dstore, I_fstore, I_astore, I_iinc, I_iadd, I_isub, I_imul, I_iand, I_ior, I_ixor, I_ishl, I_ishr, I_iushr, I_ineg, I_ladd, I_lsub, I_lmul, I_lxor, I_i2l, I_l2i, I_i2b, I_i2c, I_i2f, I_i2d, I_lcmp, I_fdiv, I_ddiv, I_f2d, I_dcmp, I_dup, I_pop, I_dup_x1, I_dup2, I_icne, I_iceq, I_iclt, I_icge, I_icgt, I_icle, I_ifnull, I_ifnonnull, I_ane, I_aeq, I_goto, I_lsw, I_iret, I_lret, I_fret, I_dret, I_vret, I_nret, I_aret, I_iald, I_bald, I_lald, I_aald, I_iast, I_bast, I_last, I_aast, I_alen, I_new, I_val, I_cast, I_inst, I_obj, I_throw, I_mkx, I_getf, I_putf, I_call, I_calli, I_callv, I_clone, I_getc, i_ifeq, i_ifne, i_iflt, i_ifge, i_ifgt, i_ifle, i_idiv, i_irem, i_newa, i_newo, i_abs, i_max, i_min, i_ldiv, en_, es_i, es_r, es_0, es_n, es_l, List.length_cons, List.length_nil, List.cons_append, List.nil_append, Nat.reduceAdd, Nat.reduceSub, List.replicate, lg_, st1_, st2_, cn_, nl_, mk_, pk_, kd_, sl_, la_, ft_a, ft_i, ft_l, ft_o, ft_n, ft_b0, ft_b1, ft_bI, nr_0, nr_1, nr_bI, ro_, no_, if_true, if_false, ite_true, ite_false, reduceIte, Nat.reduceMod, Nat.reduceEqDiff, Nat.zero_add, Nat.add_zero, lk_, lit_, nI_add, nI_mul, ix_nI, fgk_0, fgk_1, fgk_2, fgk_3, fgk_4, fgk_5, fgk_6, fgk_7, fgk_8, fgk_9, fgk_10, fgk_11, fgk_12, fgk_13, fsk_0, fsk_1, fsk_2, fsk_3, fsk_4, fsk_5, fsk_6, fsk_7, fsk_8, fsk_9, fsk_10, fsk_11, fsk_12, fsk_13, ca_i, ca_r, ca_n, Nat.reduceLT, true_or, or_true, if_true, false_or, or_false, and_true, true_and, List.mem_singleton, eq_self, h.1, pk_div, nI_rm, hd, hw, k1]
end CWC
