section JLB
variable {E : En_} {σ : As_} {a e : Nat} {mc : Int32} {xs : List Nat}
theorem i_acR {cs : List Nat} {l : Lc_} {r : List Value} {n dp sp b c n0 n1 : Nat} {f g : Nat → Option Nat} (hc : σ.2.2 c = some (tR_ 4 n0 f)) (hb : σ.2.2 b = some (tR_ 4 n1 g)) (h0 : sp + n ≤ n0) (h1 : dp + n ≤ n1) (hn0 : n0 < 2 ^ 31) (hn1 : n1 < 2 ^ 31) (hr : sl_ r = true) (hk : ∀ i, i < n → ok_ cs σ.2.2 (f (sp + i)) = true) :
    I_acopy cs l (.int (nI n) :: .int (nI dp) :: .ref b :: .int (nI sp) :: .ref c :: r) σ = nx_ l r (σ.1, σ.2.1, up_ σ.2.2 b (tR_ 4 n1 (va_cpy f g sp dp n))) := by
  have e1 : (nI n).toNatClampNeg = n := nI_clamp (by omega)
  have e2 : (nI dp).toNatClampNeg = dp := nI_clamp (by omega)
  have e3 : (nI sp).toNatClampNeg = sp := nI_clamp (by omega)
  have p1 : ¬ nI n < 0 := nI_pos (by omega)
  have p2 : ¬ nI dp < 0 := nI_pos (by omega)
  have p3 : ¬ nI sp < 0 := nI_pos (by omega)
  unfold I_acopy
  dsimp only
  rw [if_neg (by rintro (h | h | h | h); · exact p1 h
                 · exact p2 h
                 · exact p3 h
                 · rw [hr] at h; cases h), hc, hb]
  dsimp only
  rw [e1, e2, e3, if_pos ⟨rfl, rfl, h0, h1, hk⟩]
theorem ok_Ob {h : Nat → Option Ac_} {f : Nat → Option Nat} {j : Nat} (h1 : ∀ x, f j = some x → Ob_ h x) : ok_ cO_ h (f j) = true := by
  cases hq : f j with
  | none => rfl
  | some x =>
    obtain ⟨c, fs, e1, e2⟩ := h1 x hq
    show (match h x with | some (.inr o) => decide ((o.1 % 100) ∈ cO_) | _ => false) = true
    rw [e1]
    exact decide_eq_true e2
/-- what a list's array holds is what the list holds -/
theorem ls_fob {h : Nat → Option Ac_} {f : Nat → Option Nat} (h5 : ∀ j x, xs[j]? = some x → f j = some x) (h6 : ∀ j, xs.length ≤ j → f j = none) (h7 : ∀ x ∈ xs, Ob_ h x) {j x : Nat} (hj : f j = some x) : Ob_ h x := by
  by_cases c : j < xs.length
  · have := h5 j _ (List.getElem?_eq_getElem c)
    rw [this] at hj
    cases hj
    exact h7 _ (List.getElem_mem c)
  · rw [h6 j (by omega)] at hj; cases hj
theorem J_newLength {o g p : Nat} (ho : o < 2 ^ 20) (hg : g < 2 ^ 20) (hp : p < 2 ^ 20) (hg0 : 0 < g) : D_ E 13 [.int (nI o), .int (nI g), .int (nI p)] σ = some (.inl (some (.int (nI (o + max g p)))), σ) := by
  have hm : mx_ (nI g) (nI p) = nI (max g p) := by
    unfold mx_
    by_cases c : g < p
    · rw [if_pos (by rw [nIltI (by omega) (by omega)]; exact c), Nat.max_eq_right (by omega)]
    · rw [if_neg (by rw [nIltI (by omega) (by omega)]; exact c), Nat.max_eq_left (by omega)]
  have h1 : ¬ (nI (o + max g p) ≤ nI 0) := by rw [nI_leI (by omega) (by omega)]; omega
  have h2 : ¬ (nI 2147483639 < nI (o + max g p)) := by rw [nIltI (by omega) (by omega)]; omega
  rw [D_run]
  simp (disch := omega) only [b13_0, K13_0, l13, R_cons, go_nx, go_jp, go_rt, go_th, go_ca, go_no, go_ite, rr_v, rr_n, rr_x, hx_n, hx_p, hx_b, I_push, I_pushl, I_fc0, I_fc1, I_dc0, I_null, I_mask, I_iload, I_lload, I_dload, I_fload, I_aload, I_istore, I_lstore, I_dstore, I_fstore, I_astore, I_iinc, I_iadd, I_isub, I_imul, I_iand, I_ior, I_ixor, I_ishl, I_ishr, I_iushr, I_ineg, I_ladd, I_lsub, I_lmul, I_lxor, I_i2l, I_l2i, I_i2b, I_i2c, I_i2f, I_i2d, I_lcmp, I_fdiv, I_ddiv, I_f2d, I_dcmp, I_dup, I_pop, I_dup_x1, I_dup2, I_icne, I_iceq, I_iclt, I_icge, I_icgt, I_icle, I_ifnull, I_ifnonnull, I_ane, I_aeq, I_goto, I_lsw, I_iret, I_lret, I_fret, I_dret, I_vret, I_nret, I_aret, I_iald, I_bald, I_lald, I_aald, I_iast, I_bast, I_last, I_aast, I_alen, I_new, I_val, I_cast, I_inst, I_obj, I_throw, I_mkx, I_getf, I_putf, I_call, I_calli, I_callv, I_clone, I_getc, i_ifeq, i_ifne, i_iflt, i_ifge, i_ifgt, i_ifle, i_idiv, i_irem, i_newa, i_newo, i_abs, i_max, i_min, i_ldiv, en_, es_i, es_r, es_0, es_n, es_l, List.length_cons, List.length_nil, List.cons_append, List.nil_append, Nat.reduceAdd, Nat.reduceSub, List.replicate, lg_, st1_, st2_, cn_, nl_, mk_, pk_, kd_, sl_, la_, ft_a, ft_i, ft_l, ft_o, ft_n, ft_b0, ft_b1, ft_bI, nr_0, nr_1, nr_bI, ro_, no_, if_true, if_false, ite_true, ite_false, reduceIte, Nat.reduceMod, Nat.reduceEqDiff, Nat.zero_add, Nat.add_zero, lk_, lit_, nI_add, nI_mul, ix_nI, fgk_0, fgk_1, fgk_2, fgk_3, fgk_4, fgk_5, fgk_6, fgk_7, fgk_8, fgk_9, fgk_10, fgk_11, fgk_12, fgk_13, fsk_0, fsk_1, fsk_2, fsk_3, fsk_4, fsk_5, fsk_6, fsk_7, fsk_8, fsk_9, fsk_10, fsk_11, fsk_12, fsk_13, ca_i, ca_r, ca_n, Nat.reduceLT, true_or, or_true, if_true, false_or, or_false, and_true, true_and, List.mem_singleton, eq_self, hm, h1, h2]
theorem J_copyOf3 {c n n0 : Nat} {f : Nat → Option Nat} (hw : Hw_ σ) (hc : σ.2.2 c = some (tR_ 4 n0 f)) (h0 : n0 ≤ n) (hn : n < 2 ^ 21) (hk : ∀ i, i < n0 → ok_ cO_ σ.2.2 (f i) = true) : D_ E 21 [.ref c, .int (nI n), .ref E.2.2.2.2.2] σ = some (.inl (some (.ref σ.1)), (σ.1 + 1, σ.2.1 + n, up_ σ.2.2 σ.1 (tR_ 4 n (va_cpy f (fun _ => none) 0 0 n0)))) := by
  have hcn : c ≠ σ.1 := by have := Hw_lt hw hc; omega
  have hm : mn_ (nI n0) (nI n) = nI n0 := by
    unfold mn_
    rw [if_neg (by rw [nIltI (by omega) (by omega)]; omega)]
  have ha := i_acR (σ := (σ.1 + 1, σ.2.1 + n, up_ σ.2.2 σ.1 (tR_ 4 n (fun _ => none)))) (cs := cO_) (l := [some (.ref c), some (.int (nI n)), none, some (.ref σ.1)]) (r := []) (n := n0) (dp := 0) (sp := 0) (b := σ.1) (c := c) (n0 := n0) (n1 := n) (f := f) (g := fun _ => none) (by dsimp only; rw [up_n hcn]; exact hc) (up_s _ _ _) (by omega) (by omega) (by omega) (by omega) rfl (fun i hi => by
    dsimp only
    rw [Nat.zero_add]
    have := hk i hi
    cases hq : f i with
    | none => rfl
    | some x =>
      rw [hq] at this
      show (match up_ σ.2.2 σ.1 (tR_ 4 n (fun _ => none)) x with | some (.inr o) => decide ((o.1 % 100) ∈ cO_) | _ => false) = true
      have hx : x ≠ σ.1 := fun q => by
        have t2 : (match σ.2.2 x with | some (.inr o) => decide ((o.1 % 100) ∈ cO_) | _ => false) = true := this
        rw [q, hw σ.1 (Nat.le_refl _)] at t2
        cases t2
      rw [up_n hx]
      exact this)
  rw [D_run]
  simp (disch := omega) only [b21_0, K21_0, b21_2, K21_2, l21, R_cons, go_nx, go_jp, go_rt, go_th, go_ca, go_no, go_ite, rr_v, rr_n, rr_x, hx_n, hx_p, hx_b, I_push, I_pushl, I_fc0, I_fc1, I_dc0, I_null, I_mask, I_iload, I_lload, I_dload, I_fload, I_aload, I_istore, I_lstore, I_dstore, I_fstore, I_astore, I_iinc, I_iadd, I_isub, I_imul, I_iand, I_ior, I_ixor, I_ishl, I_ishr, I_iushr, I_ineg, I_ladd, I_lsub, I_lmul, I_lxor, I_i2l, I_l2i, I_i2b, I_i2c, I_i2f, I_i2d, I_lcmp, I_fdiv, I_ddiv, I_f2d, I_dcmp, I_dup, I_pop, I_dup_x1, I_dup2, I_icne, I_iceq, I_iclt, I_icge, I_icgt, I_icle, I_ifnull, I_ifnonnull, I_ane, I_aeq, I_goto, I_lsw, I_iret, I_lret, I_fret, I_dret, I_vret, I_nret, I_aret, I_iald, I_bald, I_lald, I_aald, I_iast, I_bast, I_last, I_aast, I_alen, I_new, I_val, I_cast, I_inst, I_obj, I_throw, I_mkx, I_getf, I_putf, I_call, I_calli, I_callv, I_clone, I_getc, i_ifeq, i_ifne, i_iflt, i_ifge, i_ifgt, i_ifle, i_idiv, i_irem, i_newa, i_newo, i_abs, i_max, i_min, i_ldiv, en_, es_i, es_r, es_0, es_n, es_l, List.length_cons, List.length_nil, List.cons_append, List.nil_append, Nat.reduceAdd, Nat.reduceSub, List.replicate, lg_, st1_, st2_, cn_, nl_, mk_, pk_, kd_, sl_, la_, ft_a, ft_i, ft_l, ft_o, ft_n, ft_b0, ft_b1, ft_bI, nr_0, nr_1, nr_bI, ro_, no_, if_true, if_false, ite_true, ite_false, reduceIte, Nat.reduceMod, Nat.reduceEqDiff, Nat.zero_add, Nat.add_zero, lk_, lit_, nI_add, nI_mul, ix_nI, fgk_0, fgk_1, fgk_2, fgk_3, fgk_4, fgk_5, fgk_6, fgk_7, fgk_8, fgk_9, fgk_10, fgk_11, fgk_12, fgk_13, fsk_0, fsk_1, fsk_2, fsk_3, fsk_4, fsk_5, fsk_6, fsk_7, fsk_8, fsk_9, fsk_10, fsk_11, fsk_12, fsk_13, ca_i, ca_r, ca_n, Nat.reduceLT, true_or, or_true, if_true, false_or, or_false, and_true, true_and, List.mem_singleton, eq_self, up_s, up_n, hcn, ne_eq, not_false_eq_true, hc, hm, ha, up_up]
/-- an int sum of steps -/
theorem nI_shr1 : ∀ n, n < 2 ^ 20 → nI n >>> (nI 1 &&& nI 31) = nI (n / 2) := by
  intro n hn
  apply Int32.toBitVec_inj.mp
  rw [Int32.toBitVec_shiftRight]
  have e : (nI 1 &&& nI 31).toBitVec.smod 32 = 1#32 := by decide
  rw [e]
  apply BitVec.eq_of_toNat_eq
  have h1 : (nI n).toBitVec.msb = false := by
    rw [BitVec.msb_eq_decide, nI_bv (by omega)]
    simp
    omega
  have e2 : (nI n).toBitVec.sshiftRight' 1#32 = (nI n).toBitVec >>> 1 := by
    show (nI n).toBitVec.sshiftRight 1 = _
    rw [BitVec.sshiftRight_eq_of_msb_false h1]
  rw [e2, BitVec.toNat_ushiftRight, nI_bv (by omega), nI_bv (by omega), Nat.shiftRight_eq_div_pow]
/-- what adding to a list leaves: for any older heap in which the list isn't yet there -/
def Ax_ (E : En_) (σ σ' : As_) (a e e' : Nat) : Prop := Hw_ σ' ∧ σ.1 ≤ σ'.1 ∧ (e' = e ∨ (σ.1 ≤ e' ∧ e' < σ'.1)) ∧
  (∀ b c, σ.2.2 b = some c → b ≠ a → (b ≠ e ∨ E.2.2.2.1 7 = .ref e) → σ'.2.2 b = some c)
theorem Ax_le {h0 : Nat → Option Ac_} {σ' : As_} {e' : Nat} (hA : Ax_ E σ σ' a e e') (hl : le_ h0 σ.2.2) (h0a : h0 a = none) (h0e : h0 e = none ∨ E.2.2.2.1 7 = .ref e) : le_ h0 σ'.2.2 := by
  intro b c hb
  refine hA.2.2.2 b c (hl b c hb) (fun q => by rw [q, h0a] at hb; cases hb) ?_
  rcases h0e with q | q
  · exact Or.inl (fun q2 => by rw [q2, q] at hb; cases hb)
  · exact Or.inr q
theorem J_grow {cap : Nat} {f : Nat → Option Nat} {tt len : Nat} (hw : Hw_ σ) (h1 : σ.2.2 a = some (.inr (11, [.int mc, .ref e, .int (nI len)]))) (h2 : σ.2.2 e = some (.inl (tt, cap, .inr (.inr (.inr (.inr f)))))) (hlen : len = cap) (hl : len < 400) (h6 : ∀ j, cap ≤ j → f j = none) (hk : ∀ i, i < cap → ok_ cO_ σ.2.2 (f i) = true) (h8 : (tt = 4 ∧ 0 < cap ∧ ¬ E.2.2.2.1 7 = .ref e) ∨ (tt = 104 ∧ cap = 0 ∧ E.2.2.2.1 7 = .ref e)) :
    ∃ nc f', D_ E 33 [.ref a] σ = some (.inl (some (.ref σ.1)), (σ.1 + 1, σ.2.1 + nc, up_ (up_ σ.2.2 σ.1 (tR_ 4 nc f')) a (.inr (11, [.int mc, .ref σ.1, .int (nI len)])))) ∧ len < nc ∧ nc ≤ 600 ∧ (∀ j, f' j = f j) ∧ nc = gw_ len := by
  subst hlen
  have hae : a ≠ e := fun q => by rw [q, h2] at h1; cases h1
  have ha1 : a ≠ σ.1 := by have := Hw_lt hw h1; omega
  have he1 : e ≠ σ.1 := by have := Hw_lt hw h2; omega
  rcases h8 with ⟨rfl, h0, _⟩ | ⟨rfl, rfl, h7⟩
  · have hs := nI_shr1 len (by omega)
    have hN := fun σ => J_newLength (E := E) (σ := σ) (o := len) (g := 1) (p := len / 2) (by omega) (by decide) (by omega) (by decide)
    have hC := J_copyOf3 (E := E) (σ := σ) (c := e) (n := len + max 1 (len / 2)) (n0 := len) (f := f) hw h2 (by omega) (by omega) hk
    have hC2 : D_ E 20 [.ref e, .int (nI (len + max 1 (len / 2)))] σ = some (.inl (some (.ref σ.1)), (σ.1 + 1, σ.2.1 + (len + max 1 (len / 2)), up_ σ.2.2 σ.1 (tR_ 4 (len + max 1 (len / 2)) (va_cpy f (fun _ => none) 0 0 len)))) := by
      rw [D_run]
      simp (disch := omega) only [l20, b20_0, K20_0, R_cons, go_nx, go_jp, go_rt, go_th, go_ca, go_no, go_ite, rr_v, rr_n, rr_x, hx_n, hx_p, hx_b, I_push, I_pushl, I_fc0, I_fc1, I_dc0, I_null, I_mask, I_iload, I_lload, I_dload, I_fload, I_aload, I_istore, I_lstore, I_dstore, I_fstore, I_astore, I_iinc, I_iadd, I_isub, I_imul, I_iand, I_ior, I_ixor, I_ishl, I_ishr, I_iushr, I_ineg, I_ladd, I_lsub, I_lmul, I_lxor, I_i2l, I_l2i, I_i2b, I_i2c, I_i2f, I_i2d, I_lcmp, I_fdiv, I_ddiv, I_f2d, I_dcmp, I_dup, I_pop, I_dup_x1, I_dup2, I_icne, I_iceq, I_iclt, I_icge, I_icgt, I_icle, I_ifnull, I_ifnonnull, I_ane, I_aeq, I_goto, I_lsw, I_iret, I_lret, I_fret, I_dret, I_vret, I_nret, I_aret, I_iald, I_bald, I_lald, I_aald, I_iast, I_bast, I_last, I_aast, I_alen, I_new, I_val, I_cast, I_inst, I_obj, I_throw, I_mkx, I_getf, I_putf, I_call, I_calli, I_callv, I_clone, I_getc, i_ifeq, i_ifne, i_iflt, i_ifge, i_ifgt, i_ifle, i_idiv, i_irem, i_newa, i_newo, i_abs, i_max, i_min, i_ldiv, en_, es_i, es_r, es_0, es_n, es_l, List.length_cons, List.length_nil, List.cons_append, List.nil_append, Nat.reduceAdd, Nat.reduceSub, List.replicate, lg_, st1_, st2_, cn_, nl_, mk_, pk_, kd_, sl_, la_, ft_a, ft_i, ft_l, ft_o, ft_n, ft_b0, ft_b1, ft_bI, nr_0, nr_1, nr_bI, ro_, no_, if_true, if_false, ite_true, ite_false, reduceIte, Nat.reduceMod, Nat.reduceEqDiff, Nat.zero_add, Nat.add_zero, lk_, lit_, nI_add, nI_mul, ix_nI, fgk_0, fgk_1, fgk_2, fgk_3, fgk_4, fgk_5, fgk_6, fgk_7, fgk_8, fgk_9, fgk_10, fgk_11, fgk_12, fgk_13, fsk_0, fsk_1, fsk_2, fsk_3, fsk_4, fsk_5, fsk_6, fsk_7, fsk_8, fsk_9, fsk_10, fsk_11, fsk_12, fsk_13, ca_i, ca_r, ca_n, Nat.reduceLT, true_or, or_true, if_true, false_or, or_false, and_true, true_and, List.mem_singleton, eq_self, h2, hC]
    have hsub : nI (len + 1) - nI len = nI 1 := by rw [nI_sub (by omega)]; congr 1; omega
    have hp : ¬ nI len ≤ nI 0 := by rw [nI_leI (by omega) (by omega)]; omega
    have hp2 : nI 0 < nI len := by rw [nIltI (by omega) (by omega)]; omega
    have hG : D_ E 34 [.ref a, .int (nI (len + 1))] σ = some (.inl (some (.ref σ.1)), (σ.1 + 1, σ.2.1 + (len + max 1 (len / 2)), up_ (up_ σ.2.2 σ.1 (tR_ 4 (len + max 1 (len / 2)) (va_cpy f (fun _ => none) 0 0 len))) a (.inr (11, [.int mc, .ref σ.1, .int (nI len)])))) := by
      rw [D_run]
      simp (disch := first | assumption | omega) only [b34_0, K34_0, b34_1, K34_1, l34, R_cons, go_nx, go_jp, go_rt, go_th, go_ca, go_no, go_ite, rr_v, rr_n, rr_x, hx_n, hx_p, hx_b, I_push, I_pushl, I_fc0, I_fc1, I_dc0, I_null, I_mask, I_iload, I_lload, I_dload, I_fload, I_aload, I_istore, I_lstore, I_dstore, I_fstore, I_astore, I_iinc, I_iadd, I_isub, I_imul, I_iand, I_ior, I_ixor, I_ishl, I_ishr, I_iushr, I_ineg, I_ladd, I_lsub, I_lmul, I_lxor, I_i2l, I_l2i, I_i2b, I_i2c, I_i2f, I_i2d, I_lcmp, I_fdiv, I_ddiv, I_f2d, I_dcmp, I_dup, I_pop, I_dup_x1, I_dup2, I_icne, I_iceq, I_iclt, I_icge, I_icgt, I_icle, I_ifnull, I_ifnonnull, I_ane, I_aeq, I_goto, I_lsw, I_iret, I_lret, I_fret, I_dret, I_vret, I_nret, I_aret, I_iald, I_bald, I_lald, I_aald, I_iast, I_bast, I_last, I_aast, I_alen, I_new, I_val, I_cast, I_inst, I_obj, I_throw, I_mkx, I_getf, I_putf, I_call, I_calli, I_callv, I_clone, I_getc, i_ifeq, i_ifne, i_iflt, i_ifge, i_ifgt, i_ifle, i_idiv, i_irem, i_newa, i_newo, i_abs, i_max, i_min, i_ldiv, en_, es_i, es_r, es_0, es_n, es_l, List.length_cons, List.length_nil, List.cons_append, List.nil_append, Nat.reduceAdd, Nat.reduceSub, List.replicate, lg_, st1_, st2_, cn_, nl_, mk_, pk_, kd_, sl_, la_, ft_a, ft_i, ft_l, ft_o, ft_n, ft_b0, ft_b1, ft_bI, nr_0, nr_1, nr_bI, ro_, no_, if_true, if_false, ite_true, ite_false, reduceIte, Nat.reduceMod, Nat.reduceEqDiff, Nat.zero_add, Nat.add_zero, lk_, lit_, nI_add, nI_mul, ix_nI, fgk_0, fgk_1, fgk_2, fgk_3, fgk_4, fgk_5, fgk_6, fgk_7, fgk_8, fgk_9, fgk_10, fgk_11, fgk_12, fgk_13, fsk_0, fsk_1, fsk_2, fsk_3, fsk_4, fsk_5, fsk_6, fsk_7, fsk_8, fsk_9, fsk_10, fsk_11, fsk_12, fsk_13, ca_i, ca_r, ca_n, Nat.reduceLT, true_or, or_true, if_true, false_or, or_false, and_true, true_and, List.mem_singleton, eq_self, h1, h2, hp2, hsub, hs, hN, hC2, up_s, up_n]
    refine ⟨len + max 1 (len / 2), va_cpy f (fun _ => none) 0 0 len, ?_, by omega, by omega, fun j => ?_, by unfold gw_; rw [if_neg (by omega)]⟩
    · rw [D_run]
      simp (disch := first | assumption | omega) only [l33, b33_0, K33_0, R_cons, go_nx, go_jp, go_rt, go_th, go_ca, go_no, go_ite, rr_v, rr_n, rr_x, hx_n, hx_p, hx_b, I_push, I_pushl, I_fc0, I_fc1, I_dc0, I_null, I_mask, I_iload, I_lload, I_dload, I_fload, I_aload, I_istore, I_lstore, I_dstore, I_fstore, I_astore, I_iinc, I_iadd, I_isub, I_imul, I_iand, I_ior, I_ixor, I_ishl, I_ishr, I_iushr, I_ineg, I_ladd, I_lsub, I_lmul, I_lxor, I_i2l, I_l2i, I_i2b, I_i2c, I_i2f, I_i2d, I_lcmp, I_fdiv, I_ddiv, I_f2d, I_dcmp, I_dup, I_pop, I_dup_x1, I_dup2, I_icne, I_iceq, I_iclt, I_icge, I_icgt, I_icle, I_ifnull, I_ifnonnull, I_ane, I_aeq, I_goto, I_lsw, I_iret, I_lret, I_fret, I_dret, I_vret, I_nret, I_aret, I_iald, I_bald, I_lald, I_aald, I_iast, I_bast, I_last, I_aast, I_alen, I_new, I_val, I_cast, I_inst, I_obj, I_throw, I_mkx, I_getf, I_putf, I_call, I_calli, I_callv, I_clone, I_getc, i_ifeq, i_ifne, i_iflt, i_ifge, i_ifgt, i_ifle, i_idiv, i_irem, i_newa, i_newo, i_abs, i_max, i_min, i_ldiv, en_, es_i, es_r, es_0, es_n, es_l, List.length_cons, List.length_nil, List.cons_append, List.nil_append, Nat.reduceAdd, Nat.reduceSub, List.replicate, lg_, st1_, st2_, cn_, nl_, mk_, pk_, kd_, sl_, la_, ft_a, ft_i, ft_l, ft_o, ft_n, ft_b0, ft_b1, ft_bI, nr_0, nr_1, nr_bI, ro_, no_, if_true, if_false, ite_true, ite_false, reduceIte, Nat.reduceMod, Nat.reduceEqDiff, Nat.zero_add, Nat.add_zero, lk_, lit_, nI_add, nI_mul, ix_nI, fgk_0, fgk_1, fgk_2, fgk_3, fgk_4, fgk_5, fgk_6, fgk_7, fgk_8, fgk_9, fgk_10, fgk_11, fgk_12, fgk_13, fsk_0, fsk_1, fsk_2, fsk_3, fsk_4, fsk_5, fsk_6, fsk_7, fsk_8, fsk_9, fsk_10, fsk_11, fsk_12, fsk_13, ca_i, ca_r, ca_n, Nat.reduceLT, true_or, or_true, if_true, false_or, or_false, and_true, true_and, List.mem_singleton, eq_self, h1, hG]
    · unfold va_cpy
      by_cases c : 0 ≤ j ∧ j < 0 + len
      · rw [if_pos c, Nat.zero_add, Nat.sub_zero]
      · rw [if_neg c, h6 j (by omega)]
  · have hm : mx_ (nI 10) (nI (0 + 1)) = nI 10 := by decide
    have hG : D_ E 34 [.ref a, .int (nI (0 + 1))] σ = some (.inl (some (.ref σ.1)), (σ.1 + 1, σ.2.1 + 10, up_ (up_ σ.2.2 σ.1 (tR_ 4 10 (fun _ => none))) a (.inr (11, [.int mc, .ref σ.1, .int (nI 0)])))) := by
      have hz : ¬ nI 0 < nI 0 := by decide
      rw [D_run]
      simp (disch := first | assumption | omega) only [b34_0, K34_0, b34_2, K34_2, l34, R_cons, go_nx, go_jp, go_rt, go_th, go_ca, go_no, go_ite, rr_v, rr_n, rr_x, hx_n, hx_p, hx_b, I_push, I_pushl, I_fc0, I_fc1, I_dc0, I_null, I_mask, I_iload, I_lload, I_dload, I_fload, I_aload, I_istore, I_lstore, I_dstore, I_fstore, I_astore, I_iinc, I_iadd, I_isub, I_imul, I_iand, I_ior, I_ixor, I_ishl, I_ishr, I_iushr, I_ineg, I_ladd, I_lsub, I_lmul, I_lxor, I_i2l, I_l2i, I_i2b, I_i2c, I_i2f, I_i2d, I_lcmp, I_fdiv, I_ddiv, I_f2d, I_dcmp, I_dup, I_pop, I_dup_x1, I_dup2, I_icne, I_iceq, I_iclt, I_icge, I_icgt, I_icle, I_ifnull, I_ifnonnull, I_ane, I_aeq, I_goto, I_lsw, I_iret, I_lret, I_fret, I_dret, I_vret, I_nret, I_aret, I_iald, I_bald, I_lald, I_aald, I_iast, I_bast, I_last, I_aast, I_alen, I_new, I_val, I_cast, I_inst, I_obj, I_throw, I_mkx, I_getf, I_putf, I_call, I_calli, I_callv, I_clone, I_getc, i_ifeq, i_ifne, i_iflt, i_ifge, i_ifgt, i_ifle, i_idiv, i_irem, i_newa, i_newo, i_abs, i_max, i_min, i_ldiv, en_, es_i, es_r, es_0, es_n, es_l, List.length_cons, List.length_nil, List.cons_append, List.nil_append, Nat.reduceAdd, Nat.reduceSub, List.replicate, lg_, st1_, st2_, cn_, nl_, mk_, pk_, kd_, sl_, la_, ft_a, ft_i, ft_l, ft_o, ft_n, ft_b0, ft_b1, ft_bI, nr_0, nr_1, nr_bI, ro_, no_, if_true, if_false, ite_true, ite_false, reduceIte, Nat.reduceMod, Nat.reduceEqDiff, Nat.zero_add, Nat.add_zero, lk_, lit_, nI_add, nI_mul, ix_nI, fgk_0, fgk_1, fgk_2, fgk_3, fgk_4, fgk_5, fgk_6, fgk_7, fgk_8, fgk_9, fgk_10, fgk_11, fgk_12, fgk_13, fsk_0, fsk_1, fsk_2, fsk_3, fsk_4, fsk_5, fsk_6, fsk_7, fsk_8, fsk_9, fsk_10, fsk_11, fsk_12, fsk_13, ca_i, ca_r, ca_n, Nat.reduceLT, true_or, or_true, if_true, false_or, or_false, and_true, true_and, List.mem_singleton, eq_self, h1, h2, hz, h7, hm, up_s, up_n]
    refine ⟨10, fun _ => none, ?_, by omega, by omega, fun j => (h6 j (by omega)).symm, rfl⟩
    rw [D_run]
    simp (disch := first | assumption | omega) only [l33, b33_0, K33_0, R_cons, go_nx, go_jp, go_rt, go_th, go_ca, go_no, go_ite, rr_v, rr_n, rr_x, hx_n, hx_p, hx_b, I_push, I_pushl, I_fc0, I_fc1, I_dc0, I_null, I_mask, I_iload, I_lload, I_dload, I_fload, I_aload, I_istore, I_lstore, I_dstore, I_fstore, I_astore, I_iinc, I_iadd, I_isub, I_imul, I_iand, I_ior, I_ixor, I_ishl, I_ishr, I_iushr, I_ineg, I_ladd, I_lsub, I_lmul, I_lxor, I_i2l, I_l2i, I_i2b, I_i2c, I_i2f, I_i2d, I_lcmp, I_fdiv, I_ddiv, I_f2d, I_dcmp, I_dup, I_pop, I_dup_x1, I_dup2, I_icne, I_iceq, I_iclt, I_icge, I_icgt, I_icle, I_ifnull, I_ifnonnull, I_ane, I_aeq, I_goto, I_lsw, I_iret, I_lret, I_fret, I_dret, I_vret, I_nret, I_aret, I_iald, I_bald, I_lald, I_aald, I_iast, I_bast, I_last, I_aast, I_alen, I_new, I_val, I_cast, I_inst, I_obj, I_throw, I_mkx, I_getf, I_putf, I_call, I_calli, I_callv, I_clone, I_getc, i_ifeq, i_ifne, i_iflt, i_ifge, i_ifgt, i_ifle, i_idiv, i_irem, i_newa, i_newo, i_abs, i_max, i_min, i_ldiv, en_, es_i, es_r, es_0, es_n, es_l, List.length_cons, List.length_nil, List.cons_append, List.nil_append, Nat.reduceAdd, Nat.reduceSub, List.replicate, lg_, st1_, st2_, cn_, nl_, mk_, pk_, kd_, sl_, la_, ft_a, ft_i, ft_l, ft_o, ft_n, ft_b0, ft_b1, ft_bI, nr_0, nr_1, nr_bI, ro_, no_, if_true, if_false, ite_true, ite_false, reduceIte, Nat.reduceMod, Nat.reduceEqDiff, Nat.zero_add, Nat.add_zero, lk_, lit_, nI_add, nI_mul, ix_nI, fgk_0, fgk_1, fgk_2, fgk_3, fgk_4, fgk_5, fgk_6, fgk_7, fgk_8, fgk_9, fgk_10, fgk_11, fgk_12, fgk_13, fsk_0, fsk_1, fsk_2, fsk_3, fsk_4, fsk_5, fsk_6, fsk_7, fsk_8, fsk_9, fsk_10, fsk_11, fsk_12, fsk_13, ca_i, ca_r, ca_n, Nat.reduceLT, true_or, or_true, if_true, false_or, or_false, and_true, true_and, List.mem_singleton, eq_self, h1, hG]
end JLB
