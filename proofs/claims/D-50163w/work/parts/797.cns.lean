section CNS
variable {E : En_} {σ : As_} {w n s b bb q : Nat} {r : Nat → Int32} {ms ss : List Nat} {h0 : Nat → Option Ac_} {N : Nat → Nat → Int32}
theorem i64_sub {a b : Int32} (h : -(2 ^ 31) ≤ a.toInt - b.toInt ∧ a.toInt - b.toInt < 2 ^ 31) : (a - b).toInt64 = a.toInt64 - b.toInt64 := by
  apply Int64.toInt_inj.mp
  have h1 := Int32.toInt_lt a
  have h2 := Int32.le_toInt a
  have h3 := Int32.toInt_lt b
  have h4 := Int32.le_toInt b
  rw [Int32.toInt_toInt64, i32_sub h, Int64.toInt_sub, Int32.toInt_toInt64, Int32.toInt_toInt64, Int.bmod_eq_of_le (by omega) (by omega)]
theorem fo_cat {α : Type} {F : Nat → α → α} : ∀ (d1 d2 i : Nat) (x : α), fo_ F (d1 + d2) i x = fo_ F d2 (i + d1) (fo_ F d1 i x) := by
  intro d1
  induction d1 with
  | zero => intro d2 i x; rw [Nat.zero_add]; rfl
  | succ d ih =>
    intro d2 i x
    have e : d + 1 + d2 = (d + d2) + 1 := by omega
    rw [e, fo_, fo_, ih]
    congr 1
    omega
theorem fo_none {α : Type} {F : Nat → α → α} : ∀ (d i : Nat) (x : α), (∀ j y, i ≤ j → j < i + d → F j y = y) → fo_ F d i x = x := by
  intro d
  induction d with
  | zero => intro i x _; rfl
  | succ d ih =>
    intro i x h
    rw [fo_, h i x (Nat.le_refl _) (by omega)]
    exact ih (i + 1) x (fun j y h1 h2 => h j y (by omega) (by omega))
theorem fo_same {α : Type} {F G : Nat → α → α} : ∀ (d i k : Nat) (x : α), (∀ j y, j < d → F (i + j) y = G (k + j) y) → fo_ F d i x = fo_ G d k x := by
  intro d
  induction d with
  | zero => intro i k x _; rfl
  | succ d ih =>
    intro i k x h
    have h0 := h 0 x (by omega)
    rw [Nat.add_zero, Nat.add_zero] at h0
    rw [fo_, fo_, h0]
    refine ih (i + 1) (k + 1) _ (fun j y hj => ?_)
    have := h (j + 1) y (by omega)
    rw [show i + 1 + j = i + (j + 1) by omega, show k + 1 + j = k + (j + 1) by omega]
    exact this
/-- a fold over all pairs' places is a fold over pairs -/
theorem fo_flat {α : Type} {g : Nat → Nat → α → α} (hn : n ≤ 12) (hg : ∀ a b x, b < 12 → ¬ (a < b ∧ b < n) → g a b x = x) (x : α) : fo_ (fun p => g (p / 12) (p % 12)) 144 0 x = fo_ (fun a x => fo_ (g a) (n - (a + 1)) (a + 1) x) n 0 x := by
  have hrow : ∀ a x, fo_ (fun p => g (p / 12) (p % 12)) 12 (12 * a) x = fo_ (g a) (n - (a + 1)) (a + 1) x := by
    intro a x
    rw [fo_same (G := g a) 12 (12 * a) 0 x (fun j y hj => by
      rw [show (12 * a + j) / 12 = a by omega, show (12 * a + j) % 12 = j by omega, Nat.zero_add])]
    by_cases c : a + 1 ≤ n
    · have e : 12 = (a + 1) + ((n - (a + 1)) + (12 - n)) := by omega
      conv => lhs; rw [e]
      rw [fo_cat, fo_cat, Nat.zero_add, fo_none (a + 1) 0 x (fun j y _ h2 => hg a j y (by omega) (by omega))]
      exact fo_none (12 - n) _ _ (fun j y h1 h2 => hg a j y (by omega) (by omega))
    · have e : n - (a + 1) = 0 := by omega
      rw [e]
      exact fo_none 12 0 x (fun j y h1 h2 => hg a j y (by omega) (by omega))
  have hall : ∀ (d a : Nat) (x : α), fo_ (fun p => g (p / 12) (p % 12)) (12 * d) (12 * a) x = fo_ (fun a x => fo_ (g a) (n - (a + 1)) (a + 1) x) d a x := by
    intro d
    induction d with
    | zero => intro a x; rfl
    | succ d ih =>
      intro a x
      have e : 12 * (d + 1) = 12 + 12 * d := by omega
      rw [e, fo_cat, hrow, fo_, show 12 * a + 12 = 12 * (a + 1) by omega, ih]
  have h1 := hall 12 0 x
  rw [show 12 * 12 = 144 by rfl, Nat.mul_zero] at h1
  rw [h1]
  have e : 12 = n + (12 - n) := by omega
  conv => lhs; rw [e]
  rw [fo_cat]
  exact fo_none (12 - n) _ _ (fun a y h1 h2 => fo_none _ _ _ (fun j z h3 h4 => hg a j z (by omega) (by omega)))
/-- a mark out of the wall -/
theorem Nx_mark {k : Nat} (h : Nx_ E h0 σ b bb q w N r n s ms ss) (hk : k < n) : ∃ am as st i j fs x, σ.2.2 w = some (.inr (1, [.ref am, .ref as, .ref st, .int i, .int j])) ∧ σ.2.2 am = some (.inr (11, fs)) ∧ D_ E 27 [.ref am, .int (nI k)] σ = some (.inl (some (.ref x)), σ) ∧ MkC_ σ.2.2 x r k ∧ D_ E 26 [.ref am] σ = some (.inl (some (.int (nI n))), σ) := by
  obtain ⟨am, em, as, es, st, mc, mc', hA⟩ := h.2.2.2.1
  have hm := h.2.2.2.2.1
  have hsz := J_size (E := E) hA.2.1
  obtain ⟨g1, g2⟩ := wl_mark (E := E) hA (show k < ms.length by omega)
  rw [hm] at hsz
  obtain ⟨cap, f, tt, a1, _⟩ := hA.2.1
  exact ⟨am, as, st, _, _, _, _, hA.1, a1, g1, g2, hsz⟩
def mfG_ (r : Nat → Int32) (e : Int32) (s p : Nat) (x : Int64) : Int64 := if ct_ r s p = 0 then x else mf1_ r e s (p / 12) (p % 12) x
theorem mfG_all (hW : Wr_ r n s) : fo_ (mfG_ r (err_ r n s) s) 144 0 0 = mif_ r n s := by
  have h12 := wr_n12 hW
  have h1 := fo_flat (n := n) (g := fun a b x => if ct_ r s (12 * a + b) = 0 then x else mf1_ r (err_ r n s) s a b x) h12 (fun a b x hb hab => by
    by_cases c : ct_ r s (12 * a + b) = 0
    · exact if_pos c
    · have := ct_pair hW c
      exact absurd ⟨by omega, by omega⟩ hab) 0
  have h2 : fo_ (mfG_ r (err_ r n s) s) 144 0 0 = fo_ (fun p => (fun a b x => if ct_ r s (12 * a + b) = 0 then x else mf1_ r (err_ r n s) s a b x) (p / 12) (p % 12)) 144 0 (0 : Int64) := by
    refine fo_same 144 0 0 0 (fun j y hj => ?_)
    unfold mfG_
    dsimp only
    rw [show 12 * ((0 + j) / 12) + (0 + j) % 12 = 0 + j by omega]
  rw [h2, h1]
  unfold mif_
  refine fo_same n 0 0 0 (fun a y ha => ?_)
  unfold mfa_
  refine fo_same _ _ _ y (fun b z hb => ?_)
  have hp : pa_ (0 + a) (0 + a + 1 + b) = 12 * (0 + a) + (0 + a + 1 + b) := if_pos (by omega)
  by_cases c : ct_ r s (12 * (0 + a) + (0 + a + 1 + b)) = 0
  · rw [if_pos c]
    unfold mf1_
    rw [if_neg (fun q => q.1.2 (by rw [hp]; exact c))]
  · rw [if_neg c]
theorem N_misfit (hw0 : Wl_ E h0 w r ms ss) (hH : Hb_ r n) (h : Nx_ E h0 σ b bb q w N r n s ms ss) : ∃ σ', D_ E 305 [.ref b] σ = some (.inl (some (.long (mif_ r n s))), σ') ∧ Nx_ E h0 σ' b bb q w N r n s ms ss ∧ Sz_ 730 σ σ' := by
  have hW := h.2.2.2.2.2.2.1
  have he := er_in (s := s) hW
  obtain ⟨σ1, j1, j2, j3⟩ := Nx_all (E := E) h hw0 (mfG_ r (err_ r n s) s) (fun j x hj => if_pos hj) (fun _ => True) (fun _ _ _ _ => trivial) (fun x (u : Option Value × Option Value × Option Value × Option Value × Option Value) σ' => R_ E 305 (B_ E 305 1) [some (.ref b), some (.long x), none, some (.ref σ.1), u.1, u.2.1, u.2.2.1, u.2.2.2.1, u.2.2.2.2] [] σ') (fun x => .inl (some (.long x))) (by
    intro x u σ' fs _ hx i1 i2
    rw [b305_1]
    simp (disch := omega) only [K305_1, b305_3, K305_3, R_cons, go_nx, go_jp, go_rt, go_th, go_ca, go_no, go_ite, rr_v, rr_n, rr_x, hx_n, hx_p, hx_b, I_push, I_pushl, I_fc0, I_fc1, I_dc0, I_null, I_mask, I_iload, I_lload, I_dload, I_fload, I_aload, I_istore, I_lstore, I_dstore, I_fstore, I_astore, I_iinc, I_iadd, I_isub, I_imul, I_iand, I_ior, I_ixor, I_ishl, I_ishr, I_iushr, I_ineg, I_ladd, I_lsub, I_lmul, I_lxor, I_i2l, I_l2i, I_i2b, I_i2c, I_i2f, I_i2d, I_lcmp, I_fdiv, I_ddiv, I_f2d, I_dcmp, I_dup, I_pop, I_dup_x1, I_dup2, I_icne, I_iceq, I_iclt, I_icge, I_icgt, I_icle, I_ifnull, I_ifnonnull, I_ane, I_aeq, I_goto, I_lsw, I_iret, I_lret, I_fret, I_dret, I_vret, I_nret, I_aret, I_iald, I_bald, I_lald, I_aald, I_iast, I_bast, I_last, I_aast, I_alen, I_new, I_val, I_cast, I_inst, I_obj, I_throw, I_mkx, I_getf, I_putf, I_call, I_calli, I_callv, I_clone, I_getc, i_ifeq, i_ifne, i_iflt, i_ifge, i_ifgt, i_ifle, i_idiv, i_irem, i_newa, i_newo, i_abs, i_max, i_min, i_ldiv, en_, es_i, es_r, es_0, es_n, es_l, List.length_cons, List.length_nil, List.cons_append, List.nil_append, Nat.reduceAdd, Nat.reduceSub, List.replicate, lg_, st1_, st2_, cn_, nl_, mk_, pk_, kd_, sl_, la_, ft_a, ft_i, ft_l, ft_o, ft_n, ft_b0, ft_b1, ft_bI, nr_0, nr_1, nr_bI, ro_, no_, if_true, if_false, ite_true, ite_false, reduceIte, Nat.reduceMod, Nat.reduceEqDiff, Nat.zero_add, Nat.add_zero, lk_, lit_, nI_add, nI_mul, ix_nI, fgk_0, fgk_1, fgk_2, fgk_3, fgk_4, fgk_5, fgk_6, fgk_7, fgk_8, fgk_9, fgk_10, fgk_11, fgk_12, fgk_13, fsk_0, fsk_1, fsk_2, fsk_3, fsk_4, fsk_5, fsk_6, fsk_7, fsk_8, fsk_9, fsk_10, fsk_11, fsk_12, fsk_13, ca_i, ca_r, ca_n, Nat.reduceLT, true_or, or_true, if_true, false_or, or_false, and_true, true_and, List.mem_singleton, eq_self, i1, i2]) (by
    intro k x u σ0 σ1 y fs cx hk hct _ hx hx1 i1 i2 i3 i4 i5 i6
    have hcp := ct_pair hW hct
    have hup := hx1.2.1.2.1.2.1 k hk
    have hui := up_in (p := k) hW he
    have hHo := Hb_ok hH
    obtain ⟨am, as, st, i, j, fl, xa, l1, l2, l3, l4, l5⟩ := Nx_mark (E := E) hx1 (show k / 12 < n by omega)
    obtain ⟨am', as', st', i', j', fl', xb, m1, m2, m3, m4, m5⟩ := Nx_mark (E := E) hx1 hcp.2
    rw [l1] at m1
    cases m1
    have hka := K_hasM (E := E) hHo hW (show k / 12 < n by omega) l4
    have hkb := K_hasM (E := E) hHo hW hcp.2 m4
    obtain ⟨na, a1, a2⟩ := l4
    obtain ⟨nb, b1, b2⟩ := m4
    obtain ⟨⟨lc, ⟨c0, x1, x2, x3, x4, x5, x6, _⟩, _⟩, hK, _⟩ := hx1
    have hpp : pa_ (k / 12) (k % 12) = k := by
      have : pa_ (k / 12) (k % 12) = 12 * (k / 12) + k % 12 := if_pos hcp.1
      omega
    have eG : mfG_ r (err_ r n s) s k x = mf1_ r (err_ r n s) s (k / 12) (k % 12) x := if_neg hct
    rw [eG]
    have hed : edg_ r s (k / 12) (k % 12) := ⟨by omega, by rw [hpp]; exact hct⟩
    by_cases ca : r (8 + 5 * (k / 12) + 3) = nI 1
    · rw [bI_t ca] at hka
      by_cases cb : r (8 + 5 * (k % 12) + 3) = nI 1
      · rw [bI_t cb] at hkb
        have ha := hH _ (show k / 12 < n by omega) ca
        have hb := hH _ hcp.2 cb
        have e1 : mf1_ r (err_ r n s) s (k / 12) (k % 12) x = x + ((upv_ r (err_ r n s) s k - (r (8 + 5 * (k % 12) + 4) - r (8 + 5 * (k / 12) + 4))).toInt64) * ((upv_ r (err_ r n s) s k - (r (8 + 5 * (k % 12) + 4) - r (8 + 5 * (k / 12) + 4))).toInt64) := by
          have e2 : mf1_ r (err_ r n s) s (k / 12) (k % 12) x = _ := if_pos ⟨hed, ca, cb⟩
          unfold inr_ at hui
          have e3 : (r (8 + 5 * (k % 12) + 4) - r (8 + 5 * (k / 12) + 4)).toInt = (r (8 + 5 * (k % 12) + 4)).toInt - (r (8 + 5 * (k / 12) + 4)).toInt := i32_sub (by omega)
          rw [e2, hpp, i64_sub (a := upv_ r (err_ r n s) s k) (by rw [e3]; omega), i64_sub (a := r (8 + 5 * (k % 12) + 4)) (by omega)]
        have hta : hgt_ r (k / 12) = r (8 + 5 * (k / 12) + 4) := if_pos ca
        have htb : hgt_ r (k % 12) = r (8 + 5 * (k % 12) + 4) := if_pos cb
        rw [hta] at a1
        rw [htb] at b1
        rw [e1]
        refine ⟨(some (.int (nI k)), some (.ref xa), some (.ref xb), some (.long ((upv_ r (err_ r n s) s k - (r (8 + 5 * (k % 12) + 4) - r (8 + 5 * (k / 12) + 4))).toInt64)), none), ?_⟩
        conv => lhs; rw [b305_1]
        simp (disch := first | assumption | omega | decide) only [K305_1, b305_2, K305_2, R_cons, go_nx, go_jp, go_rt, go_th, go_ca, go_no, go_ite, rr_v, rr_n, rr_x, hx_n, hx_p, hx_b, I_push, I_pushl, I_fc0, I_fc1, I_dc0, I_null, I_mask, I_iload, I_lload, I_dload, I_fload, I_aload, I_istore, I_lstore, I_dstore, I_fstore, I_astore, I_iinc, I_iadd, I_isub, I_imul, I_iand, I_ior, I_ixor, I_ishl, I_ishr, I_iushr, I_ineg, I_ladd, I_lsub, I_lmul, I_lxor, I_i2l, I_l2i, I_i2b, I_i2c, I_i2f, I_i2d, I_lcmp, I_fdiv, I_ddiv, I_f2d, I_dcmp, I_dup, I_pop, I_dup_x1, I_dup2, I_icne, I_iceq, I_iclt, I_icge, I_icgt, I_icle, I_ifnull, I_ifnonnull, I_ane, I_aeq, I_goto, I_lsw, I_iret, I_lret, I_fret, I_dret, I_vret, I_nret, I_aret, I_iald, I_bald, I_lald, I_aald, I_iast, I_bast, I_last, I_aast, I_alen, I_new, I_val, I_cast, I_inst, I_obj, I_throw, I_mkx, I_getf, I_putf, I_call, I_calli, I_callv, I_clone, I_getc, i_ifeq, i_ifne, i_iflt, i_ifge, i_ifgt, i_ifle, i_idiv, i_irem, i_newa, i_newo, i_abs, i_max, i_min, i_ldiv, en_, es_i, es_r, es_0, es_n, es_l, List.length_cons, List.length_nil, List.cons_append, List.nil_append, Nat.reduceAdd, Nat.reduceSub, List.replicate, lg_, st1_, st2_, cn_, nl_, mk_, pk_, kd_, sl_, la_, ft_a, ft_i, ft_l, ft_o, ft_n, ft_b0, ft_b1, ft_bI, nr_0, nr_1, nr_bI, ro_, no_, if_true, if_false, ite_true, ite_false, reduceIte, Nat.reduceMod, Nat.reduceEqDiff, Nat.zero_add, Nat.add_zero, lk_, lit_, nI_add, nI_mul, ix_nI, fgk_0, fgk_1, fgk_2, fgk_3, fgk_4, fgk_5, fgk_6, fgk_7, fgk_8, fgk_9, fgk_10, fgk_11, fgk_12, fgk_13, fsk_0, fsk_1, fsk_2, fsk_3, fsk_4, fsk_5, fsk_6, fsk_7, fsk_8, fsk_9, fsk_10, fsk_11, fsk_12, fsk_13, ca_i, ca_r, ca_n, Nat.reduceLT, true_or, or_true, if_true, false_or, or_false, and_true, true_and, List.mem_singleton, eq_self, i1, i2, n10_, i3, i4, i5, i6, c0, nf_12, nf_1, l1, l2, pk_div, nI_rm, l3, m3, a1, b1, hka, hkb, x2, ix_nI, hup]
      · rw [bI_f cb] at hkb
        have e1 : mf1_ r (err_ r n s) s (k / 12) (k % 12) x = x := if_neg (fun q => cb q.2.2)
        rw [e1]
        refine ⟨(some (.int (nI k)), some (.ref xa), some (.ref xb), none, none), ?_⟩
        conv => lhs; rw [b305_1]
        simp (disch := first | assumption | omega | decide) only [K305_1, R_cons, go_nx, go_jp, go_rt, go_th, go_ca, go_no, go_ite, rr_v, rr_n, rr_x, hx_n, hx_p, hx_b, I_push, I_pushl, I_fc0, I_fc1, I_dc0, I_null, I_mask, I_iload, I_lload, I_dload, I_fload, I_aload, I_istore, I_lstore, I_dstore, I_fstore, I_astore, I_iinc, I_iadd, I_isub, I_imul, I_iand, I_ior, I_ixor, I_ishl, I_ishr, I_iushr, I_ineg, I_ladd, I_lsub, I_lmul, I_lxor, I_i2l, I_l2i, I_i2b, I_i2c, I_i2f, I_i2d, I_lcmp, I_fdiv, I_ddiv, I_f2d, I_dcmp, I_dup, I_pop, I_dup_x1, I_dup2, I_icne, I_iceq, I_iclt, I_icge, I_icgt, I_icle, I_ifnull, I_ifnonnull, I_ane, I_aeq, I_goto, I_lsw, I_iret, I_lret, I_fret, I_dret, I_vret, I_nret, I_aret, I_iald, I_bald, I_lald, I_aald, I_iast, I_bast, I_last, I_aast, I_alen, I_new, I_val, I_cast, I_inst, I_obj, I_throw, I_mkx, I_getf, I_putf, I_call, I_calli, I_callv, I_clone, I_getc, i_ifeq, i_ifne, i_iflt, i_ifge, i_ifgt, i_ifle, i_idiv, i_irem, i_newa, i_newo, i_abs, i_max, i_min, i_ldiv, en_, es_i, es_r, es_0, es_n, es_l, List.length_cons, List.length_nil, List.cons_append, List.nil_append, Nat.reduceAdd, Nat.reduceSub, List.replicate, lg_, st1_, st2_, cn_, nl_, mk_, pk_, kd_, sl_, la_, ft_a, ft_i, ft_l, ft_o, ft_n, ft_b0, ft_b1, ft_bI, nr_0, nr_1, nr_bI, ro_, no_, if_true, if_false, ite_true, ite_false, reduceIte, Nat.reduceMod, Nat.reduceEqDiff, Nat.zero_add, Nat.add_zero, lk_, lit_, nI_add, nI_mul, ix_nI, fgk_0, fgk_1, fgk_2, fgk_3, fgk_4, fgk_5, fgk_6, fgk_7, fgk_8, fgk_9, fgk_10, fgk_11, fgk_12, fgk_13, fsk_0, fsk_1, fsk_2, fsk_3, fsk_4, fsk_5, fsk_6, fsk_7, fsk_8, fsk_9, fsk_10, fsk_11, fsk_12, fsk_13, ca_i, ca_r, ca_n, Nat.reduceLT, true_or, or_true, if_true, false_or, or_false, and_true, true_and, List.mem_singleton, eq_self, i1, i2, n10_, i3, i4, i5, i6, c0, nf_12, nf_1, l1, l2, pk_div, nI_rm, l3, m3, a1, b1, hka, hkb, x2, ix_nI, hup]
    · rw [bI_f ca] at hka
      have e1 : mf1_ r (err_ r n s) s (k / 12) (k % 12) x = x := if_neg (fun q => ca q.2.1)
      rw [e1]
      refine ⟨(some (.int (nI k)), some (.ref xa), some (.ref xb), none, none), ?_⟩
      conv => lhs; rw [b305_1]
      simp (disch := first | assumption | omega | decide) only [K305_1, R_cons, go_nx, go_jp, go_rt, go_th, go_ca, go_no, go_ite, rr_v, rr_n, rr_x, hx_n, hx_p, hx_b, I_push, I_pushl, I_fc0, I_fc1, I_dc0, I_null, I_mask, I_iload, I_lload, I_dload, I_fload, I_aload, I_istore, I_lstore, I_dstore, I_fstore, I_astore, I_iinc, I_iadd, I_isub, I_imul, I_iand, I_ior, I_ixor, I_ishl, I_ishr, I_iushr, I_ineg, I_ladd, I_lsub, I_lmul, I_lxor, I_i2l, I_l2i, I_i2b, I_i2c, I_i2f, I_i2d, I_lcmp, I_fdiv, I_ddiv, I_f2d, I_dcmp, I_dup, I_pop, I_dup_x1, I_dup2, I_icne, I_iceq, I_iclt, I_icge, I_icgt, I_icle, I_ifnull, I_ifnonnull, I_ane, I_aeq, I_goto, I_lsw, I_iret, I_lret, I_fret, I_dret, I_vret, I_nret, I_aret, I_iald, I_bald, I_lald, I_aald, I_iast, I_bast, I_last, I_aast, I_alen, I_new, I_val, I_cast, I_inst, I_obj, I_throw, I_mkx, I_getf, I_putf, I_call, I_calli, I_callv, I_clone, I_getc, i_ifeq, i_ifne, i_iflt, i_ifge, i_ifgt, i_ifle, i_idiv, i_irem, i_newa, i_newo, i_abs, i_max, i_min, i_ldiv, en_, es_i, es_r, es_0, es_n, es_l, List.length_cons, List.length_nil, List.cons_append, List.nil_append, Nat.reduceAdd, Nat.reduceSub, List.replicate, lg_, st1_, st2_, cn_, nl_, mk_, pk_, kd_, sl_, la_, ft_a, ft_i, ft_l, ft_o, ft_n, ft_b0, ft_b1, ft_bI, nr_0, nr_1, nr_bI, ro_, no_, if_true, if_false, ite_true, ite_false, reduceIte, Nat.reduceMod, Nat.reduceEqDiff, Nat.zero_add, Nat.add_zero, lk_, lit_, nI_add, nI_mul, ix_nI, fgk_0, fgk_1, fgk_2, fgk_3, fgk_4, fgk_5, fgk_6, fgk_7, fgk_8, fgk_9, fgk_10, fgk_11, fgk_12, fgk_13, fsk_0, fsk_1, fsk_2, fsk_3, fsk_4, fsk_5, fsk_6, fsk_7, fsk_8, fsk_9, fsk_10, fsk_11, fsk_12, fsk_13, ca_i, ca_r, ca_n, Nat.reduceLT, true_or, or_true, if_true, false_or, or_false, and_true, true_and, List.mem_singleton, eq_self, i1, i2, n10_, i3, i4, i5, i6, c0, nf_12, nf_1, l1, l2, pk_div, nI_rm, l3, m3, a1, b1, hka, hkb, x2, ix_nI, hup])
  obtain ⟨lc, h1⟩ := h.1
  have c0 := h1.1.1
  obtain ⟨σ', m1, m2, m3⟩ := j3 0 (none, none, none, none, none) trivial
  rw [mfG_all hW] at m1
  refine ⟨σ', ?_, m2, m3⟩
  rw [← m1, D_run]
  simp (disch := omega) only [b305_0, K305_0, l305, R_cons, go_nx, go_jp, go_rt, go_th, go_ca, go_no, go_ite, rr_v, rr_n, rr_x, hx_n, hx_p, hx_b, I_push, I_pushl, I_fc0, I_fc1, I_dc0, I_null, I_mask, I_iload, I_lload, I_dload, I_fload, I_aload, I_istore, I_lstore, I_dstore, I_fstore, I_astore, I_iinc, I_iadd, I_isub, I_imul, I_iand, I_ior, I_ixor, I_ishl, I_ishr, I_iushr, I_ineg, I_ladd, I_lsub, I_lmul, I_lxor, I_i2l, I_l2i, I_i2b, I_i2c, I_i2f, I_i2d, I_lcmp, I_fdiv, I_ddiv, I_f2d, I_dcmp, I_dup, I_pop, I_dup_x1, I_dup2, I_icne, I_iceq, I_iclt, I_icge, I_icgt, I_icle, I_ifnull, I_ifnonnull, I_ane, I_aeq, I_goto, I_lsw, I_iret, I_lret, I_fret, I_dret, I_vret, I_nret, I_aret, I_iald, I_bald, I_lald, I_aald, I_iast, I_bast, I_last, I_aast, I_alen, I_new, I_val, I_cast, I_inst, I_obj, I_throw, I_mkx, I_getf, I_putf, I_call, I_calli, I_callv, I_clone, I_getc, i_ifeq, i_ifne, i_iflt, i_ifge, i_ifgt, i_ifle, i_idiv, i_irem, i_newa, i_newo, i_abs, i_max, i_min, i_ldiv, en_, es_i, es_r, es_0, es_n, es_l, List.length_cons, List.length_nil, List.cons_append, List.nil_append, Nat.reduceAdd, Nat.reduceSub, List.replicate, lg_, st1_, st2_, cn_, nl_, mk_, pk_, kd_, sl_, la_, ft_a, ft_i, ft_l, ft_o, ft_n, ft_b0, ft_b1, ft_bI, nr_0, nr_1, nr_bI, ro_, no_, if_true, if_false, ite_true, ite_false, reduceIte, Nat.reduceMod, Nat.reduceEqDiff, Nat.zero_add, Nat.add_zero, lk_, lit_, nI_add, nI_mul, ix_nI, fgk_0, fgk_1, fgk_2, fgk_3, fgk_4, fgk_5, fgk_6, fgk_7, fgk_8, fgk_9, fgk_10, fgk_11, fgk_12, fgk_13, fsk_0, fsk_1, fsk_2, fsk_3, fsk_4, fsk_5, fsk_6, fsk_7, fsk_8, fsk_9, fsk_10, fsk_11, fsk_12, fsk_13, ca_i, ca_r, ca_n, Nat.reduceLT, true_or, or_true, if_true, false_or, or_false, and_true, true_and, List.mem_singleton, eq_self, c0, j1]
theorem N_off {k x : Nat} (h : Nx_ E h0 σ b bb q w N r n s ms ss) (hk : k < s) (hS : SgC_ σ.2.2 x r k) : D_ E 304 [.ref b, .ref x] σ = some (.inl (some (.int (off_ r (err_ r n s) s k))), σ) := by
  have hW := h.2.2.2.2.2.2.1
  have hR := W_rise (E := E) (e := N 7 0) h.2.2.2.1 h.2.2.2.2.1 hW hk hS
  obtain ⟨lc, h1⟩ := h.1
  have hri := N_riseE (E := E) h1 hW h.2.1.2.1.2.1 (wr_fr hW hk).2 (wr_to hW hk).2
  have hS' := sg_ft hW hk hS
  have h7 := h.2.1.1
  rw [h7] at hR
  obtain ⟨am, as, st, i, j, g, l1, l2, l3⟩ := Nx_lim h
  obtain ⟨⟨c0, _⟩, _⟩ := h1
  rw [D_run]
  simp (disch := first | assumption | omega | decide) only [l304, b304_0, K304_0, R_cons, go_nx, go_jp, go_rt, go_th, go_ca, go_no, go_ite, rr_v, rr_n, rr_x, hx_n, hx_p, hx_b, I_push, I_pushl, I_fc0, I_fc1, I_dc0, I_null, I_mask, I_iload, I_lload, I_dload, I_fload, I_aload, I_istore, I_lstore, I_dstore, I_fstore, I_astore, I_iinc, I_iadd, I_isub, I_imul, I_iand, I_ior, I_ixor, I_ishl, I_ishr, I_iushr, I_ineg, I_ladd, I_lsub, I_lmul, I_lxor, I_i2l, I_l2i, I_i2b, I_i2c, I_i2f, I_i2d, I_lcmp, I_fdiv, I_ddiv, I_f2d, I_dcmp, I_dup, I_pop, I_dup_x1, I_dup2, I_icne, I_iceq, I_iclt, I_icge, I_icgt, I_icle, I_ifnull, I_ifnonnull, I_ane, I_aeq, I_goto, I_lsw, I_iret, I_lret, I_fret, I_dret, I_vret, I_nret, I_aret, I_iald, I_bald, I_lald, I_aald, I_iast, I_bast, I_last, I_aast, I_alen, I_new, I_val, I_cast, I_inst, I_obj, I_throw, I_mkx, I_getf, I_putf, I_call, I_calli, I_callv, I_clone, I_getc, i_ifeq, i_ifne, i_iflt, i_ifge, i_ifgt, i_ifle, i_idiv, i_irem, i_newa, i_newo, i_abs, i_max, i_min, i_ldiv, en_, es_i, es_r, es_0, es_n, es_l, List.length_cons, List.length_nil, List.cons_append, List.nil_append, Nat.reduceAdd, Nat.reduceSub, List.replicate, lg_, st1_, st2_, cn_, nl_, mk_, pk_, kd_, sl_, la_, ft_a, ft_i, ft_l, ft_o, ft_n, ft_b0, ft_b1, ft_bI, nr_0, nr_1, nr_bI, ro_, no_, if_true, if_false, ite_true, ite_false, reduceIte, Nat.reduceMod, Nat.reduceEqDiff, Nat.zero_add, Nat.add_zero, lk_, lit_, nI_add, nI_mul, ix_nI, fgk_0, fgk_1, fgk_2, fgk_3, fgk_4, fgk_5, fgk_6, fgk_7, fgk_8, fgk_9, fgk_10, fgk_11, fgk_12, fgk_13, fsk_0, fsk_1, fsk_2, fsk_3, fsk_4, fsk_5, fsk_6, fsk_7, fsk_8, fsk_9, fsk_10, fsk_11, fsk_12, fsk_13, ca_i, ca_r, ca_n, Nat.reduceLT, true_or, or_true, if_true, false_or, or_false, and_true, true_and, List.mem_singleton, eq_self, c0, nf_12, nf_7, h7, l1, hR, hS', hri]
  rfl
theorem tn5_lp {k0 : Nat} (hH : Hok_ r n) (h : Nx_ E h0 σ b bb q w N r n s ms ss) (hk0 : k0 < n) (hf : r (8 + 5 * k0 + 3) = nI 1) : ∀ (d k : Nat) (x : Int32), k + d = n →
    R_ E 306 (B_ E 306 1) [some (.ref b), some (.int (nI k0)), some (.int x), some (.int (nI k))] [] σ = some (.inl (some (.int (fo_ (tn1_ r (err_ r n s) s k0) d k x))), σ) := by
  have hW := h.2.2.2.2.2.2.1
  have h12 := wr_n12 hW
  obtain ⟨am, as, st, i, j, fl, xa, l1, l2, l3, l4, l5⟩ := Nx_mark (E := E) h hk0
  obtain ⟨na, a1, a2⟩ := l4
  have hta : hgt_ r k0 = r (8 + 5 * k0 + 4) := if_pos hf
  rw [hta] at a1
  obtain ⟨lc, h1⟩ := h.1
  have c0 := h1.1.1
  intro d
  induction d with
  | zero =>
    intro k x hk
    obtain rfl : k = n := by omega
    rw [b306_1]
    simp (disch := omega) only [K306_1, b306_3, K306_3, R_cons, go_nx, go_jp, go_rt, go_th, go_ca, go_no, go_ite, rr_v, rr_n, rr_x, hx_n, hx_p, hx_b, I_push, I_pushl, I_fc0, I_fc1, I_dc0, I_null, I_mask, I_iload, I_lload, I_dload, I_fload, I_aload, I_istore, I_lstore, I_dstore, I_fstore, I_astore, I_iinc, I_iadd, I_isub, I_imul, I_iand, I_ior, I_ixor, I_ishl, I_ishr, I_iushr, I_ineg, I_ladd, I_lsub, I_lmul, I_lxor, I_i2l, I_l2i, I_i2b, I_i2c, I_i2f, I_i2d, I_lcmp, I_fdiv, I_ddiv, I_f2d, I_dcmp, I_dup, I_pop, I_dup_x1, I_dup2, I_icne, I_iceq, I_iclt, I_icge, I_icgt, I_icle, I_ifnull, I_ifnonnull, I_ane, I_aeq, I_goto, I_lsw, I_iret, I_lret, I_fret, I_dret, I_vret, I_nret, I_aret, I_iald, I_bald, I_lald, I_aald, I_iast, I_bast, I_last, I_aast, I_alen, I_new, I_val, I_cast, I_inst, I_obj, I_throw, I_mkx, I_getf, I_putf, I_call, I_calli, I_callv, I_clone, I_getc, i_ifeq, i_ifne, i_iflt, i_ifge, i_ifgt, i_ifle, i_idiv, i_irem, i_newa, i_newo, i_abs, i_max, i_min, i_ldiv, en_, es_i, es_r, es_0, es_n, es_l, List.length_cons, List.length_nil, List.cons_append, List.nil_append, Nat.reduceAdd, Nat.reduceSub, List.replicate, lg_, st1_, st2_, cn_, nl_, mk_, pk_, kd_, sl_, la_, ft_a, ft_i, ft_l, ft_o, ft_n, ft_b0, ft_b1, ft_bI, nr_0, nr_1, nr_bI, ro_, no_, if_true, if_false, ite_true, ite_false, reduceIte, Nat.reduceMod, Nat.reduceEqDiff, Nat.zero_add, Nat.add_zero, lk_, lit_, nI_add, nI_mul, ix_nI, fgk_0, fgk_1, fgk_2, fgk_3, fgk_4, fgk_5, fgk_6, fgk_7, fgk_8, fgk_9, fgk_10, fgk_11, fgk_12, fgk_13, fsk_0, fsk_1, fsk_2, fsk_3, fsk_4, fsk_5, fsk_6, fsk_7, fsk_8, fsk_9, fsk_10, fsk_11, fsk_12, fsk_13, ca_i, ca_r, ca_n, Nat.reduceLT, true_or, or_true, if_true, false_or, or_false, and_true, true_and, List.mem_singleton, eq_self, c0, nf_12, l1, l2, l5, nI_leI, Nat.le_refl]
    rfl
  | succ d ih =>
    intro k x hk
    have hlt : ¬ n ≤ k := by omega
    have hkn : k < n := by omega
    have hie := N_isEdge (E := E) h1 hW h.2.1.2.1.1 hk0 hkn
    have hri := N_riseE (E := E) h1 hW h.2.1.2.1.2.1 hkn hk0
    obtain ⟨am', as', st', i', j', fl', xb, m1, m2, m3, m4, m5⟩ := Nx_mark (E := E) h hkn
    rw [l1] at m1
    cases m1
    have hkb := K_hasM (E := E) hH hW hkn m4
    obtain ⟨nb, b1, b2⟩ := m4
    rw [fo_, tn1_, b306_1]
    by_cases ce : edg_ r s k k0
    · rw [bI_t (show edg_ r s k0 k from ⟨fun q => ce.1 q.symm, by rw [pa_co]; exact ce.2⟩)] at hie
      rw [if_pos ce]
      by_cases cb : r (8 + 5 * k + 3) = nI 1
      · rw [bI_t cb] at hkb
        have htb : hgt_ r k = r (8 + 5 * k + 4) := if_pos cb
        rw [htb] at b1
        rw [if_pos cb, ← ih (k + 1) _ (by omega)]
        simp (disch := first | assumption | omega | decide) only [K306_1, b306_2, K306_2, R_cons, go_nx, go_jp, go_rt, go_th, go_ca, go_no, go_ite, rr_v, rr_n, rr_x, hx_n, hx_p, hx_b, I_push, I_pushl, I_fc0, I_fc1, I_dc0, I_null, I_mask, I_iload, I_lload, I_dload, I_fload, I_aload, I_istore, I_lstore, I_dstore, I_fstore, I_astore, I_iinc, I_iadd, I_isub, I_imul, I_iand, I_ior, I_ixor, I_ishl, I_ishr, I_iushr, I_ineg, I_ladd, I_lsub, I_lmul, I_lxor, I_i2l, I_l2i, I_i2b, I_i2c, I_i2f, I_i2d, I_lcmp, I_fdiv, I_ddiv, I_f2d, I_dcmp, I_dup, I_pop, I_dup_x1, I_dup2, I_icne, I_iceq, I_iclt, I_icge, I_icgt, I_icle, I_ifnull, I_ifnonnull, I_ane, I_aeq, I_goto, I_lsw, I_iret, I_lret, I_fret, I_dret, I_vret, I_nret, I_aret, I_iald, I_bald, I_lald, I_aald, I_iast, I_bast, I_last, I_aast, I_alen, I_new, I_val, I_cast, I_inst, I_obj, I_throw, I_mkx, I_getf, I_putf, I_call, I_calli, I_callv, I_clone, I_getc, i_ifeq, i_ifne, i_iflt, i_ifge, i_ifgt, i_ifle, i_idiv, i_irem, i_newa, i_newo, i_abs, i_max, i_min, i_ldiv, en_, es_i, es_r, es_0, es_n, es_l, List.length_cons, List.length_nil, List.cons_append, List.nil_append, Nat.reduceAdd, Nat.reduceSub, List.replicate, lg_, st1_, st2_, cn_, nl_, mk_, pk_, kd_, sl_, la_, ft_a, ft_i, ft_l, ft_o, ft_n, ft_b0, ft_b1, ft_bI, nr_0, nr_1, nr_bI, ro_, no_, if_true, if_false, ite_true, ite_false, reduceIte, Nat.reduceMod, Nat.reduceEqDiff, Nat.zero_add, Nat.add_zero, lk_, lit_, nI_add, nI_mul, ix_nI, fgk_0, fgk_1, fgk_2, fgk_3, fgk_4, fgk_5, fgk_6, fgk_7, fgk_8, fgk_9, fgk_10, fgk_11, fgk_12, fgk_13, fsk_0, fsk_1, fsk_2, fsk_3, fsk_4, fsk_5, fsk_6, fsk_7, fsk_8, fsk_9, fsk_10, fsk_11, fsk_12, fsk_13, ca_i, ca_r, ca_n, Nat.reduceLT, true_or, or_true, if_true, false_or, or_false, and_true, true_and, List.mem_singleton, eq_self, c0, nf_12, l1, l2, l5, nI_leI, hlt, hie, n10_, m3, b1, hkb, l3, a1, hri, nI_1]
      · rw [bI_f cb] at hkb
        rw [if_neg cb, ← ih (k + 1) _ (by omega)]
        simp (disch := first | assumption | omega | decide) only [K306_1, b306_2, K306_2, R_cons, go_nx, go_jp, go_rt, go_th, go_ca, go_no, go_ite, rr_v, rr_n, rr_x, hx_n, hx_p, hx_b, I_push, I_pushl, I_fc0, I_fc1, I_dc0, I_null, I_mask, I_iload, I_lload, I_dload, I_fload, I_aload, I_istore, I_lstore, I_dstore, I_fstore, I_astore, I_iinc, I_iadd, I_isub, I_imul, I_iand, I_ior, I_ixor, I_ishl, I_ishr, I_iushr, I_ineg, I_ladd, I_lsub, I_lmul, I_lxor, I_i2l, I_l2i, I_i2b, I_i2c, I_i2f, I_i2d, I_lcmp, I_fdiv, I_ddiv, I_f2d, I_dcmp, I_dup, I_pop, I_dup_x1, I_dup2, I_icne, I_iceq, I_iclt, I_icge, I_icgt, I_icle, I_ifnull, I_ifnonnull, I_ane, I_aeq, I_goto, I_lsw, I_iret, I_lret, I_fret, I_dret, I_vret, I_nret, I_aret, I_iald, I_bald, I_lald, I_aald, I_iast, I_bast, I_last, I_aast, I_alen, I_new, I_val, I_cast, I_inst, I_obj, I_throw, I_mkx, I_getf, I_putf, I_call, I_calli, I_callv, I_clone, I_getc, i_ifeq, i_ifne, i_iflt, i_ifge, i_ifgt, i_ifle, i_idiv, i_irem, i_newa, i_newo, i_abs, i_max, i_min, i_ldiv, en_, es_i, es_r, es_0, es_n, es_l, List.length_cons, List.length_nil, List.cons_append, List.nil_append, Nat.reduceAdd, Nat.reduceSub, List.replicate, lg_, st1_, st2_, cn_, nl_, mk_, pk_, kd_, sl_, la_, ft_a, ft_i, ft_l, ft_o, ft_n, ft_b0, ft_b1, ft_bI, nr_0, nr_1, nr_bI, ro_, no_, if_true, if_false, ite_true, ite_false, reduceIte, Nat.reduceMod, Nat.reduceEqDiff, Nat.zero_add, Nat.add_zero, lk_, lit_, nI_add, nI_mul, ix_nI, fgk_0, fgk_1, fgk_2, fgk_3, fgk_4, fgk_5, fgk_6, fgk_7, fgk_8, fgk_9, fgk_10, fgk_11, fgk_12, fgk_13, fsk_0, fsk_1, fsk_2, fsk_3, fsk_4, fsk_5, fsk_6, fsk_7, fsk_8, fsk_9, fsk_10, fsk_11, fsk_12, fsk_13, ca_i, ca_r, ca_n, Nat.reduceLT, true_or, or_true, if_true, false_or, or_false, and_true, true_and, List.mem_singleton, eq_self, c0, nf_12, l1, l2, l5, nI_leI, hlt, hie, n10_, m3, b1, hkb, nI_1]
    · rw [bI_f (show ¬ edg_ r s k0 k from fun q => ce ⟨fun q2 => q.1 q2.symm, by rw [pa_co]; exact q.2⟩)] at hie
      rw [if_neg ce, ← ih (k + 1) _ (by omega)]
      simp (disch := first | assumption | omega | decide) only [K306_1, b306_2, K306_2, R_cons, go_nx, go_jp, go_rt, go_th, go_ca, go_no, go_ite, rr_v, rr_n, rr_x, hx_n, hx_p, hx_b, I_push, I_pushl, I_fc0, I_fc1, I_dc0, I_null, I_mask, I_iload, I_lload, I_dload, I_fload, I_aload, I_istore, I_lstore, I_dstore, I_fstore, I_astore, I_iinc, I_iadd, I_isub, I_imul, I_iand, I_ior, I_ixor, I_ishl, I_ishr, I_iushr, I_ineg, I_ladd, I_lsub, I_lmul, I_lxor, I_i2l, I_l2i, I_i2b, I_i2c, I_i2f, I_i2d, I_lcmp, I_fdiv, I_ddiv, I_f2d, I_dcmp, I_dup, I_pop, I_dup_x1, I_dup2, I_icne, I_iceq, I_iclt, I_icge, I_icgt, I_icle, I_ifnull, I_ifnonnull, I_ane, I_aeq, I_goto, I_lsw, I_iret, I_lret, I_fret, I_dret, I_vret, I_nret, I_aret, I_iald, I_bald, I_lald, I_aald, I_iast, I_bast, I_last, I_aast, I_alen, I_new, I_val, I_cast, I_inst, I_obj, I_throw, I_mkx, I_getf, I_putf, I_call, I_calli, I_callv, I_clone, I_getc, i_ifeq, i_ifne, i_iflt, i_ifge, i_ifgt, i_ifle, i_idiv, i_irem, i_newa, i_newo, i_abs, i_max, i_min, i_ldiv, en_, es_i, es_r, es_0, es_n, es_l, List.length_cons, List.length_nil, List.cons_append, List.nil_append, Nat.reduceAdd, Nat.reduceSub, List.replicate, lg_, st1_, st2_, cn_, nl_, mk_, pk_, kd_, sl_, la_, ft_a, ft_i, ft_l, ft_o, ft_n, ft_b0, ft_b1, ft_bI, nr_0, nr_1, nr_bI, ro_, no_, if_true, if_false, ite_true, ite_false, reduceIte, Nat.reduceMod, Nat.reduceEqDiff, Nat.zero_add, Nat.add_zero, lk_, lit_, nI_add, nI_mul, ix_nI, fgk_0, fgk_1, fgk_2, fgk_3, fgk_4, fgk_5, fgk_6, fgk_7, fgk_8, fgk_9, fgk_10, fgk_11, fgk_12, fgk_13, fsk_0, fsk_1, fsk_2, fsk_3, fsk_4, fsk_5, fsk_6, fsk_7, fsk_8, fsk_9, fsk_10, fsk_11, fsk_12, fsk_13, ca_i, ca_r, ca_n, Nat.reduceLT, true_or, or_true, if_true, false_or, or_false, and_true, true_and, List.mem_singleton, eq_self, c0, nf_12, l1, l2, l5, nI_leI, hlt, hie, nI_1]
theorem N_tension {k0 : Nat} (hH : Hok_ r n) (h : Nx_ E h0 σ b bb q w N r n s ms ss) (hk0 : k0 < n) (hf : r (8 + 5 * k0 + 3) = nI 1) : D_ E 306 [.ref b, .int (nI k0)] σ = some (.inl (some (.int (tno_ r n s k0))), σ) := by
  rw [D_run]
  simp (disch := omega) only [b306_0, K306_0, l306, R_cons, go_nx, go_jp, go_rt, go_th, go_ca, go_no, go_ite, rr_v, rr_n, rr_x, hx_n, hx_p, hx_b, I_push, I_pushl, I_fc0, I_fc1, I_dc0, I_null, I_mask, I_iload, I_lload, I_dload, I_fload, I_aload, I_istore, I_lstore, I_dstore, I_fstore, I_astore, I_iinc, I_iadd, I_isub, I_imul, I_iand, I_ior, I_ixor, I_ishl, I_ishr, I_iushr, I_ineg, I_ladd, I_lsub, I_lmul, I_lxor, I_i2l, I_l2i, I_i2b, I_i2c, I_i2f, I_i2d, I_lcmp, I_fdiv, I_ddiv, I_f2d, I_dcmp, I_dup, I_pop, I_dup_x1, I_dup2, I_icne, I_iceq, I_iclt, I_icge, I_icgt, I_icle, I_ifnull, I_ifnonnull, I_ane, I_aeq, I_goto, I_lsw, I_iret, I_lret, I_fret, I_dret, I_vret, I_nret, I_aret, I_iald, I_bald, I_lald, I_aald, I_iast, I_bast, I_last, I_aast, I_alen, I_new, I_val, I_cast, I_inst, I_obj, I_throw, I_mkx, I_getf, I_putf, I_call, I_calli, I_callv, I_clone, I_getc, i_ifeq, i_ifne, i_iflt, i_ifge, i_ifgt, i_ifle, i_idiv, i_irem, i_newa, i_newo, i_abs, i_max, i_min, i_ldiv, en_, es_i, es_r, es_0, es_n, es_l, List.length_cons, List.length_nil, List.cons_append, List.nil_append, Nat.reduceAdd, Nat.reduceSub, List.replicate, lg_, st1_, st2_, cn_, nl_, mk_, pk_, kd_, sl_, la_, ft_a, ft_i, ft_l, ft_o, ft_n, ft_b0, ft_b1, ft_bI, nr_0, nr_1, nr_bI, ro_, no_, if_true, if_false, ite_true, ite_false, reduceIte, Nat.reduceMod, Nat.reduceEqDiff, Nat.zero_add, Nat.add_zero, lk_, lit_, nI_add, nI_mul, ix_nI, fgk_0, fgk_1, fgk_2, fgk_3, fgk_4, fgk_5, fgk_6, fgk_7, fgk_8, fgk_9, fgk_10, fgk_11, fgk_12, fgk_13, fsk_0, fsk_1, fsk_2, fsk_3, fsk_4, fsk_5, fsk_6, fsk_7, fsk_8, fsk_9, fsk_10, fsk_11, fsk_12, fsk_13, ca_i, ca_r, ca_n, Nat.reduceLT, true_or, or_true, if_true, false_or, or_false, and_true, true_and, List.mem_singleton, eq_self]
  exact tn5_lp hH h hk0 hf n 0 (nI 0) (by omega)
theorem al2_lp {l : List Nat} {a c : Value} (h : Nx_ E h0 σ b bb q w N r n s ms ss) (h10 : Rw_ (N 10) l) (h11 : N 11 0 = nI l.length) (hz : ∀ z ∈ l, z < n) (h12 : l.length ≤ 12) : ∀ (d i : Nat) (x : Int32) (u v : Option Value), 1 ≤ i → i + d = l.length →
    R_ E 310 (B_ E 310 2) [some (.ref b), u, v, some (.int x), some (.int (nI i))] [] σ = some (.inl (some (.int (alo_ (rf_ r (err_ r n s) s) (l.drop (i - 1)) x))), σ) := by
  have hW := h.2.2.2.2.2.2.1
  obtain ⟨lc, h1⟩ := h.1
  obtain ⟨⟨c0, c1, c2, c3, c4, c5, c6, c8, c9, c10, _⟩, _⟩ := id h1
  intro d
  induction d with
  | zero =>
    intro i x u v hi1 hi
    obtain rfl : i = l.length := by omega
    obtain ⟨z, hz1⟩ : ∃ z, l.drop (l.length - 1) = [z] := by
      have : (l.drop (l.length - 1)).length = 1 := by rw [List.length_drop]; omega
      exact List.length_eq_one_iff.mp this
    rw [hz1, b310_2]
    simp (disch := omega) only [K310_2, b310_3, K310_3, R_cons, go_nx, go_jp, go_rt, go_th, go_ca, go_no, go_ite, rr_v, rr_n, rr_x, hx_n, hx_p, hx_b, I_push, I_pushl, I_fc0, I_fc1, I_dc0, I_null, I_mask, I_iload, I_lload, I_dload, I_fload, I_aload, I_istore, I_lstore, I_dstore, I_fstore, I_astore, I_iinc, I_iadd, I_isub, I_imul, I_iand, I_ior, I_ixor, I_ishl, I_ishr, I_iushr, I_ineg, I_ladd, I_lsub, I_lmul, I_lxor, I_i2l, I_l2i, I_i2b, I_i2c, I_i2f, I_i2d, I_lcmp, I_fdiv, I_ddiv, I_f2d, I_dcmp, I_dup, I_pop, I_dup_x1, I_dup2, I_icne, I_iceq, I_iclt, I_icge, I_icgt, I_icle, I_ifnull, I_ifnonnull, I_ane, I_aeq, I_goto, I_lsw, I_iret, I_lret, I_fret, I_dret, I_vret, I_nret, I_aret, I_iald, I_bald, I_lald, I_aald, I_iast, I_bast, I_last, I_aast, I_alen, I_new, I_val, I_cast, I_inst, I_obj, I_throw, I_mkx, I_getf, I_putf, I_call, I_calli, I_callv, I_clone, I_getc, i_ifeq, i_ifne, i_iflt, i_ifge, i_ifgt, i_ifle, i_idiv, i_irem, i_newa, i_newo, i_abs, i_max, i_min, i_ldiv, en_, es_i, es_r, es_0, es_n, es_l, List.length_cons, List.length_nil, List.cons_append, List.nil_append, Nat.reduceAdd, Nat.reduceSub, List.replicate, lg_, st1_, st2_, cn_, nl_, mk_, pk_, kd_, sl_, la_, ft_a, ft_i, ft_l, ft_o, ft_n, ft_b0, ft_b1, ft_bI, nr_0, nr_1, nr_bI, ro_, no_, if_true, if_false, ite_true, ite_false, reduceIte, Nat.reduceMod, Nat.reduceEqDiff, Nat.zero_add, Nat.add_zero, lk_, lit_, nI_add, nI_mul, ix_nI, fgk_0, fgk_1, fgk_2, fgk_3, fgk_4, fgk_5, fgk_6, fgk_7, fgk_8, fgk_9, fgk_10, fgk_11, fgk_12, fgk_13, fsk_0, fsk_1, fsk_2, fsk_3, fsk_4, fsk_5, fsk_6, fsk_7, fsk_8, fsk_9, fsk_10, fsk_11, fsk_12, fsk_13, ca_i, ca_r, ca_n, Nat.reduceLT, true_or, or_true, if_true, false_or, or_false, and_true, true_and, List.mem_singleton, eq_self, c0, nf_11, h11, nI_leI, Nat.le_refl, alo_]
  | succ d ih =>
    intro i x u v hi1 hi
    have hlt : ¬ l.length ≤ i := by omega
    have hi0 : i < l.length := by omega
    have hi2 : i - 1 < l.length := by omega
    have e1 : l.drop (i - 1) = l[i - 1] :: l[i] :: l.drop (i + 1) := by
      rw [List.drop_eq_getElem_cons hi2, show i - 1 + 1 = i by omega, List.drop_eq_getElem_cons hi0]
    have e2 : l.drop (i + 1 - 1) = l[i] :: l.drop (i + 1) := by
      rw [Nat.add_sub_cancel, List.drop_eq_getElem_cons hi0]
    have w1 := Rw_get h10 hi2
    have w2 := Rw_get h10 hi0
    have hri := N_riseE (E := E) h1 hW h.2.1.2.1.2.1 (hz _ (List.getElem_mem hi2)) (hz _ (List.getElem_mem hi0))
    have hm1 : nI i - nI 1 = nI (i - 1) := nI_sub (by omega)
    have hlen : l.length ≤ 12 := h12
    rw [e1, alo_, ← e2, ← ih (i + 1) _ none none (by omega) (by omega)]
    conv => lhs; rw [b310_2]
    simp (disch := first | assumption | omega | decide) only [K310_2, R_cons, go_nx, go_jp, go_rt, go_th, go_ca, go_no, go_ite, rr_v, rr_n, rr_x, hx_n, hx_p, hx_b, I_push, I_pushl, I_fc0, I_fc1, I_dc0, I_null, I_mask, I_iload, I_lload, I_dload, I_fload, I_aload, I_istore, I_lstore, I_dstore, I_fstore, I_astore, I_iinc, I_iadd, I_isub, I_imul, I_iand, I_ior, I_ixor, I_ishl, I_ishr, I_iushr, I_ineg, I_ladd, I_lsub, I_lmul, I_lxor, I_i2l, I_l2i, I_i2b, I_i2c, I_i2f, I_i2d, I_lcmp, I_fdiv, I_ddiv, I_f2d, I_dcmp, I_dup, I_pop, I_dup_x1, I_dup2, I_icne, I_iceq, I_iclt, I_icge, I_icgt, I_icle, I_ifnull, I_ifnonnull, I_ane, I_aeq, I_goto, I_lsw, I_iret, I_lret, I_fret, I_dret, I_vret, I_nret, I_aret, I_iald, I_bald, I_lald, I_aald, I_iast, I_bast, I_last, I_aast, I_alen, I_new, I_val, I_cast, I_inst, I_obj, I_throw, I_mkx, I_getf, I_putf, I_call, I_calli, I_callv, I_clone, I_getc, i_ifeq, i_ifne, i_iflt, i_ifge, i_ifgt, i_ifle, i_idiv, i_irem, i_newa, i_newo, i_abs, i_max, i_min, i_ldiv, en_, es_i, es_r, es_0, es_n, es_l, List.length_cons, List.length_nil, List.cons_append, List.nil_append, Nat.reduceAdd, Nat.reduceSub, List.replicate, lg_, st1_, st2_, cn_, nl_, mk_, pk_, kd_, sl_, la_, ft_a, ft_i, ft_l, ft_o, ft_n, ft_b0, ft_b1, ft_bI, nr_0, nr_1, nr_bI, ro_, no_, if_true, if_false, ite_true, ite_false, reduceIte, Nat.reduceMod, Nat.reduceEqDiff, Nat.zero_add, Nat.add_zero, lk_, lit_, nI_add, nI_mul, ix_nI, fgk_0, fgk_1, fgk_2, fgk_3, fgk_4, fgk_5, fgk_6, fgk_7, fgk_8, fgk_9, fgk_10, fgk_11, fgk_12, fgk_13, fsk_0, fsk_1, fsk_2, fsk_3, fsk_4, fsk_5, fsk_6, fsk_7, fsk_8, fsk_9, fsk_10, fsk_11, fsk_12, fsk_13, ca_i, ca_r, ca_n, Nat.reduceLT, true_or, or_true, if_true, false_or, or_false, and_true, true_and, List.mem_singleton, eq_self, c0, c10, nf_10, nf_11, h11, nI_leI, hlt, hm1, ix_nI, w1, w2, hri, nI_1]
theorem N_along {a c : Nat} (h : Nx_ E h0 σ b bb q w N r n s ms ss) (ha : a < n) (hc : c < n) (hw0 : Wl_ E h0 w r ms ss) : ∃ σ' N', D_ E 310 [.ref b, .int (nI a), .int (nI c)] σ = some (.inl (some (.int (alq_ r n s a c))), σ') ∧ Nx_ E h0 σ' b bb q w N' r n s ms ss ∧ Sz_ 0 σ σ' := by
  have hW := h.2.2.2.2.2.2.1
  have hn := wr_n12 hW
  have hP := (kr_all (r := r) (n := n) (s := s) hn).1
  obtain ⟨lc, h1⟩ := h.1
  obtain ⟨⟨c0, c1, c2, c3, c4, c5, c6, c8, c9, c10, _⟩, _⟩ := id h1
  have pa := h.2.1.2.2.1 a (by omega)
  have pc := h.2.1.2.2.1 c (by omega)
  have hpa := (hP a ha).1
  have hpc := (hP c hc).1
  unfold alq_
  by_cases e : prt_ r n s a = prt_ r n s c
  · obtain ⟨hD1, hD2, hD3⟩ := Dn_of hn h.2.1.2.2.2.2
    obtain ⟨σ1, f, k1, k2, k3, k4, k5, k6⟩ := N_layWay (E := E) hn hD1 hD3 hD2 ha hc e h1
    obtain ⟨⟨p1, q1, _⟩, p2⟩ := pth_spec (r := r) (s := s) hn ha hc e
    have hlen : (pth_ r n s a c).length ≤ 12 := by
      have := wk_len hn (kr_all (r := r) (n := n) (s := s) hn).2.1 p1 p2
      omega
    have hX : Nx_ E h0 σ1 b bb q w (um (um N 10 f) 11 (fun _ => nI (pth_ r n s a c).length)) r n s ms ss := ⟨⟨lc, k2⟩, NtK_um h.2.1, LpL_kp (b := b) h.2.2.1 h1.2.2.2.2 (fun x c hx y1 y2 => by rw [k6 x y1 y2]; exact hx) ⟨_, c0⟩ ⟨_, c10⟩, Wl_mono k2.2.1 hw0, h.2.2.2.2⟩
    have hl := al2_lp (E := E) (a := .null) (c := .null) hX k3 rfl p2 hlen ((pth_ r n s a c).length - 1) 1 (nI 0) (some (.int (nI a))) (some (.int (nI c))) (by omega) (by
      cases hq : pth_ r n s a c with
      | nil => rw [hq] at q1; cases q1
      | cons y v => rw [List.length_cons]; omega)
    have e0 : (pth_ r n s a c).drop (1 - 1) = pth_ r n s a c := rfl
    rw [e0] at hl
    refine ⟨σ1, _, ?_, hX, ⟨by omega, by omega, by omega⟩⟩
    rw [if_pos e, ← hl, D_run]
    simp (disch := first | assumption | omega | decide) only [b310_0, K310_0, b310_1, K310_1, l310, R_cons, go_nx, go_jp, go_rt, go_th, go_ca, go_no, go_ite, rr_v, rr_n, rr_x, hx_n, hx_p, hx_b, I_push, I_pushl, I_fc0, I_fc1, I_dc0, I_null, I_mask, I_iload, I_lload, I_dload, I_fload, I_aload, I_istore, I_lstore, I_dstore, I_fstore, I_astore, I_iinc, I_iadd, I_isub, I_imul, I_iand, I_ior, I_ixor, I_ishl, I_ishr, I_iushr, I_ineg, I_ladd, I_lsub, I_lmul, I_lxor, I_i2l, I_l2i, I_i2b, I_i2c, I_i2f, I_i2d, I_lcmp, I_fdiv, I_ddiv, I_f2d, I_dcmp, I_dup, I_pop, I_dup_x1, I_dup2, I_icne, I_iceq, I_iclt, I_icge, I_icgt, I_icle, I_ifnull, I_ifnonnull, I_ane, I_aeq, I_goto, I_lsw, I_iret, I_lret, I_fret, I_dret, I_vret, I_nret, I_aret, I_iald, I_bald, I_lald, I_aald, I_iast, I_bast, I_last, I_aast, I_alen, I_new, I_val, I_cast, I_inst, I_obj, I_throw, I_mkx, I_getf, I_putf, I_call, I_calli, I_callv, I_clone, I_getc, i_ifeq, i_ifne, i_iflt, i_ifge, i_ifgt, i_ifle, i_idiv, i_irem, i_newa, i_newo, i_abs, i_max, i_min, i_ldiv, en_, es_i, es_r, es_0, es_n, es_l, List.length_cons, List.length_nil, List.cons_append, List.nil_append, Nat.reduceAdd, Nat.reduceSub, List.replicate, lg_, st1_, st2_, cn_, nl_, mk_, pk_, kd_, sl_, la_, ft_a, ft_i, ft_l, ft_o, ft_n, ft_b0, ft_b1, ft_bI, nr_0, nr_1, nr_bI, ro_, no_, if_true, if_false, ite_true, ite_false, reduceIte, Nat.reduceMod, Nat.reduceEqDiff, Nat.zero_add, Nat.add_zero, lk_, lit_, nI_add, nI_mul, ix_nI, fgk_0, fgk_1, fgk_2, fgk_3, fgk_4, fgk_5, fgk_6, fgk_7, fgk_8, fgk_9, fgk_10, fgk_11, fgk_12, fgk_13, fsk_0, fsk_1, fsk_2, fsk_3, fsk_4, fsk_5, fsk_6, fsk_7, fsk_8, fsk_9, fsk_10, fsk_11, fsk_12, fsk_13, ca_i, ca_r, ca_n, Nat.reduceLT, true_or, or_true, if_true, false_or, or_false, and_true, true_and, List.mem_singleton, eq_self, c0, c5, nf_4, ix_nI, pa, pc, e, k1]
  · refine ⟨σ, N, ?_, h, Sz_rfl⟩
    have e' : ¬ nI (prt_ r n s a) = nI (prt_ r n s c) := by rw [nI_eq (by omega) (by omega)]; exact e
    rw [if_neg e, D_run]
    simp (disch := first | assumption | omega | decide) only [b310_0, K310_0, l310, R_cons, go_nx, go_jp, go_rt, go_th, go_ca, go_no, go_ite, rr_v, rr_n, rr_x, hx_n, hx_p, hx_b, I_push, I_pushl, I_fc0, I_fc1, I_dc0, I_null, I_mask, I_iload, I_lload, I_dload, I_fload, I_aload, I_istore, I_lstore, I_dstore, I_fstore, I_astore, I_iinc, I_iadd, I_isub, I_imul, I_iand, I_ior, I_ixor, I_ishl, I_ishr, I_iushr, I_ineg, I_ladd, I_lsub, I_lmul, I_lxor, I_i2l, I_l2i, I_i2b, I_i2c, I_i2f, I_i2d, I_lcmp, I_fdiv, I_ddiv, I_f2d, I_dcmp, I_dup, I_pop, I_dup_x1, I_dup2, I_icne, I_iceq, I_iclt, I_icge, I_icgt, I_icle, I_ifnull, I_ifnonnull, I_ane, I_aeq, I_goto, I_lsw, I_iret, I_lret, I_fret, I_dret, I_vret, I_nret, I_aret, I_iald, I_bald, I_lald, I_aald, I_iast, I_bast, I_last, I_aast, I_alen, I_new, I_val, I_cast, I_inst, I_obj, I_throw, I_mkx, I_getf, I_putf, I_call, I_calli, I_callv, I_clone, I_getc, i_ifeq, i_ifne, i_iflt, i_ifge, i_ifgt, i_ifle, i_idiv, i_irem, i_newa, i_newo, i_abs, i_max, i_min, i_ldiv, en_, es_i, es_r, es_0, es_n, es_l, List.length_cons, List.length_nil, List.cons_append, List.nil_append, Nat.reduceAdd, Nat.reduceSub, List.replicate, lg_, st1_, st2_, cn_, nl_, mk_, pk_, kd_, sl_, la_, ft_a, ft_i, ft_l, ft_o, ft_n, ft_b0, ft_b1, ft_bI, nr_0, nr_1, nr_bI, ro_, no_, if_true, if_false, ite_true, ite_false, reduceIte, Nat.reduceMod, Nat.reduceEqDiff, Nat.zero_add, Nat.add_zero, lk_, lit_, nI_add, nI_mul, ix_nI, fgk_0, fgk_1, fgk_2, fgk_3, fgk_4, fgk_5, fgk_6, fgk_7, fgk_8, fgk_9, fgk_10, fgk_11, fgk_12, fgk_13, fsk_0, fsk_1, fsk_2, fsk_3, fsk_4, fsk_5, fsk_6, fsk_7, fsk_8, fsk_9, fsk_10, fsk_11, fsk_12, fsk_13, ca_i, ca_r, ca_n, Nat.reduceLT, true_or, or_true, if_true, false_or, or_false, and_true, true_and, List.mem_singleton, eq_self, c0, c5, nf_4, ix_nI, pa, pc, e']
end CNS
