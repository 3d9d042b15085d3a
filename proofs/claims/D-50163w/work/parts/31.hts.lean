/-! rows that differ in heights alone -/
def hs_ (r r' : Nat → Int32) : Prop := ∀ i, (i < 8 ∨ 68 ≤ i ∨ (i - 8) % 5 < 3) → r' i = r i
section HS
variable {r r' : Nat → Int32} (h : hs_ r r')
theorem hs_di (h : hs_ r r') : di_ r' = di_ r := by
  funext a b
  unfold di_
  rw [h _ (by omega), h _ (by omega)]
theorem hs_sw (h : hs_ r r') : sw_ r' = sw_ r := by
  funext a b
  unfold sw_
  rw [hs_di h, h 2 (by omega)]
theorem hs_od (h : hs_ r r') : od_ r' = od_ r := by
  funext a b
  unfold od_
  rw [hs_sw h]
theorem hs_fr (h : hs_ r r') : fr_ r' = fr_ r := by
  funext i
  unfold fr_
  rw [h _ (by omega)]
theorem hs_to (h : hs_ r r') : to_ r' = to_ r := by
  funext i
  unfold to_
  rw [h _ (by omega)]
theorem hs_be (h : hs_ r r') : be_ r' = be_ r := by
  funext i
  unfold be_
  rw [hs_di h, hs_fr h, hs_to h, h 3 (by omega)]
theorem hs_wa (h : hs_ r r') : wa_ r' = wa_ r := by
  funext i
  unfold wa_
  rw [hs_di h, hs_fr h, hs_to h, h 4 (by omega), h (68 + 6 * i + 4) (by omega)]
theorem hs_pu (h : hs_ r r') : pu_ r' = pu_ r := by
  funext i
  unfold pu_
  rw [hs_be h, hs_wa h, h (68 + 6 * i + 3) (by omega)]
theorem hs_pas (h : hs_ r r') : pas_ r' = pas_ r := by
  funext i
  unfold pas_
  rw [hs_fr h, hs_to h]
theorem hs_ri (h : hs_ r r') : ri_ r' = ri_ r := by
  funext e i
  unfold ri_
  rw [hs_pu h, hs_od h, hs_fr h, hs_to h, h (68 + 6 * i + 2) (by omega)]
theorem hs_es1 (h : hs_ r r') : es1_ r' = es1_ r := by
  funext p i x
  unfold es1_
  rw [hs_pas h, hs_fr h, hs_to h, hs_pu h, h (68 + 6 * i + 5) (by omega), h (68 + 6 * i + 2) (by omega)]
theorem hs_est (h : hs_ r r') : est_ r' = est_ r := by
  funext s a b
  unfold est_ esf_
  rw [hs_od h, hs_es1 h]
theorem hs_fnd (h : hs_ r r') : fnd_ r' = fnd_ r := by
  have e1 : fdb_ r' = fdb_ r := by funext s a b l; unfold fdb_; rw [hs_est h]
  have e2 : fda_ r' = fda_ r := by funext s n a l; unfold fda_; rw [e1]
  have e3 : fdl_ r' = fdl_ r := by funext n s; unfold fdl_; rw [e2]
  funext n s
  unfold fnd_
  rw [e3]
theorem hs_err (h : hs_ r r') : err_ r' = err_ r := by
  funext n s
  unfold err_
  rw [hs_fnd h, h 6 (by omega), h 7 (by omega)]
theorem hs_ct (h : hs_ r r') : ct_ r' = ct_ r := by
  have e1 : ctp_ r' = ctp_ r := by funext p i c; unfold ctp_; rw [hs_pas h, h (68 + 6 * i + 5) (by omega)]
  funext s p
  unfold ct_
  rw [e1]
theorem hs_su (h : hs_ r r') : su_ r' = su_ r := by
  have e1 : sup_ r' = sup_ r := by funext e p i x; unfold sup_; rw [hs_pas h, hs_fr h, hs_to h, hs_ri h, h (68 + 6 * i + 5) (by omega)]
  funext e s p
  unfold su_
  rw [e1]
theorem hs_upv (h : hs_ r r') : upv_ r' = upv_ r := by
  funext e s p
  unfold upv_
  rw [hs_ct h, hs_su h]
theorem hs_rf (h : hs_ r r') : rf_ r' = rf_ r := by
  funext e s a b
  unfold rf_
  rw [hs_upv h]
theorem hs_nxe (h : hs_ r r') : nxe_ r' = nxe_ r := by
  have e1 : nx1_ r' = nx1_ r := by funext s pt a b k; unfold nx1_; rw [hs_ct h, hs_di h]
  have e2 : nx2_ r' = nx2_ r := by funext n s pt a k; unfold nx2_; rw [e1]
  funext n s pt
  unfold nxe_
  rw [e2]
theorem hs_kr (h : hs_ r r') : ∀ (n s f : Nat) (x : (Nat → Nat) × (Nat → Bool)), kr_ r' n s f x = kr_ r n s f x := by
  intro n s f
  induction f with
  | zero => intro x; rfl
  | succ f ih =>
    intro x
    unfold kr_
    rw [hs_nxe h]
    cases nxe_ r n s x.1 with
    | none => rfl
    | some e => exact ih _
theorem hs_prt (h : hs_ r r') : prt_ r' = prt_ r := by
  funext n s
  unfold prt_
  rw [hs_kr h]
theorem hs_tkn (h : hs_ r r') : tkn_ r' = tkn_ r := by
  funext n s
  unfold tkn_
  rw [hs_kr h]
theorem hs_lps (h : hs_ r r') : lps_ r' = lps_ r := by
  funext n s
  unfold lps_
  rw [hs_ct h, hs_tkn h]
theorem hs_Wr {n s : Nat} (h : hs_ r r') (hW : Wr_ r n s) (hb : ∀ a, a < n → bit_ (r' (8 + 5 * a + 3)) ∧ (r' (8 + 5 * a + 2) = nI 1 → r' (8 + 5 * a + 3) = nI 1)) : Wr_ r' n s := by
  obtain ⟨h1, h2, h3, h4, h5, h6, h7, h8, h9, h10, h11, h12, h13⟩ := hW
  refine ⟨h1, h2, by rw [h 0 (by omega)]; exact h3, by rw [h 1 (by omega)]; exact h4, by rw [h 2 (by omega)]; exact h5, by rw [h 3 (by omega)]; exact h6, by rw [h 4 (by omega)]; exact h7, by rw [h 5 (by omega)]; exact h8, by rw [h 6 (by omega)]; exact h9, by rw [h 7 (by omega)]; exact h10, ?_, ?_, ?_⟩
  · intro a ha
    have := h11 a ha
    rw [h (8 + 5 * a) (by omega), h (8 + 5 * a + 1) (by omega)]
    refine ⟨this.1, this.2.1, ?_, (hb a ha).1, (hb a ha).2⟩
    rw [h (8 + 5 * a + 2) (by omega)]
    exact this.2.2.1
  · intro a ha b hb hab
    rw [h (8 + 5 * a) (by omega), h (8 + 5 * a + 1) (by omega), h (8 + 5 * b) (by omega), h (8 + 5 * b + 1) (by omega)]
    exact h12 a ha b hb hab
  · intro i hi
    rw [h (68 + 6 * i) (by omega), h (68 + 6 * i + 1) (by omega), h (68 + 6 * i + 2) (by omega), h (68 + 6 * i + 3) (by omega), h (68 + 6 * i + 4) (by omega), h (68 + 6 * i + 5) (by omega)]
    exact h13 i hi
theorem hs_Ed {M : Nat → Nat → Int32} {n s : Nat} {e : Int32} (h : hs_ (M 1) r') (hE : Ed_ M n s e) : Ed_ (um M 1 r') n s e := by
  obtain ⟨h1, h2, h3, h4⟩ := hE
  refine ⟨h1, fun k hk => ?_, fun k hk => ?_, fun k hk hc => ?_⟩
  · show M 11 k = nI (ct_ r' s k)
    rw [hs_ct h]; exact h2 k hk
  · show M 12 k = upv_ r' e s k
    rw [hs_upv h]; exact h3 k hk
  · have hc : ¬ ct_ r' s k = 0 := hc
    show M 13 k = nI (ct_ r' s k) * (nI 1000000 / di_ r' (k / 12) (k % 12))
    rw [hs_ct h] at hc ⊢
    rw [hs_di h]; exact h4 k hk hc
theorem hs_Kn {M : Nat → Nat → Int32} {n s : Nat} (h : hs_ (M 1) r') (hK : Kn_ M n s) : Kn_ (um M 1 r') n s := by
  obtain ⟨h1, h2, h3⟩ := hK
  refine ⟨?_, fun k hk => ?_, fun k hk => ?_⟩
  · show Ed_ (um M 1 r') n s (err_ r' n s)
    rw [hs_err h]; exact hs_Ed h h1
  · show M 15 k = nI (prt_ r' n s k)
    rw [hs_prt h]; exact h2 k hk
  · show M 14 k = bI (tkn_ r' n s k = true)
    rw [hs_tkn h]; exact h3 k hk
end HS
