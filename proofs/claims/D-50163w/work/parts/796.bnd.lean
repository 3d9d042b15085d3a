/-! bounds: the error, the rises -/
section BND
variable {n s : Nat} {r : Nat → Int32}
theorem i32_sub {a b : Int32} (h : -(2 ^ 31) ≤ a.toInt - b.toInt ∧ a.toInt - b.toInt < 2 ^ 31) : (a - b).toInt = a.toInt - b.toInt := by
  rw [Int32.toInt_sub, Int.bmod_eq_of_le (by omega) (by omega)]
theorem i32_add {a b : Int32} (h : -(2 ^ 31) ≤ a.toInt + b.toInt ∧ a.toInt + b.toInt < 2 ^ 31) : (a + b).toInt = a.toInt + b.toInt := by
  rw [Int32.toInt_add, Int.bmod_eq_of_le (by omega) (by omega)]
theorem i32_neg {a : Int32} (h : -(2 ^ 31) < a.toInt) : (-a).toInt = -a.toInt := by
  have := Int32.toInt_lt a
  rw [Int32.toInt_neg, Int.bmod_eq_of_le (by omega) (by omega)]
theorem fdl_in (hW : Wr_ r n s) : ∀ z ∈ fdl_ r n s, inr_ z (-26001) 26000 := by
  have hb : ∀ a, a < n → ∀ (d b : Nat) (l : List Int32), a < b → b + d = n → (∀ z ∈ l, inr_ z (-26001) 26000) → ∀ z ∈ fo_ (fdb_ r s a) d b l, inr_ z (-26001) 26000 := by
    intro a ha d
    induction d with
    | zero => intro b l hab hbd h; exact h
    | succ d ih =>
      intro b l hab hbd h
      rw [fo_]
      refine ih (b + 1) _ (by omega) (by omega) ?_
      unfold fdb_
      rcases est_in hW hab (show b < n by omega) with q | q
      · rw [if_pos q]; exact h
      · split
        · exact h
        · intro z hz
          rcases ins_mem.mp hz with e | e
          · rw [e]; exact q
          · exact h z e
  have ha : ∀ (d a : Nat) (l : List Int32), a + d = n → (∀ z ∈ l, inr_ z (-26001) 26000) → ∀ z ∈ fo_ (fda_ r s n) d a l, inr_ z (-26001) 26000 := by
    intro d
    induction d with
    | zero => intro a l had h; exact h
    | succ d ih =>
      intro a l had h
      rw [fo_]
      exact ih (a + 1) _ (by omega) (hb a (by omega) (n - (a + 1)) (a + 1) l (by omega) (by omega) h)
  exact ha n 0 [] (by omega) (fun z hz => absurd hz List.not_mem_nil)
theorem fnd_in (hW : Wr_ r n s) : inr_ (fnd_ r n s) (-26001) 26000 := by
  unfold fnd_
  generalize ((fdl_ r n s).length - 1) / 2 = i
  rw [List.getD_eq_getElem?_getD]
  cases h : (fdl_ r n s)[i]? with
  | none => unfold inr_; decide
  | some z => exact fdl_in hW z (List.mem_of_getElem? h)
theorem er_in (hW : Wr_ r n s) : inr_ (err_ r n s) (-26001) 26000 := by
  have h7 := hW.2.2.2.2.2.2.2.2.2.1
  unfold err_
  split
  · unfold inr_ at h7 ⊢; omega
  · exact fnd_in hW
theorem ri_in {i : Nat} {e : Int32} (hW : Wr_ r n s) (hi : i < s) (he : inr_ e (-26001) 26000) : inr_ (ri_ r e i) (-52001) 52001 := by
  have h1 := pu_in hW hi
  unfold inr_ at h1 he
  unfold ri_ inr_
  have hn : (-e).toInt = -e.toInt := i32_neg (by omega)
  have h0 : (nI 0).toInt = 0 := by decide
  split
  · split
    · rw [i32_sub (by omega)]; omega
    · rw [i32_sub (by omega), hn]; omega
  · rw [i32_sub (by omega), h0]; omega
theorem su_in {e : Int32} {p : Nat} (hW : Wr_ r n s) (he : inr_ e (-26001) 26000) : ∀ (d i c : Nat) (x : Int32), i + d = s → -(52001 * (c : Int)) ≤ x.toInt ∧ x.toInt ≤ 52001 * (c : Int) → c ≤ i → -(52001 * ((fo_ (ctp_ r p) d i c : Nat) : Int)) ≤ (fo_ (sup_ r e p) d i x).toInt ∧ (fo_ (sup_ r e p) d i x).toInt ≤ 52001 * ((fo_ (ctp_ r p) d i c : Nat) : Int) := by
  have h40 := wr_s40 hW
  intro d
  induction d with
  | zero => intro i c x hi hx hc; exact hx
  | succ d ih =>
    intro i c x hi hx hc
    rw [fo_, fo_]
    have hr := ri_in hW (show i < s by omega) he
    unfold inr_ at hr
    by_cases q : r (68 + 6 * i + 5) = nI 0 ∧ pas_ r i = p
    · have e1 : ctp_ r p i c = c + 1 := if_pos q
      have e2 : sup_ r e p i x = x + (if fr_ r i < to_ r i then ri_ r e i else -ri_ r e i) := if_pos q
      rw [e1, e2]
      refine ih (i + 1) (c + 1) _ (by omega) ?_ (by omega)
      have hn : (-ri_ r e i).toInt = -(ri_ r e i).toInt := i32_neg (by omega)
      split
      · rw [i32_add (by omega)]; omega
      · rw [i32_add (by omega), hn]; omega
    · have e1 : ctp_ r p i c = c := if_neg q
      have e2 : sup_ r e p i x = x := if_neg q
      rw [e1, e2]
      exact ih (i + 1) c x (by omega) hx (by omega)
theorem up_in {e : Int32} {p : Nat} (hW : Wr_ r n s) (he : inr_ e (-26001) 26000) : inr_ (upv_ r e s p) (-52001) 52001 := by
  have h := su_in (p := p) hW he s 0 0 (nI 0) (by omega) ⟨by decide, by decide⟩ (Nat.le_refl _)
  have h40 := ct_40 hW p
  unfold upv_
  split
  · unfold inr_; decide
  · next hc =>
    have e1 : fo_ (ctp_ r p) s 0 0 = ct_ r s p := rfl
    have e2 : fo_ (sup_ r e p) s 0 (nI 0) = su_ r e s p := rfl
    rw [e1, e2] at h
    have hcn : (nI (ct_ r s p)).toInt = (ct_ r s p : Int) := nI_toInt (by omega)
    unfold inr_
    rw [fdI_in (by omega) (by omega), hcn]
    have := dv_in (a := (su_ r e s p).toInt) (b := (ct_ r s p : Int)) (B := 52001) (by omega) (by omega) (by omega)
    omega
theorem rf_in {e : Int32} {a b : Nat} (hW : Wr_ r n s) (he : inr_ e (-26001) 26000) : inr_ (rf_ r e s a b) (-52001) 52001 := by
  have h := up_in (p := pa_ a b) hW he
  unfold inr_ at h
  unfold rf_ inr_
  split
  · omega
  · rw [i32_neg (by omega)]; omega
/-- heights within their bounds -/
def Hb_ (r : Nat → Int32) (n : Nat) : Prop := ∀ k, k < n → r (8 + 5 * k + 3) = nI 1 → -10000000 < (r (8 + 5 * k + 4)).toInt ∧ (r (8 + 5 * k + 4)).toInt < 10000000
theorem Hb_ok (h : Hb_ r n) : Hok_ r n := fun k hk h1 q => by
  have := h k hk h1
  rw [q] at this
  have e : (NOH).toInt = -10000000 := by decide
  omega
end BND
