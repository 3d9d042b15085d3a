/-! floored quotients are floors; what pure readings can be -/
theorem i64_xor {x y : Int64} (hy : 0 < y.toInt) : (0 ≤ x ^^^ y) ↔ 0 ≤ x.toInt := by
  rw [Int64.le_iff_toInt_le]
  have e0 : (0 : Int64).toInt = 0 := by decide
  rw [e0]
  show 0 ≤ (x ^^^ y).toBitVec.toInt ↔ 0 ≤ x.toBitVec.toInt
  have hy' : 0 < y.toBitVec.toInt := hy
  have m1 : ∀ z : BitVec 64, (0 ≤ z.toInt) ↔ z.msb = false := fun z => by
    rw [BitVec.msb_eq_toInt]
    simp
  rw [m1, m1, Int64.toBitVec_xor, BitVec.msb_xor]
  have h2 : y.toBitVec.msb = false := (m1 _).mp (by omega)
  rw [h2, Bool.xor_false]
theorem i32_xor {x y : Int32} (hy : 0 < y.toInt) : (nI 0 ≤ x ^^^ y) ↔ 0 ≤ x.toInt := by
  rw [Int32.le_iff_toInt_le]
  have e0 : (nI 0).toInt = 0 := by decide
  rw [e0]
  show 0 ≤ (x ^^^ y).toBitVec.toInt ↔ 0 ≤ x.toBitVec.toInt
  have hy' : 0 < y.toBitVec.toInt := hy
  have m1 : ∀ z : BitVec 32, (0 ≤ z.toInt) ↔ z.msb = false := fun z => by
    rw [BitVec.msb_eq_toInt]
    simp
  rw [m1, m1, Int32.toBitVec_xor, BitVec.msb_xor]
  have h2 : y.toBitVec.msb = false := (m1 _).mp (by omega)
  rw [h2, Bool.xor_false]
theorem tmod_np {a b : Int} (h : a ≤ 0) : a.tmod b ≤ 0 := by
  have h1 : 0 ≤ (-a).tmod b := Int.tmod_nonneg b (by omega)
  rw [Int.neg_tmod] at h1
  omega
theorem td_neg {a b : Int} (hb : 0 < b) (ha : a < 0) : a / b = if a.tdiv b * b = a then a.tdiv b else a.tdiv b - 1 := by
  have h1 : a.tdiv b * b + a.tmod b = a := Int.tdiv_mul_add_tmod a b
  have h2 : -b < a.tmod b := by
    have := Int.lt_tmod_of_pos a hb
    omega
  have h3 : a.tmod b ≤ 0 := by
    have := tmod_np (b := b) (show a ≤ 0 by omega)
    exact this
  generalize a.tdiv b = q at h1 ⊢
  generalize a.tmod b = m at h1 h2 h3
  have e : ∀ q' m' : Int, q' * b + m' = a → 0 ≤ m' → m' < b → a / b = q' := fun q' m' e1 e2 e3 => by
    rw [← e1, Int.add_comm, Int.add_mul_ediv_right _ _ (by omega), Int.ediv_eq_zero_of_lt e2 e3]
    omega
  by_cases c : q * b = a
  · rw [if_pos c]
    exact e q 0 (by omega) (by omega) hb
  · rw [if_neg c]
    refine e (q - 1) (m + b) ?_ (by omega) (by omega)
    rw [Int.sub_mul]
    omega
theorem fdL_in {x y : Int64} (hx : -(2 ^ 62) ≤ x.toInt ∧ x.toInt ≤ 2 ^ 62) (hy : 0 < y.toInt) : (fdL x y).toInt = x.toInt / y.toInt := by
  have hxl := hx.1
  have hxh := hx.2
  have hyl := Int64.toInt_lt y
  have hd : (x / y).toInt = x.toInt.tdiv y.toInt := by
    rw [Int64.toInt_div]
    have h1 : (x.toInt.tdiv y.toInt).natAbs ≤ x.toInt.natAbs := by
      rw [Int.natAbs_tdiv]
      exact Nat.div_le_self _ _
    exact Int.bmod_eq_of_le (by omega) (by omega)
  unfold fdL
  by_cases c : 0 ≤ x ^^^ y
  · rw [if_pos c, hd, Int.tdiv_eq_ediv_of_nonneg ((i64_xor hy).mp c)]
  · have hneg : x.toInt < 0 := by
      have := mt (i64_xor hy).mpr c
      omega
    rw [if_neg c]
    have hm : (x / y * y = x) ↔ x.toInt.tdiv y.toInt * y.toInt = x.toInt := by
      rw [← Int64.toInt_inj, Int64.toInt_mul, hd]
      have h1 : x.toInt.tdiv y.toInt * y.toInt + x.toInt.tmod y.toInt = x.toInt := Int.tdiv_mul_add_tmod _ _
      have h2 := Int.lt_tmod_of_pos x.toInt hy
      have h3 := tmod_np (b := y.toInt) (show x.toInt ≤ 0 by omega)
      generalize x.toInt.tdiv y.toInt * y.toInt = z at h1 ⊢
      have hb : z.bmod (2 ^ 64) = z := Int.bmod_eq_of_le (by omega) (by omega)
      rw [hb]
    rw [td_neg hy hneg]
    by_cases c2 : x / y * y = x
    · rw [if_pos c2, if_pos (hm.mp c2), hd]
    · rw [if_neg c2, if_neg (fun q => c2 (hm.mpr q)), Int64.toInt_sub, hd]
      have e1 : (1 : Int64).toInt = 1 := by decide
      have h1 : (x.toInt.tdiv y.toInt).natAbs ≤ x.toInt.natAbs := by
        rw [Int.natAbs_tdiv]
        exact Nat.div_le_self _ _
      rw [e1]
      exact Int.bmod_eq_of_le (by omega) (by omega)
theorem fdI_in {x y : Int32} (hx : -(2 ^ 30) ≤ x.toInt ∧ x.toInt ≤ 2 ^ 30) (hy : 0 < y.toInt) : (fdI x y).toInt = x.toInt / y.toInt := by
  have hxl := hx.1
  have hxh := hx.2
  have hyl := Int32.toInt_lt y
  have hd : (x / y).toInt = x.toInt.tdiv y.toInt := by
    rw [Int32.toInt_div]
    have h1 : (x.toInt.tdiv y.toInt).natAbs ≤ x.toInt.natAbs := by
      rw [Int.natAbs_tdiv]
      exact Nat.div_le_self _ _
    exact Int.bmod_eq_of_le (by omega) (by omega)
  unfold fdI
  by_cases c : nI 0 ≤ x ^^^ y
  · rw [if_pos c, hd, Int.tdiv_eq_ediv_of_nonneg ((i32_xor hy).mp c)]
  · have hneg : x.toInt < 0 := by
      have := mt (i32_xor hy).mpr c
      omega
    rw [if_neg c]
    have hm : (x / y * y = x) ↔ x.toInt.tdiv y.toInt * y.toInt = x.toInt := by
      rw [← Int32.toInt_inj, Int32.toInt_mul, hd]
      have h1 : x.toInt.tdiv y.toInt * y.toInt + x.toInt.tmod y.toInt = x.toInt := Int.tdiv_mul_add_tmod _ _
      have h2 := Int.lt_tmod_of_pos x.toInt hy
      have h3 := tmod_np (b := y.toInt) (show x.toInt ≤ 0 by omega)
      generalize x.toInt.tdiv y.toInt * y.toInt = z at h1 ⊢
      have hb : z.bmod (2 ^ 32) = z := Int.bmod_eq_of_le (by omega) (by omega)
      rw [hb]
    rw [td_neg hy hneg]
    by_cases c2 : x / y * y = x
    · rw [if_pos c2, if_pos (hm.mp c2), hd]
    · rw [if_neg c2, if_neg (fun q => c2 (hm.mpr q)), Int32.toInt_sub, hd]
      have e1 : (nI 1).toInt = 1 := by decide
      have h1 : (x.toInt.tdiv y.toInt).natAbs ≤ x.toInt.natAbs := by
        rw [Int.natAbs_tdiv]
        exact Nat.div_le_self _ _
      rw [e1]
      exact Int.bmod_eq_of_le (by omega) (by omega)
/-- a quotient of bounded numbers is bounded -/
theorem dv_in {a b B : Int} (hb : 0 < b) (h1 : -(B * b) ≤ a) (h2 : a ≤ B * b) : -B ≤ a / b ∧ a / b ≤ B := by
  constructor
  · rw [Int.le_ediv_iff_mul_le hb, Int.neg_mul]
    exact h1
  · have := Int.ediv_le_ediv hb h2
    rw [Int.mul_ediv_cancel _ (by omega)] at this
    exact this
theorem l2i_in {x : Int64} (h : -(2 ^ 31) ≤ x.toInt ∧ x.toInt < 2 ^ 31) : x.toInt32.toInt = x.toInt := by
  rw [Int64.toInt_toInt32]
  exact Int.bmod_eq_of_le h.1 h.2
section FDV
variable {r : Nat → Int32} {n s : Nat}
theorem be_in {i : Nat} (hW : Wr_ r n s) (hi : i < s) : inr_ (be_ r i) 0 9900 := by
  obtain ⟨d, hd, e⟩ := di_nat hW (wr_fr hW hi).2 (wr_to hW hi).2
  have h3 := hW.2.2.2.2.2.1
  unfold inr_ at h3
  unfold be_
  rw [e]
  have hdd : (nI d).toInt64.toInt = d := by rw [Int32.toInt_toInt64, nI_toInt (by omega)]
  have h3d : (r 3).toInt64.toInt = (r 3).toInt := Int32.toInt_toInt64 _
  have d2 : (d : Int) * d ≤ 99999 * 99999 := Int.mul_le_mul (by omega) (by omega) (by omega) (by omega)
  have d0 : 0 ≤ (d : Int) * d := Int.mul_nonneg (by omega) (by omega)
  have p1 : ((r 3).toInt64 * (nI d).toInt64).toInt = (r 3).toInt * d := by
    rw [Int64.toInt_mul, h3d, hdd]
    have l1 : 0 ≤ (r 3).toInt * (d : Int) := Int.mul_nonneg h3.1 (by omega)
    have l2 : (r 3).toInt * (d : Int) ≤ 99 * 99999 := Int.mul_le_mul h3.2 (by omega) (by omega) (by omega)
    exact Int.bmod_eq_of_le (by omega) (by omega)
  have q0 : 0 ≤ (r 3).toInt * (d : Int) * d := Int.mul_nonneg (Int.mul_nonneg h3.1 (by omega)) (by omega)
  have q1 : (r 3).toInt * (d : Int) * d ≤ 99 * (99999 * 99999) := by
    rw [Int.mul_assoc]
    exact Int.mul_le_mul h3.2 d2 d0 (by omega)
  have p2 : ((r 3).toInt64 * (nI d).toInt64 * (nI d).toInt64).toInt = (r 3).toInt * d * d := by
    rw [Int64.toInt_mul, p1, hdd]
    exact Int.bmod_eq_of_le (by omega) (by omega)
  have c8 : (100000000 : Int64).toInt = 100000000 := by decide
  have p3 : ((r 3).toInt64 * (nI d).toInt64 * (nI d).toInt64 / 100000000).toInt = (r 3).toInt * d * d / 100000000 := by
    rw [Int64.toInt_div, p2, c8, Int.tdiv_eq_ediv_of_nonneg q0]
    exact Int.bmod_eq_of_le (by omega) (by omega)
  unfold inr_
  rw [l2i_in (by rw [p3]; omega), p3]
  omega
theorem wa_in {i : Nat} (hW : Wr_ r n s) (hi : i < s) : inr_ (wa_ r i) (-6000) 6000 := by
  obtain ⟨d, hd, e⟩ := di_nat hW (wr_fr hW hi).2 (wr_to hW hi).2
  have h4 := hW.2.2.2.2.2.2.1
  have hh := (wr_sb hW hi).2.2.1
  unfold inr_ at h4 hh
  unfold wa_
  rw [e]
  have hdd : (nI d).toInt64.toInt = d := by rw [Int32.toInt_toInt64, nI_toInt (by omega)]
  have h4d : (r 4).toInt64.toInt = (r 4).toInt := Int32.toInt_toInt64 _
  have hz : (r (68 + 6 * i + 4) - nI 20).toInt64.toInt = (r (68 + 6 * i + 4)).toInt - 20 := by
    rw [Int32.toInt_toInt64, Int32.toInt_sub, nI_toInt (by decide)]
    exact Int.bmod_eq_of_le (by omega) (by omega)
  generalize (r (68 + 6 * i + 4)).toInt = t at hh hz
  have p1 : ((r 4).toInt64 * (r (68 + 6 * i + 4) - nI 20).toInt64).toInt = (r 4).toInt * (t - 20) ∧ -5940 ≤ (r 4).toInt * (t - 20) ∧ (r 4).toInt * (t - 20) ≤ 5940 := by
    have l : ((r 4).toInt * (t - 20)).natAbs ≤ 99 * 60 := by
      rw [Int.natAbs_mul]
      exact Nat.mul_le_mul (by omega) (by omega)
    refine ⟨?_, by omega, by omega⟩
    rw [Int64.toInt_mul, h4d, hz]
    exact Int.bmod_eq_of_le (by omega) (by omega)
  obtain ⟨p1, p4, p5⟩ := p1
  generalize (r 4).toInt * (t - 20) = z at p1 p4 p5
  have l : (z * (d : Int)).natAbs ≤ 5940 * 99999 := by
    rw [Int.natAbs_mul]
    exact Nat.mul_le_mul (by omega) (by omega)
  have p2 : ((r 4).toInt64 * (r (68 + 6 * i + 4) - nI 20).toInt64 * (nI d).toInt64).toInt = z * d := by
    rw [Int64.toInt_mul, p1, hdd]
    exact Int.bmod_eq_of_le (by omega) (by omega)
  have c8 : (100000 : Int64).toInt = 100000 := by decide
  have p3 : (fdL ((r 4).toInt64 * (r (68 + 6 * i + 4) - nI 20).toInt64 * (nI d).toInt64) 100000).toInt = z * d / 100000 := by
    rw [fdL_in (by rw [p2]; omega) (by rw [c8]; decide), p2, c8]
  unfold inr_
  rw [l2i_in (by rw [p3]; omega), p3]
  omega
theorem pu_in {i : Nat} (hW : Wr_ r n s) (hi : i < s) : inr_ (pu_ r i) (-26000) 26000 := by
  have h1 := be_in hW hi
  have h2 := wa_in hW hi
  have h3 := (wr_sb hW hi).2.1
  unfold inr_ at h1 h2 h3
  unfold pu_ inr_
  rw [Int32.toInt_sub, Int32.toInt_sub]
  have e1 : ((r (68 + 6 * i + 3)).toInt - (be_ r i).toInt).bmod (2 ^ 32) = (r (68 + 6 * i + 3)).toInt - (be_ r i).toInt := Int.bmod_eq_of_le (by omega) (by omega)
  rw [e1, Int.bmod_eq_of_le (by omega) (by omega)]
  omega
end FDV
