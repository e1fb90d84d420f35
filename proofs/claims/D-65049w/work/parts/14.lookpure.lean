/-! Whole numbers behind Int32 and Int64, where nothing runs over. -/
theorem i_add {a b : Int32} (h1 : -2147483648 ≤ a.toInt + b.toInt) (h2 : a.toInt + b.toInt < 2147483648) : (a + b).toInt = a.toInt + b.toInt := by
  rw [Int32.toInt_add]; exact Int.bmod_eq_of_le (by omega) (by omega)
theorem i_sub {a b : Int32} (h1 : -2147483648 ≤ a.toInt - b.toInt) (h2 : a.toInt - b.toInt < 2147483648) : (a - b).toInt = a.toInt - b.toInt := by
  rw [Int32.toInt_sub]; exact Int.bmod_eq_of_le (by omega) (by omega)
theorem i_mul {a b : Int32} (h1 : -2147483648 ≤ a.toInt * b.toInt) (h2 : a.toInt * b.toInt < 2147483648) : (a * b).toInt = a.toInt * b.toInt := by
  rw [Int32.toInt_mul]; exact Int.bmod_eq_of_le (by omega) (by omega)
theorem i_neg {a : Int32} (h1 : -2147483648 < a.toInt) : (-a).toInt = -a.toInt := by
  have := a.toInt_lt
  rw [Int32.toInt_neg]; exact Int.bmod_eq_of_le (by omega) (by omega)
theorem l_add {a b : Int64} (h1 : -9223372036854775808 ≤ a.toInt + b.toInt) (h2 : a.toInt + b.toInt < 9223372036854775808) : (a + b).toInt = a.toInt + b.toInt := by
  rw [Int64.toInt_add]; exact Int.bmod_eq_of_le (by omega) (by omega)
theorem l_sub {a b : Int64} (h1 : -9223372036854775808 ≤ a.toInt - b.toInt) (h2 : a.toInt - b.toInt < 9223372036854775808) : (a - b).toInt = a.toInt - b.toInt := by
  rw [Int64.toInt_sub]; exact Int.bmod_eq_of_le (by omega) (by omega)
theorem l_mul {a b : Int64} (h1 : -9223372036854775808 ≤ a.toInt * b.toInt) (h2 : a.toInt * b.toInt < 9223372036854775808) : (a * b).toInt = a.toInt * b.toInt := by
  rw [Int64.toInt_mul]; exact Int.bmod_eq_of_le (by omega) (by omega)
/-! Pure rows for the twin's look. -/
def zs (a : Nat) : Int32 := nI a - 32
theorem zs_inc (a : Nat) : zs a + 1 = zs (a + 1) := by
  unfold zs
  rw [← nI_1, Int32.sub_eq_add_neg, Int32.sub_eq_add_neg, Int32.add_assoc, Int32.add_assoc, Int32.add_comm (-32) 1]
theorem zs_toInt {a : Nat} (h : a < 2 ^ 30) : (zs a).toInt = (a : Int) - 32 := pk_sub_toInt (b := 32) h (by decide)
theorem zs_lt {a b : Nat} (ha : a < 2 ^ 30) (hb : b < 2 ^ 30) : zs a < zs b ↔ a < b := by
  rw [Int32.lt_iff_toInt_lt, zs_toInt ha, zs_toInt hb]; omega
theorem zs_le {a b : Nat} (ha : a < 2 ^ 30) (hb : b < 2 ^ 30) : zs a ≤ zs b ↔ a ≤ b := by
  rw [Int32.le_iff_toInt_le, zs_toInt ha, zs_toInt hb]; omega
theorem zs_32 (a : Nat) : zs a + 32 = nI a := by
  unfold zs
  rw [Int32.sub_eq_add_neg, Int32.add_assoc]
  show nI a + 0 = nI a
  rw [Int32.add_zero]
theorem zs_at (a b : Nat) : ((64 * (zs a + 32)) + zs b) + 32 = nI (64 * a + b) := by
  rw [zs_32, Int32.add_assoc, zs_32, show (64 : Int32) = nI 64 from rfl, pk_mul, nI_add]
theorem wi_nat (v : Int32) : ∃ a, a ≤ 63 ∧ p_wi v = zs a := by
  unfold p_wi
  split
  · exact ⟨0, by decide, rfl⟩
  · split
    · exact ⟨63, by decide, rfl⟩
    · rename_i h1 h2
      have h3 : ¬ v + 32 < 0 := by
        simp only [Int32.lt_iff_toInt_lt, Int32.reduceToInt] at h1 h2 ⊢
        rw [i_add (by simp only [Int32.reduceToInt]; omega) (by simp only [Int32.reduceToInt]; omega)]
        simp only [Int32.reduceToInt]; omega
      obtain ⟨j, hj, e⟩ := nI_of h3
      refine ⟨j, ?_, ?_⟩
      · have h4 := congrArg Int32.toInt e
        rw [nI_toInt hj] at h4
        simp only [Int32.lt_iff_toInt_lt, Int32.reduceToInt] at h1 h2
        rw [i_add (by simp only [Int32.reduceToInt]; omega) (by simp only [Int32.reduceToInt]; omega)] at h4
        simp only [Int32.reduceToInt] at h4; omega
      · unfold zs
        rw [← e, Int32.sub_eq_add_neg, Int32.add_assoc]
        show v = v + 0
        rw [Int32.add_zero]
