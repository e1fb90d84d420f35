/-! The component's sweep: pure. -/
theorem i_div {a b : Int32} (h : ¬ (a.toInt = -2147483648 ∧ b.toInt = -1)) : (a / b).toInt = a.toInt.tdiv b.toInt := by
  rw [Int32.toInt_div]
  have h1 := a.toInt_lt
  have h2 := a.le_toInt
  have h3 := b.toInt_lt
  have h4 := b.le_toInt
  by_cases hb : b.toInt = 0
  · rw [hb, Int.tdiv_zero]; decide
  · have h5 : (a.toInt.tdiv b.toInt).natAbs ≤ a.toInt.natAbs := by rw [Int.natAbs_tdiv]; exact Nat.div_le_self _ _
    by_cases h6 : a.toInt.tdiv b.toInt = 2147483648
    · exfalso
      apply h
      have h7 : a.toInt = -2147483648 := by omega
      refine ⟨h7, ?_⟩
      have h8 := Int.natAbs_tdiv a.toInt b.toInt
      rw [h6, h7] at h8
      have h9 : (2147483648 : Nat) = 2147483648 / b.toInt.natAbs := h8
      have h10 : b.toInt.natAbs = 1 := by
        by_cases hz : b.toInt.natAbs = 0
        · omega
        · by_cases h1' : b.toInt.natAbs = 1
          · exact h1'
          · have := Nat.div_le_div_left (show 2 ≤ b.toInt.natAbs by omega) (show 0 < 2 by decide) (a := 2147483648)
            omega
      by_cases hs : b.toInt = 1
      · rw [hs, h7] at h6; exact absurd h6 (by decide)
      · omega
    · exact Int.bmod_eq_of_le (by omega) (by omega)
theorem tdiv_pos {a b : Int} (hb : 0 < b) : (0 ≤ a → a.tdiv b = a / b) ∧ (a < 0 → a.tdiv b = -((-a) / b)) := by
  refine ⟨fun h => Int.tdiv_eq_ediv_of_nonneg h, fun h => ?_⟩
  have : a = -(-a) := by omega
  rw [this, Int.neg_tdiv, Int.tdiv_eq_ediv_of_nonneg (by omega)]
  simp
theorem xor_neg {a b : Int32} (hb : 0 ≤ b.toInt) : (a ^^^ b < 0) ↔ a.toInt < 0 := by
  rw [Int32.lt_iff_toInt_lt]
  have e1 : ∀ x : Int32, x.toInt < 0 ↔ x.toBitVec.msb = true := fun x => by
    show x.toBitVec.toInt < 0 ↔ _
    rw [BitVec.msb_eq_toInt]
    simp
  show (a ^^^ b).toInt < (0 : Int32).toInt ↔ _
  rw [show (0 : Int32).toInt = 0 from rfl, e1, e1, Int32.toBitVec_xor, BitVec.msb_xor]
  have hb2 : b.toBitVec.msb = false := by
    cases hq : b.toBitVec.msb
    · rfl
    · have := (e1 b).mpr hq; omega
  rw [hb2, Bool.xor_false]
/-- floorDiv is division rounded down -/
theorem fd_toInt {a b : Int32} (hb : 0 < b.toInt) : (p_fd a b).toInt = a.toInt / b.toInt := by
  have h1 := a.toInt_lt
  have h2 := a.le_toInt
  have hd := i_div (a := a) (b := b) (by omega)
  have hq := tdiv_pos (a := a.toInt) hb
  have hm0 := Int.emod_nonneg a.toInt (show b.toInt ≠ 0 by omega)
  have hm1 := Int.emod_lt_of_pos a.toInt hb
  have hm2 := Int.mul_ediv_add_emod a.toInt b.toInt
  have hn0 := Int.emod_nonneg (-a.toInt) (show b.toInt ≠ 0 by omega)
  have hn1 := Int.emod_lt_of_pos (-a.toInt) hb
  have hn2 := Int.mul_ediv_add_emod (-a.toInt) b.toInt
  have hmul : (a / b * b).toInt = (a.toInt.tdiv b.toInt) * b.toInt := by
    rw [← hd]
    by_cases h0 : 0 ≤ a.toInt
    · have e := hq.1 h0
      rw [← hd] at e
      have : (a / b).toInt * b.toInt = b.toInt * (a.toInt / b.toInt) := by rw [e, Int.mul_comm]
      exact i_mul (by rw [this]; have := Int.ediv_nonneg h0 (Int.le_of_lt hb); have := Int.mul_nonneg (Int.le_of_lt hb) this; omega) (by rw [this]; omega)
    · have e := hq.2 (by omega)
      rw [← hd] at e
      have : (a / b).toInt * b.toInt = -(b.toInt * (-a.toInt / b.toInt)) := by rw [e, Int.neg_mul, Int.mul_comm]
      exact i_mul (by rw [this]; omega) (by rw [this]; have := Int.ediv_nonneg (show 0 ≤ -a.toInt by omega) (Int.le_of_lt hb); have := Int.mul_nonneg (Int.le_of_lt hb) this; omega)
  have hxn := xor_neg (a := a) (b := b) (by omega)
  unfold p_fd
  by_cases h0 : 0 ≤ a.toInt
  · rw [if_neg (fun z => absurd (hxn.mp z.1) (by omega)), hd, hq.1 h0]
  · have e := hq.2 (by omega)
    by_cases hx : a / b * b = a
    · rw [if_neg (fun z => z.2 hx), hd]
      have h3 := congrArg Int32.toInt hx
      rw [hmul] at h3
      rw [← h3, Int.mul_ediv_cancel _ (by omega)]
      rw [h3]
    · rw [if_pos ⟨hxn.mpr (by omega), hx⟩]
      have h3 : ¬ (a.toInt.tdiv b.toInt) * b.toInt = a.toInt := fun z => hx (Int32.toInt_inj.mp (hmul.trans z))
      have h5 : 0 ≤ -a.toInt / b.toInt := Int.ediv_nonneg (by omega) (Int.le_of_lt hb)
      have h6 : -a.toInt / b.toInt ≤ -a.toInt := Int.ediv_le_self _ (by omega)
      rw [e] at h3
      have h7 : -a.toInt % b.toInt ≠ 0 := by
        intro z
        apply h3
        rw [Int.neg_mul, Int.mul_comm]
        omega
      have h8 := Int.mul_le_mul_of_nonneg_right (show 1 ≤ b.toInt by omega) h5
      rw [Int.one_mul] at h8
      rw [i_sub (by rw [hd, e]; simp only [Int32.reduceToInt]; omega) (by rw [hd, e]; simp only [Int32.reduceToInt]; omega), hd, e]
      simp only [Int32.reduceToInt]
      symm
      rw [Int.ediv_eq_iff_of_pos hb] <;> skip
      have e9 : (-(-a.toInt / b.toInt) - 1) * b.toInt = -(b.toInt * (-a.toInt / b.toInt)) - b.toInt := by
        rw [Int.sub_mul, Int.neg_mul, Int.mul_comm, Int.one_mul]
      omega
theorem fd8_lt (a : Int32) : (p_fd a 8).toInt ≤ 268435456 := by
  have h1 := a.toInt_lt
  rw [fd_toInt (by decide)]
  simp only [Int32.reduceToInt]
  omega
/-- the lower end of a range -/
theorem mx_nat {v : Int32} (h : v.toInt ≤ 268435456) : ∃ a, a < 2 ^ 29 ∧ p_max v (-32) = zs a := by
  unfold p_max
  split
  · exact ⟨0, by decide, rfl⟩
  · rename_i h1
    have h3 : ¬ v + 32 < 0 := by
      simp only [Int32.lt_iff_toInt_lt, Int32.reduceToInt] at h1 ⊢
      rw [i_add (by simp only [Int32.reduceToInt]; omega) (by simp only [Int32.reduceToInt]; omega)]
      simp only [Int32.reduceToInt]; omega
    obtain ⟨j, hj, e⟩ := nI_of h3
    refine ⟨j, ?_, ?_⟩
    · have h4 := congrArg Int32.toInt e
      rw [nI_toInt hj] at h4
      simp only [Int32.lt_iff_toInt_lt, Int32.reduceToInt] at h1
      rw [i_add (by simp only [Int32.reduceToInt]; omega) (by simp only [Int32.reduceToInt]; omega)] at h4
      simp only [Int32.reduceToInt] at h4; omega
    · unfold zs
      rw [← e, Int32.sub_eq_add_neg, Int32.add_assoc]
      show v = v + 0
      rw [Int32.add_zero]
/-- its upper end, and no further -/
def mnE (v : Int32) : Nat := ((p_min v 31).toInt + 33).toNat
theorem mnE_le (v : Int32) : mnE v ≤ 64 := by
  unfold mnE p_min
  split
  · decide
  · rename_i h
    simp only [Int32.lt_iff_toInt_lt, Int32.reduceToInt] at h
    omega
theorem mnE_lt {v : Int32} {a : Nat} (ha : a < 2 ^ 30) : p_min v 31 < zs a ↔ mnE v ≤ a := by
  rw [Int32.lt_iff_toInt_lt, zs_toInt ha]; unfold mnE; omega
theorem mx_le {v : Int32} {a t : Nat} (ha : a < 2 ^ 29) (e : p_max v (-32) = zs a) (ht : t < 2 ^ 29) (h : v ≤ zs t) : a ≤ t := by
  have h1 : p_max v (-32) ≤ zs t := by
    unfold p_max
    split
    · rw [Int32.le_iff_toInt_le, zs_toInt (by omega)]; simp only [Int32.reduceToInt]; omega
    · exact h
  rw [e, zs_le (by omega) (by omega)] at h1
  exact h1
theorem mn_lt {v : Int32} {t : Nat} (ht : t < 64) (h : zs t ≤ v) : t < mnE v := by
  refine Nat.not_le.mp (fun z => ?_)
  have h1 := (mnE_lt (v := v) (a := t) (by omega)).mpr z
  rw [Int32.lt_iff_toInt_lt] at h1
  unfold p_min at h1
  rw [Int32.le_iff_toInt_le] at h
  split at h1
  · rw [zs_toInt (by omega)] at h1; simp only [Int32.reduceToInt] at h1; omega
  · omega
def rchC (ar : Nat → Nat → Int32) (k : Nat) : Int32 := p_max (ar 3 k) (ar 4 k) + ar 5 k + 2
/-- body k's cells that are covered lie in the component's range -/
def rgC (ar : Nat → Nat → Int32) (k : Nat) : Prop := ∀ t, t < 4096 → cvB ar k (cX t) (cY t) = 1 →
  p_fd (p_fd (ar 12 k) 4096 - rchC ar k) 8 ≤ zs (t / 64) ∧ zs (t / 64) ≤ p_fd (p_fd (ar 12 k) 4096 + rchC ar k) 8 + 1 ∧ p_fd (p_fd (ar 13 k) 4096 - rchC ar k) 8 ≤ zs (t % 64) ∧ zs (t % 64) ≤ p_fd (p_fd (ar 13 k) 4096 + rchC ar k) 8 + 1
/-- the cells that the component looks at, covered -/
def swP (ar : Nat → Nat → Int32) (k aF aE bF bE t : Nat) : Prop := (aF ≤ t / 64 ∧ t / 64 < aE ∧ bF ≤ t % 64 ∧ t % 64 < bE) ∧ cvB ar k (cX t) (cY t) = 1
theorem sw_all {t : Nat} (h : t < 4096) : swR 0 63 0 63 t := ⟨by omega, by omega, by omega, by omega⟩
theorem cM (z : Int32) : (8 * z + 4) * 4096 = 4096 * (8 * z + 4) := Int32.mul_comm _ _
