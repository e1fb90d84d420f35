/-! What is covered is near: the ranges that either side looks through hold all of it. -/
def posH (x : Int32) : Prop := -536870912 < x.toInt ∧ x.toInt < 536870912
/-- a shape's numbers -/
def shK (ar : Nat → Nat → Int32) (k : Nat) : Prop := (0 ≤ (ar 3 k).toInt ∧ (ar 3 k).toInt ≤ 60) ∧ (0 ≤ (ar 4 k).toInt ∧ (ar 4 k).toInt ≤ 60) ∧ (0 ≤ (ar 5 k).toInt ∧ (ar 5 k).toInt ≤ 20)
theorem cx_int : ∀ a, a < 64 → (4096 * (8 * (nI a - 32) + 4) : Int32).toInt = 4096 * (8 * ((a : Int) - 32) + 4) := by decide +kernel
theorem cx_bd {x : Int32} {a : Nat} (h : x.toInt = 4096 * (8 * ((a : Int) - 32) + 4)) (ha : a < 64) : -2097152 < x.toInt ∧ x.toInt < 2097152 := by omega
theorem dir_int : ∀ j, j < 64 → (-4096 ≤ (csN j).toInt ∧ (csN j).toInt ≤ 4096) ∧ (-4096 ≤ (csN ((j + 48) % 64)).toInt ∧ (csN ((j + 48) % 64)).toInt ≤ 4096) ∧
    4096 * (csN j).toInt.natAbs ≤ ((csN j).toInt * (csN j).toInt + (csN ((j + 48) % 64)).toInt * (csN ((j + 48) % 64)).toInt).natAbs ∧ 4096 * (csN ((j + 48) % 64)).toInt.natAbs ≤ ((csN j).toInt * (csN j).toInt + (csN ((j + 48) % 64)).toInt * (csN ((j + 48) % 64)).toInt).natAbs ∧
    0 < ((csN j).toInt * (csN j).toInt + (csN ((j + 48) % 64)).toInt * (csN ((j + 48) % 64)).toInt).natAbs := by decide +kernel
theorem and63_48 {h : Int32} {j : Nat} (hj : j < 64) (e : h &&& 63 = nI j) : (h + 48) &&& 63 = nI ((j + 48) % 64) := by
  have k63 : (63 : Int32).toBitVec.toNat = 2 ^ 6 - 1 := rfl
  have kj : (nI j).toBitVec.toNat = j := by
    show (BitVec.ofNat 32 j).toNat = j
    rw [BitVec.toNat_ofNat]; omega
  have e1 : (h &&& 63).toBitVec.toNat = (nI j).toBitVec.toNat := by rw [e]
  rw [Int32.toBitVec_and, BitVec.toNat_and, k63, Nat.and_two_pow_sub_one_eq_mod, kj] at e1
  apply Int32.toBitVec_inj.mp
  apply BitVec.eq_of_toNat_eq
  rw [Int32.toBitVec_and, BitVec.toNat_and, k63, Nat.and_two_pow_sub_one_eq_mod, Int32.toBitVec_add, BitVec.toNat_add]
  show ((h.toBitVec.toNat + 48) % 2 ^ 32) % 2 ^ 6 = (BitVec.ofNat 32 ((j + 48) % 64)).toNat
  rw [BitVec.toNat_ofNat]; omega
theorem dir_of (h : Int32) : (-4096 ≤ (p_dx h).toInt ∧ (p_dx h).toInt ≤ 4096) ∧ (-4096 ≤ (p_dy h).toInt ∧ (p_dy h).toInt ≤ 4096) ∧
    4096 * (p_dx h).toInt.natAbs ≤ ((p_dx h).toInt * (p_dx h).toInt + (p_dy h).toInt * (p_dy h).toInt).natAbs ∧ 4096 * (p_dy h).toInt.natAbs ≤ ((p_dx h).toInt * (p_dx h).toInt + (p_dy h).toInt * (p_dy h).toInt).natAbs ∧
    0 < ((p_dx h).toInt * (p_dx h).toInt + (p_dy h).toInt * (p_dy h).toInt).natAbs := by
  obtain ⟨j, hj, e⟩ := and63 h
  have e1 : p_dx h = csN j := dxN hj e
  have e2 : p_dy h = csN ((j + 48) % 64) := by unfold p_dy; exact dxN (Nat.mod_lt _ (by decide)) (and63_48 hj e)
  rw [e1, e2]
  exact dir_int j hj
