theorem mul_bd {a b : Int} {A B : Nat} (ha : a.natAbs ≤ A) (hb : b.natAbs ≤ B) : (a * b).natAbs ≤ A * B := by
  rw [Int.natAbs_mul]; exact Nat.mul_le_mul ha hb
theorem geo1 {U C S P Q : Int} {M A D : Nat} (hU : U * (C * C + S * S) = C * P + S * Q) (hP : P.natAbs ≤ M * 16777216) (hQ : Q.natAbs ≤ A * 16777216) (hD : D = (C * C + S * S).natAbs) (d1 : 4096 * C.natAbs ≤ D) (d2 : 4096 * S.natAbs ≤ D) (d0 : 0 < D) : U.natAbs ≤ 4096 * (M + A) := by
  have n1 : U.natAbs * D ≤ C.natAbs * (M * 16777216) + S.natAbs * (A * 16777216) := by
    rw [hD, ← Int.natAbs_mul, hU]
    refine Nat.le_trans (Int.natAbs_add_le _ _) ?_
    rw [Int.natAbs_mul, Int.natAbs_mul]
    exact Nat.add_le_add (Nat.mul_le_mul_left _ hP) (Nat.mul_le_mul_left _ hQ)
  have n2 : C.natAbs * (M * 16777216) ≤ D * (4096 * M) := by
    have h1 := Nat.mul_le_mul_right (4096 * M) d1
    have e1 := Nat.mul_mul_mul_comm 4096 C.natAbs 4096 M
    have e2 := Nat.mul_assoc C.natAbs M 16777216
    omega
  have n3 : S.natAbs * (A * 16777216) ≤ D * (4096 * A) := by
    have h1 := Nat.mul_le_mul_right (4096 * A) d2
    have e1 := Nat.mul_mul_mul_comm 4096 S.natAbs 4096 A
    have e2 := Nat.mul_assoc S.natAbs A 16777216
    omega
  have e3 : D * (4096 * M) + D * (4096 * A) = (4096 * (M + A)) * D := by
    rw [← Nat.mul_add, Nat.mul_comm]; congr 1; omega
  exact Nat.le_of_mul_le_mul_right (Nat.le_trans n1 (Nat.le_trans (Nat.add_le_add n2 n3) (Nat.le_of_eq e3))) d0
theorem geo_u (U V C S : Int) : U * (C * C + S * S) = C * (U * C + V * S) + S * (U * S - V * C) := by
  simp only [Int.mul_add, Int.mul_sub, Int.mul_comm, Int.mul_left_comm, Int.mul_assoc]; omega
theorem geo_v (U V C S : Int) : V * (C * C + S * S) = C * (V * C - U * S) + S * (U * C + V * S) := by
  simp only [Int.mul_add, Int.mul_sub, Int.mul_comm, Int.mul_left_comm, Int.mul_assoc]; omega
