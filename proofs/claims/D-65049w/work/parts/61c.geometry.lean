theorem mul_bi {a b A B : Int} (ha : -A ≤ a ∧ a ≤ A) (hb : -B ≤ b ∧ b ≤ B) : -(A * B) ≤ a * b ∧ a * b ≤ A * B := by
  have h := mul_bd (a := a) (b := b) (A := A.toNat) (B := B.toNat) (by omega) (by omega)
  have e : ((A.toNat * B.toNat : Nat) : Int) = A * B := by rw [Int.natCast_mul, Int.toNat_of_nonneg (by omega), Int.toNat_of_nonneg (by omega)]
  omega
theorem cov_int {x0 y0 h fr re ha px py : Int32} {C S U V : Int} (hx : posH x0) (hy : posH y0) (hpx : -2097152 < px.toInt ∧ px.toInt < 2097152) (hpy : -2097152 < py.toInt ∧ py.toInt < 2097152) (h1 : 0 ≤ fr.toInt ∧ fr.toInt ≤ 60) (h2 : 0 ≤ re.toInt ∧ re.toInt ≤ 60) (h3 : 0 ≤ ha.toInt ∧ ha.toInt ≤ 20)
    (hC : -4096 ≤ C ∧ C ≤ 4096) (hS : -4096 ≤ S ∧ S ≤ 4096) (kC : (p_dx h).toInt = C) (kS : (p_dy h).toInt = S) (hU : px.toInt - x0.toInt = U) (hV : py.toInt - y0.toInt = V)
    (hc : p_cov x0 y0 h fr re ha px py = 1) : (-re.toInt * 16777216 ≤ U * C + V * S ∧ U * C + V * S ≤ fr.toInt * 16777216) ∧ (-ha.toInt * 16777216 ≤ V * C - U * S ∧ V * C - U * S ≤ ha.toInt * 16777216) := by
  unfold posH at hx hy
  have eU : (px - x0).toInt64.toInt = U := by rw [Int32.toInt_toInt64, i_sub (by omega) (by omega), hU]
  have eV : (py - y0).toInt64.toInt = V := by rw [Int32.toInt_toInt64, i_sub (by omega) (by omega), hV]
  have eC : (p_dx h).toInt64.toInt = C := (Int32.toInt_toInt64 _).trans kC
  have eS : (p_dy h).toInt64.toInt = S := (Int32.toInt_toInt64 _).trans kS
  have lU : -1073741824 ≤ U ∧ U ≤ 1073741824 := by omega
  have lV : -1073741824 ≤ V ∧ V ≤ 1073741824 := by omega
  have b1 := mul_bi lU hC
  have b2 := mul_bi lV hS
  have b3 := mul_bi lV hC
  have b4 := mul_bi lU hS
  have a1 : ((px - x0).toInt64 * (p_dx h).toInt64).toInt = U * C := by rw [l_mul (by rw [eU, eC]; omega) (by rw [eU, eC]; omega), eU, eC]
  have a2 : ((py - y0).toInt64 * (p_dy h).toInt64).toInt = V * S := by rw [l_mul (by rw [eV, eS]; omega) (by rw [eV, eS]; omega), eV, eS]
  have a3 : ((py - y0).toInt64 * (p_dx h).toInt64).toInt = V * C := by rw [l_mul (by rw [eV, eC]; omega) (by rw [eV, eC]; omega), eV, eC]
  have a4 : ((px - x0).toInt64 * (p_dy h).toInt64).toInt = U * S := by rw [l_mul (by rw [eU, eS]; omega) (by rw [eU, eS]; omega), eU, eS]
  have s1 : ((px - x0).toInt64 * (p_dx h).toInt64 + (py - y0).toInt64 * (p_dy h).toInt64).toInt = U * C + V * S := by rw [l_add (by rw [a1, a2]; omega) (by rw [a1, a2]; omega), a1, a2]
  have s2 : ((py - y0).toInt64 * (p_dx h).toInt64 - (px - x0).toInt64 * (p_dy h).toInt64).toInt = V * C - U * S := by rw [l_sub (by rw [a3, a4]; omega) (by rw [a3, a4]; omega), a3, a4]
  have k24 : (16777216 : Int64).toInt = 16777216 := rfl
  have r1 : ((-re).toInt64 * 16777216).toInt = -re.toInt * 16777216 := by
    have e : (-re).toInt64.toInt = -re.toInt := by rw [Int32.toInt_toInt64, i_neg (by omega)]
    rw [l_mul (by rw [e, k24]; omega) (by rw [e, k24]; omega), e, k24]
  have r2 : (fr.toInt64 * 16777216).toInt = fr.toInt * 16777216 := by
    have e : fr.toInt64.toInt = fr.toInt := Int32.toInt_toInt64 _
    rw [l_mul (by rw [e, k24]; omega) (by rw [e, k24]; omega), e, k24]
  have r3 : ((-ha).toInt64 * 16777216).toInt = -ha.toInt * 16777216 := by
    have e : (-ha).toInt64.toInt = -ha.toInt := by rw [Int32.toInt_toInt64, i_neg (by omega)]
    rw [l_mul (by rw [e, k24]; omega) (by rw [e, k24]; omega), e, k24]
  have r4 : (ha.toInt64 * 16777216).toInt = ha.toInt * 16777216 := by
    have e : ha.toInt64.toInt = ha.toInt := Int32.toInt_toInt64 _
    rw [l_mul (by rw [e, k24]; omega) (by rw [e, k24]; omega), e, k24]
  unfold p_cov at hc
  split at hc
  case isFalse => exact absurd hc (by decide)
  rename_i q
  obtain ⟨q1, q2, q3, q4⟩ := q
  rw [Int64.le_iff_toInt_le, r1, s1] at q1
  rw [Int64.le_iff_toInt_le, r2, s1] at q2
  rw [Int64.le_iff_toInt_le, r3, s2] at q3
  rw [Int64.le_iff_toInt_le, r4, s2] at q4
  exact ⟨⟨q1, q2⟩, q3, q4⟩
theorem na_le {X A B : Int} {M : Nat} (h1 : -A * 16777216 ≤ X) (h2 : X ≤ B * 16777216) (hA : A ≤ M) (hB : B ≤ M) : X.natAbs ≤ M * 16777216 := by omega
theorem na_of {X : Int} {B : Nat} (h : X.natAbs ≤ B) : -(B : Int) ≤ X ∧ X ≤ B := by omega
theorem cov_near {x0 y0 h fr re ha px py : Int32} {M A : Nat} (hx : posH x0) (hy : posH y0) (hpx : -2097152 < px.toInt ∧ px.toInt < 2097152) (hpy : -2097152 < py.toInt ∧ py.toInt < 2097152) (h1 : 0 ≤ fr.toInt ∧ fr.toInt ≤ M) (h2 : 0 ≤ re.toInt ∧ re.toInt ≤ M) (h3 : 0 ≤ ha.toInt ∧ ha.toInt ≤ A) (hM : M ≤ 60) (hA : A ≤ 20)
    (hc : p_cov x0 y0 h fr re ha px py = 1) : (-((4096 * (M + A) : Nat) : Int) ≤ px.toInt - x0.toInt ∧ px.toInt - x0.toInt ≤ ((4096 * (M + A) : Nat) : Int)) ∧ (-((4096 * (M + A) : Nat) : Int) ≤ py.toInt - y0.toInt ∧ py.toInt - y0.toInt ≤ ((4096 * (M + A) : Nat) : Int)) := by
  obtain ⟨⟨c1, c2⟩, c3, c4⟩ := cov_int hx hy hpx hpy ⟨h1.1, by omega⟩ ⟨h2.1, by omega⟩ ⟨h3.1, by omega⟩ (dir_of h).1 (dir_of h).2.1 rfl rfl rfl rfl hc
  have p1 := na_le c1 c2 h2.2 h1.2
  have p2 := na_le c3 c4 h3.2 h3.2
  obtain ⟨d1, d2, d0⟩ := (dir_of h).2.2
  have g1 := geo1 (geo_u (px.toInt - x0.toInt) (py.toInt - y0.toInt) (p_dx h).toInt (p_dy h).toInt) p1 (by rw [← Int.natAbs_neg, Int.neg_sub]; exact p2) rfl d1 d2 d0
  have g2 := geo1 (M := A) (A := M) (geo_v (px.toInt - x0.toInt) (py.toInt - y0.toInt) (p_dx h).toInt (p_dy h).toInt) p2 p1 rfl d1 d2 d0
  rw [Nat.add_comm A M] at g2
  exact ⟨na_of g1, na_of g2⟩
theorem dn_4096 (a : Int32) : (p_dn a 4096).toInt = a.toInt / 4096 := by
  have h1 := a.toInt_lt
  have h2 := a.le_toInt
  have k4 : (4096 : Int32).toInt = 4096 := rfl
  have k1 : (1 : Int32).toInt = 1 := rfl
  have hd := i_div (a := a) (b := 4096) (fun z => absurd z.2 (by decide))
  rw [k4] at hd
  have hq := tdiv_pos (a := a.toInt) (b := 4096) (by decide)
  unfold p_dn
  by_cases h0 : 0 ≤ a.toInt
  · rw [hq.1 h0] at hd
    have hm : (a / 4096 * 4096).toInt = a.toInt / 4096 * 4096 := by rw [i_mul (by rw [hd, k4]; omega) (by rw [hd, k4]; omega), hd, k4]
    rw [if_neg (by rw [Int32.lt_iff_toInt_lt, hm]; omega), hd]
  · rw [hq.2 (by omega)] at hd
    have hm : (a / 4096 * 4096).toInt = -(-a.toInt / 4096) * 4096 := by rw [i_mul (by rw [hd, k4]; omega) (by rw [hd, k4]; omega), hd, k4]
    split
    · rename_i h; rw [Int32.lt_iff_toInt_lt, hm] at h
      rw [i_sub (by rw [hd, k1]; omega) (by rw [hd, k1]; omega), hd, k1]; omega
    · rename_i h; rw [Int32.lt_iff_toInt_lt, hm] at h
      rw [hd]; omega
theorem dn_8 (a : Int32) : (p_dn a 8).toInt = a.toInt / 8 := by
  have h1 := a.toInt_lt
  have h2 := a.le_toInt
  have k4 : (8 : Int32).toInt = 8 := rfl
  have k1 : (1 : Int32).toInt = 1 := rfl
  have hd := i_div (a := a) (b := 8) (fun z => absurd z.2 (by decide))
  rw [k4] at hd
  have hq := tdiv_pos (a := a.toInt) (b := 8) (by decide)
  unfold p_dn
  by_cases h0 : 0 ≤ a.toInt
  · rw [hq.1 h0] at hd
    have hm : (a / 8 * 8).toInt = a.toInt / 8 * 8 := by rw [i_mul (by rw [hd, k4]; omega) (by rw [hd, k4]; omega), hd, k4]
    rw [if_neg (by rw [Int32.lt_iff_toInt_lt, hm]; omega), hd]
  · rw [hq.2 (by omega)] at hd
    have hm : (a / 8 * 8).toInt = -(-a.toInt / 8) * 8 := by rw [i_mul (by rw [hd, k4]; omega) (by rw [hd, k4]; omega), hd, k4]
    split
    · rename_i h; rw [Int32.lt_iff_toInt_lt, hm] at h
      rw [i_sub (by rw [hd, k1]; omega) (by rw [hd, k1]; omega), hd, k1]; omega
    · rename_i h; rw [Int32.lt_iff_toInt_lt, hm] at h
      rw [hd]; omega
theorem co_int (x : Int32) : (p_co x).toInt = x.toInt / 4096 / 8 := by unfold p_co; rw [dn_8, dn_4096]
theorem wi_le {v : Int32} {a : Nat} (ha : a < 64) (h : v.toInt ≤ (a : Int) - 32) : p_wi v ≤ zs a := by
  rw [Int32.le_iff_toInt_le, zs_toInt (by omega)]
  unfold p_wi
  split
  · simp only [Int32.reduceToInt]; omega
  · split
    · rename_i q1 q2; rw [Int32.lt_iff_toInt_lt] at q2; simp only [Int32.reduceToInt] at q2 ⊢; omega
    · exact h
theorem le_wi {v : Int32} {a : Nat} (ha : a < 64) (h : (a : Int) - 32 ≤ v.toInt) : zs a ≤ p_wi v := by
  rw [Int32.le_iff_toInt_le, zs_toInt (by omega)]
  unfold p_wi
  split
  · rename_i q1; rw [Int32.lt_iff_toInt_lt] at q1; simp only [Int32.reduceToInt] at q1 ⊢; omega
  · split
    · simp only [Int32.reduceToInt]; omega
    · exact h
theorem ar_T {x a B : Int} (h1 : -B ≤ 4096 * (8 * (a - 32) + 4) - x) (h2 : 4096 * (8 * (a - 32) + 4) - x ≤ B) (hB : B ≤ 327680) : x / 4096 / 8 - 10 ≤ a - 32 ∧ a - 32 ≤ x / 4096 / 8 + 10 := by omega
theorem ar_C {x a R B : Int} (h1 : -B ≤ 4096 * (8 * (a - 32) + 4) - x) (h2 : 4096 * (8 * (a - 32) + 4) - x ≤ B) (hB : B = 4096 * R) : (x / 4096 - (R + 2)) / 8 ≤ a - 32 ∧ a - 32 ≤ (x / 4096 + (R + 2)) / 8 + 1 := by omega
theorem ar_b {x : Int} (h : -536870912 < x ∧ x < 536870912) : -1000000 < x / 4096 ∧ x / 4096 < 1000000 := by omega
theorem ar_b8 {x : Int} (h : -2000000 < x ∧ x < 2000000) : -2000000 < x / 8 ∧ x / 8 < 2000000 := by omega
theorem rg_T1 {x : Int32} {a : Nat} {B : Int} (ha : a < 64) (hx : posH x) (h1 : -B ≤ 4096 * (8 * ((a : Int) - 32) + 4) - x.toInt) (h2 : 4096 * (8 * ((a : Int) - 32) + 4) - x.toInt ≤ B) (hB : B ≤ 327680) : p_wi (p_co x - 10) ≤ zs a ∧ zs a ≤ p_wi (p_co x + 10) := by
  have k10 : (10 : Int32).toInt = 10 := rfl
  have o1 := co_int x
  obtain ⟨q1, q2⟩ := ar_T h1 h2 hB
  clear h1 h2
  have b1 := ar_b hx
  have b2 := ar_b8 (x := x.toInt / 4096) ⟨by omega, by omega⟩
  generalize x.toInt / 4096 / 8 = z at *
  refine ⟨wi_le ha ?_, le_wi ha ?_⟩
  · rw [i_sub (by rw [o1, k10]; omega) (by rw [o1, k10]; omega), o1, k10]; exact q1
  · rw [i_add (by rw [o1, k10]; omega) (by rw [o1, k10]; omega), o1, k10]; exact q2
theorem rg_C1 {x r : Int32} {a : Nat} {R B : Int} (ha : a < 64) (hx : posH x) (h1 : -B ≤ 4096 * (8 * ((a : Int) - 32) + 4) - x.toInt) (h2 : 4096 * (8 * ((a : Int) - 32) + 4) - x.toInt ≤ B) (hB : B = 4096 * R) (hr : r.toInt = R + 2) (hR : 0 ≤ R ∧ R ≤ 100) : p_fd (p_fd x 4096 - r) 8 ≤ zs a ∧ zs a ≤ p_fd (p_fd x 4096 + r) 8 + 1 := by
  have k8 : (8 : Int32).toInt = 8 := rfl
  have k4 : (4096 : Int32).toInt = 4096 := rfl
  have k1 : (1 : Int32).toInt = 1 := rfl
  have o1 := fd_toInt (a := x) (b := 4096) (by decide)
  rw [k4] at o1
  obtain ⟨q1, q2⟩ := ar_C h1 h2 hB
  clear h1 h2 hB
  have b1 := ar_b hx
  have u1 : (p_fd x 4096 - r).toInt = x.toInt / 4096 - (R + 2) := by rw [i_sub (by rw [o1, hr]; omega) (by rw [o1, hr]; omega), o1, hr]
  have u2 : (p_fd x 4096 + r).toInt = x.toInt / 4096 + (R + 2) := by rw [i_add (by rw [o1, hr]; omega) (by rw [o1, hr]; omega), o1, hr]
  have v1 := fd_toInt (a := p_fd x 4096 - r) (b := 8) (by decide)
  have v2 := fd_toInt (a := p_fd x 4096 + r) (b := 8) (by decide)
  rw [k8, u1] at v1
  rw [k8, u2] at v2
  have b2 := ar_b8 (x := x.toInt / 4096 + (R + 2)) ⟨by omega, by omega⟩
  refine ⟨?_, ?_⟩
  · rw [Int32.le_iff_toInt_le, v1, zs_toInt (by omega)]; exact q1
  · rw [Int32.le_iff_toInt_le, i_add (by rw [v2, k1]; omega) (by rw [v2, k1]; omega), v2, k1, zs_toInt (by omega)]; exact q2
/-- what is covered lies within what the twin and the component look through -/
theorem rg_both {ar : Nat → Nat → Int32} {k : Nat} (hs : shK ar k) (hx : posH (ar 12 k)) (hy : posH (ar 13 k)) : rgT ar k ∧ rgC ar k := by
  obtain ⟨⟨f1, f2⟩, ⟨r1, r2⟩, ⟨a1, a2⟩⟩ := hs
  have hm : ∃ M : Nat, (p_max (ar 3 k) (ar 4 k)).toInt = M ∧ (ar 3 k).toInt ≤ M ∧ (ar 4 k).toInt ≤ M ∧ M ≤ 60 := by
    unfold p_max
    split
    · rename_i q; rw [Int32.lt_iff_toInt_lt] at q; exact ⟨(ar 4 k).toInt.toNat, by omega, by omega, by omega, by omega⟩
    · rename_i q; rw [Int32.lt_iff_toInt_lt] at q; exact ⟨(ar 3 k).toInt.toNat, by omega, by omega, by omega, by omega⟩
  obtain ⟨M, m1, m2, m3, m4⟩ := hm
  obtain ⟨A, hA⟩ : ∃ A : Nat, (ar 5 k).toInt = A := ⟨(ar 5 k).toInt.toNat, by omega⟩
  have k2 : (2 : Int32).toInt = 2 := rfl
  have e1 : (p_max (ar 3 k) (ar 4 k) + ar 5 k).toInt = M + A := by rw [i_add (by rw [m1, hA]; omega) (by rw [m1, hA]; omega), m1, hA]
  have e2 : (rchC ar k).toInt = ((M + A : Nat) : Int) + 2 := by unfold rchC; rw [i_add (by rw [e1, k2]; omega) (by rw [e1, k2]; omega), e1, k2]; omega
  have hA20 : A ≤ 20 := by omega
  have near : ∀ t, t < 4096 → cvB ar k (cX t) (cY t) = 1 → (-((4096 * (M + A) : Nat) : Int) ≤ 4096 * (8 * (((t / 64 : Nat) : Int) - 32) + 4) - (ar 12 k).toInt ∧ 4096 * (8 * (((t / 64 : Nat) : Int) - 32) + 4) - (ar 12 k).toInt ≤ ((4096 * (M + A) : Nat) : Int)) ∧ (-((4096 * (M + A) : Nat) : Int) ≤ 4096 * (8 * (((t % 64 : Nat) : Int) - 32) + 4) - (ar 13 k).toInt ∧ 4096 * (8 * (((t % 64 : Nat) : Int) - 32) + 4) - (ar 13 k).toInt ≤ ((4096 * (M + A) : Nat) : Int)) := by
    intro t ht hv
    have l1 : t / 64 < 64 := by omega
    have l2 : t % 64 < 64 := by omega
    have c1 : (cX t).toInt = 4096 * (8 * (((t / 64 : Nat) : Int) - 32) + 4) := cx_int (t / 64) l1
    have c2 : (cY t).toInt = 4096 * (8 * (((t % 64 : Nat) : Int) - 32) + 4) := cx_int (t % 64) l2
    have h := cov_near (M := M) (A := A) hx hy (cx_bd c1 l1) (cx_bd c2 l2) ⟨f1, m2⟩ ⟨r1, m3⟩ ⟨a1, by rw [hA]; exact Int.le_refl _⟩ m4 hA20 hv
    rw [c1, c2] at h
    exact h
  have hB : ((4096 * (M + A) : Nat) : Int) ≤ 327680 := by omega
  have hB2 : ((4096 * (M + A) : Nat) : Int) = 4096 * ((M + A : Nat) : Int) := by omega
  have hR : (0 : Int) ≤ ((M + A : Nat) : Int) ∧ ((M + A : Nat) : Int) ≤ 100 := by omega
  refine ⟨fun t ht hv => ?_, fun t ht hv => ?_⟩
  · obtain ⟨⟨n1, n2⟩, n3, n4⟩ := near t ht hv
    have l1 : t / 64 < 64 := by omega
    have l2 : t % 64 < 64 := by omega
    have g1 := rg_T1 l1 hx n1 n2 hB
    have g2 := rg_T1 l2 hy n3 n4 hB
    exact ⟨g1.1, g1.2, g2.1, g2.2⟩
  · obtain ⟨⟨n1, n2⟩, n3, n4⟩ := near t ht hv
    have l1 : t / 64 < 64 := by omega
    have l2 : t % 64 < 64 := by omega
    have g1 := rg_C1 l1 hx n1 n2 hB2 e2 hR
    have g2 := rg_C1 l2 hy n3 n4 hB2 e2 hR
    exact ⟨g1.1, g1.2, g2.1, g2.2⟩
