/-! How many bits are set: Long.bitCount counts them; a run's bits are the cells. -/
theorem pb_tb (n : Nat) : (lN n).toBitVec = BitVec.ofNat 64 n := rfl
theorem pb_inj {a b : Int64} (h : a.toBitVec = b.toBitVec) : a = b := Int64.toBitVec_inj.mp h
theorem pb_tn {n : Nat} (h : n < 2 ^ 64) : (lN n).toBitVec.toNat = n := by rw [pb_tb, BitVec.toNat_ofNat, Nat.mod_eq_of_lt h]
theorem pb_of (x : Int64) : x = lN x.toBitVec.toNat := pb_inj (by rw [pb_tb]; simp)
theorem pb_cu : ∀ k, k < 64 → ((nI k).toInt64.toUInt64 &&& Int64.toUInt64 63) = UInt64.ofNat k := by decide +kernel
theorem pb_shr {n k : Nat} (hn : n < 2 ^ 64) (hk : k < 64) : ((lN n).toUInt64 >>> ((nI k).toInt64.toUInt64 &&& Int64.toUInt64 63)).toInt64 = lN (n / 2 ^ k) := by
  rw [pb_cu k hk]
  apply pb_inj
  show ((lN n).toUInt64 >>> UInt64.ofNat k).toBitVec = BitVec.ofNat 64 (n / 2 ^ k)
  apply BitVec.eq_of_toNat_eq
  have h1 : n / 2 ^ k ≤ n := Nat.div_le_self _ _
  have h2 : (lN n).toUInt64.toNat = n := pb_tn hn
  have h3 : (UInt64.ofNat k).toNat = k := Nat.mod_eq_of_lt (by omega)
  show ((lN n).toUInt64 >>> UInt64.ofNat k).toNat = _
  rw [UInt64.toNat_shiftRight, h2, h3, Nat.mod_eq_of_lt hk, Nat.shiftRight_eq_div_pow, BitVec.toNat_ofNat, Nat.mod_eq_of_lt (by omega)]
theorem pb_and {a b : Nat} (ha : a < 2 ^ 64) (hb : b < 2 ^ 64) : lN a &&& lN b = lN (a &&& b) := by
  apply pb_inj
  rw [Int64.toBitVec_and, pb_tb, pb_tb, pb_tb]
  apply BitVec.eq_of_toNat_eq
  have h1 : a &&& b ≤ a := Nat.and_le_left
  rw [BitVec.toNat_and, BitVec.toNat_ofNat, BitVec.toNat_ofNat, BitVec.toNat_ofNat, Nat.mod_eq_of_lt ha, Nat.mod_eq_of_lt hb, Nat.mod_eq_of_lt (by omega)]
theorem pb_add {a b : Nat} : lN a + lN b = lN (a + b) := by
  apply pb_inj
  rw [Int64.toBitVec_add, pb_tb, pb_tb, pb_tb]
  apply BitVec.eq_of_toNat_eq
  simp only [BitVec.toNat_add, BitVec.toNat_ofNat]
  omega
theorem pb_sub {a b : Nat} (h : b ≤ a) : lN a - lN b = lN (a - b) := by
  have e : lN a = lN (a - b) + lN b := by rw [pb_add]; congr 1; omega
  rw [e]
  apply pb_inj
  rw [Int64.toBitVec_sub, Int64.toBitVec_add, BitVec.add_sub_cancel]
/-- a byte of both sides at a time -/
theorem an_s (n m M : Nat) (hm : m < 256) : n &&& (m + 256 * M) = (n % 256 &&& m) + 256 * (n / 256 &&& M) := by
  have h1 := Nat.and_mod_two_pow (a := n) (b := m + 256 * M) (n := 8)
  have h2 := Nat.and_div_two_pow (a := n) (b := m + 256 * M) (n := 8)
  rw [show (2 : Nat) ^ 8 = 256 from rfl] at h1 h2
  rw [show (m + 256 * M) % 256 = m by omega] at h1
  rw [show (m + 256 * M) / 256 = M by omega] at h2
  rw [← h1, ← h2]
  omega
/-- a number of 8 bytes -/
def by8 (a b c d e f g h : Nat) : Nat := a + 256 * (b + 256 * (c + 256 * (d + 256 * (e + 256 * (f + 256 * (g + 256 * h))))))
theorem by_of {n : Nat} (h : n < 2 ^ 64) : n = by8 (n % 256) (n / 256 % 256) (n / 256 / 256 % 256) (n / 256 / 256 / 256 % 256) (n / 256 / 256 / 256 / 256 % 256) (n / 256 / 256 / 256 / 256 / 256 % 256) (n / 256 / 256 / 256 / 256 / 256 / 256 % 256) (n / 256 / 256 / 256 / 256 / 256 / 256 / 256) := by
  unfold by8; omega
/-- and with a mask of like bytes, byte by byte -/
theorem by_and (n m : Nat) (hm : m < 256) : n &&& by8 m m m m m m m m = by8 (n % 256 &&& m) (n / 256 % 256 &&& m) (n / 256 / 256 % 256 &&& m) (n / 256 / 256 / 256 % 256 &&& m) (n / 256 / 256 / 256 / 256 % 256 &&& m) (n / 256 / 256 / 256 / 256 / 256 % 256 &&& m) (n / 256 / 256 / 256 / 256 / 256 / 256 % 256 &&& m) (n / 256 / 256 / 256 / 256 / 256 / 256 / 256 &&& m) := by
  unfold by8
  rw [an_s _ _ _ hm, an_s _ _ _ hm, an_s _ _ _ hm, an_s _ _ _ hm, an_s _ _ _ hm, an_s _ _ _ hm, an_s _ _ _ hm]
def k1 (b : Nat) : Nat := b - (b / 2 &&& 85)
def k2 (b : Nat) : Nat := (b &&& 51) + (b / 4 &&& 51)
def k3 (b : Nat) : Nat := (b + b / 16) % 16
theorem k1_half : ∀ r, r < 512 → (r / 2 % 256 &&& 85) = (r % 256 / 2 &&& 85) := by decide +kernel
theorem k2_half : ∀ r, r < 1024 → (r / 4 % 256 &&& 51) = (r % 256 / 4 &&& 51) := by decide +kernel
theorem k3_and : ∀ r, r < 256 → (r &&& 15) = r % 16 := by decide +kernel
theorem kb1_le : ∀ b, b < 256 → (b / 2 &&& 85) ≤ b := by decide +kernel
theorem kb2_le : ∀ b, b < 256 → k2 (k1 b) ≤ 68 ∧ k2 (k1 b) % 16 ≤ 4 := by decide +kernel
theorem q1_half (q : Nat) : (q / 2 % 256 &&& 85) = (q % 256 / 2 &&& 85) := by
  have h := k1_half (q % 512) (by omega)
  rw [show q % 512 / 2 % 256 = q / 2 % 256 by omega, show q % 512 % 256 = q % 256 by omega] at h
  exact h
theorem q2_half (q : Nat) : (q / 4 % 256 &&& 51) = (q % 256 / 4 &&& 51) := by
  have h := k2_half (q % 1024) (by omega)
  rw [show q % 1024 / 4 % 256 = q / 4 % 256 by omega, show q % 1024 % 256 = q % 256 by omega] at h
  exact h
section BYT
variable {a b c d e f g h : Nat}
theorem by_b (ha : a < 256) (hb : b < 256) (hc : c < 256) (hd : d < 256) (he : e < 256) (hf : f < 256) (hg : g < 256) (hh : h < 256) :
    by8 a b c d e f g h % 256 = a ∧ by8 a b c d e f g h / 256 % 256 = b ∧ by8 a b c d e f g h / 256 / 256 % 256 = c ∧ by8 a b c d e f g h / 256 / 256 / 256 % 256 = d ∧ by8 a b c d e f g h / 256 / 256 / 256 / 256 % 256 = e ∧ by8 a b c d e f g h / 256 / 256 / 256 / 256 / 256 % 256 = f ∧ by8 a b c d e f g h / 256 / 256 / 256 / 256 / 256 / 256 % 256 = g ∧ by8 a b c d e f g h / 256 / 256 / 256 / 256 / 256 / 256 / 256 = h := by
  unfold by8
  refine ⟨?_, ?_, ?_, ?_, ?_, ?_, ?_, ?_⟩ <;> omega
theorem by_lt (ha : a < 256) (hb : b < 256) (hc : c < 256) (hd : d < 256) (he : e < 256) (hf : f < 256) (hg : g < 256) (hh : h < 256) : by8 a b c d e f g h < 2 ^ 64 := by
  unfold by8; omega
theorem by_k1 (ha : a < 256) (hb : b < 256) (hc : c < 256) (hd : d < 256) (he : e < 256) (hf : f < 256) (hg : g < 256) (hh : h < 256) :
    (by8 a b c d e f g h / 2 &&& by8 85 85 85 85 85 85 85 85) = by8 (a / 2 &&& 85) (b / 2 &&& 85) (c / 2 &&& 85) (d / 2 &&& 85) (e / 2 &&& 85) (f / 2 &&& 85) (g / 2 &&& 85) (h / 2 &&& 85) := by
  obtain ⟨e1, e2, e3, e4, e5, e6, e7, e8⟩ := by_b ha hb hc hd he hf hg hh
  generalize by8 a b c d e f g h = n at e1 e2 e3 e4 e5 e6 e7 e8
  rw [by_and _ _ (by decide)]
  rw [show n / 2 / 256 = n / 256 / 2 by omega, show n / 256 / 2 / 256 = n / 256 / 256 / 2 by omega, show n / 256 / 256 / 2 / 256 = n / 256 / 256 / 256 / 2 by omega, show n / 256 / 256 / 256 / 2 / 256 = n / 256 / 256 / 256 / 256 / 2 by omega, show n / 256 / 256 / 256 / 256 / 2 / 256 = n / 256 / 256 / 256 / 256 / 256 / 2 by omega, show n / 256 / 256 / 256 / 256 / 256 / 2 / 256 = n / 256 / 256 / 256 / 256 / 256 / 256 / 2 by omega, show n / 256 / 256 / 256 / 256 / 256 / 256 / 2 / 256 = n / 256 / 256 / 256 / 256 / 256 / 256 / 256 / 2 by omega]
  rw [q1_half, q1_half, q1_half, q1_half, q1_half, q1_half, q1_half, e1, e2, e3, e4, e5, e6, e7, e8]
theorem by_k2 (ha : a < 256) (hb : b < 256) (hc : c < 256) (hd : d < 256) (he : e < 256) (hf : f < 256) (hg : g < 256) (hh : h < 256) :
    (by8 a b c d e f g h / 4 &&& by8 51 51 51 51 51 51 51 51) = by8 (a / 4 &&& 51) (b / 4 &&& 51) (c / 4 &&& 51) (d / 4 &&& 51) (e / 4 &&& 51) (f / 4 &&& 51) (g / 4 &&& 51) (h / 4 &&& 51) := by
  obtain ⟨e1, e2, e3, e4, e5, e6, e7, e8⟩ := by_b ha hb hc hd he hf hg hh
  generalize by8 a b c d e f g h = n at e1 e2 e3 e4 e5 e6 e7 e8
  rw [by_and _ _ (by decide)]
  rw [show n / 4 / 256 = n / 256 / 4 by omega, show n / 256 / 4 / 256 = n / 256 / 256 / 4 by omega, show n / 256 / 256 / 4 / 256 = n / 256 / 256 / 256 / 4 by omega, show n / 256 / 256 / 256 / 4 / 256 = n / 256 / 256 / 256 / 256 / 4 by omega, show n / 256 / 256 / 256 / 256 / 4 / 256 = n / 256 / 256 / 256 / 256 / 256 / 4 by omega, show n / 256 / 256 / 256 / 256 / 256 / 4 / 256 = n / 256 / 256 / 256 / 256 / 256 / 256 / 4 by omega, show n / 256 / 256 / 256 / 256 / 256 / 256 / 4 / 256 = n / 256 / 256 / 256 / 256 / 256 / 256 / 256 / 4 by omega]
  rw [q2_half, q2_half, q2_half, q2_half, q2_half, q2_half, q2_half, e1, e2, e3, e4, e5, e6, e7, e8]
theorem by_k2a (ha : a < 256) (hb : b < 256) (hc : c < 256) (hd : d < 256) (he : e < 256) (hf : f < 256) (hg : g < 256) (hh : h < 256) :
    (by8 a b c d e f g h &&& by8 51 51 51 51 51 51 51 51) = by8 (a &&& 51) (b &&& 51) (c &&& 51) (d &&& 51) (e &&& 51) (f &&& 51) (g &&& 51) (h &&& 51) := by
  obtain ⟨e1, e2, e3, e4, e5, e6, e7, e8⟩ := by_b ha hb hc hd he hf hg hh
  rw [by_and _ _ (by decide), e1, e2, e3, e4, e5, e6, e7, e8]
theorem by_k3 (ha : a ≤ 68 ∧ a % 16 ≤ 4) (hb : b ≤ 68 ∧ b % 16 ≤ 4) (hc : c ≤ 68 ∧ c % 16 ≤ 4) (hd : d ≤ 68 ∧ d % 16 ≤ 4) (he : e ≤ 68 ∧ e % 16 ≤ 4) (hf : f ≤ 68 ∧ f % 16 ≤ 4) (hg : g ≤ 68 ∧ g % 16 ≤ 4) (hh : h ≤ 68 ∧ h % 16 ≤ 4) :
    (by8 a b c d e f g h + by8 a b c d e f g h / 16 &&& by8 15 15 15 15 15 15 15 15) = by8 (k3 a) (k3 b) (k3 c) (k3 d) (k3 e) (k3 f) (k3 g) (k3 h) := by
  have e0 : by8 a b c d e f g h + by8 a b c d e f g h / 16 = by8 (a + a / 16 + 16 * (b % 16)) (b + b / 16 + 16 * (c % 16)) (c + c / 16 + 16 * (d % 16)) (d + d / 16 + 16 * (e % 16)) (e + e / 16 + 16 * (f % 16)) (f + f / 16 + 16 * (g % 16)) (g + g / 16 + 16 * (h % 16)) (h + h / 16) := by
    unfold by8; omega
  rw [e0]
  obtain ⟨e1, e2, e3, e4, e5, e6, e7, e8⟩ := by_b (a := a + a / 16 + 16 * (b % 16)) (b := b + b / 16 + 16 * (c % 16)) (c := c + c / 16 + 16 * (d % 16)) (d := d + d / 16 + 16 * (e % 16)) (e := e + e / 16 + 16 * (f % 16)) (f := f + f / 16 + 16 * (g % 16)) (g := g + g / 16 + 16 * (h % 16)) (h := h + h / 16) (by omega) (by omega) (by omega) (by omega) (by omega) (by omega) (by omega) (by omega)
  rw [by_and _ _ (by decide), e1, e2, e3, e4, e5, e6, e7, e8]
  rw [k3_and _ (by omega), k3_and _ (by omega), k3_and _ (by omega), k3_and _ (by omega), k3_and _ (by omega), k3_and _ (by omega), k3_and _ (by omega), k3_and _ (by omega)]
  unfold k3
  congr 1 <;> omega
theorem by_k4 {N : Nat} (hN : N = by8 a b c d e f g h) (ha : a ≤ 8) (hb : b ≤ 8) (hc : c ≤ 8) (hd : d ≤ 8) (he : e ≤ 8) (hf : f ≤ 8) (hg : g ≤ 8) (hh : h ≤ 8) :
    ∃ n4 n5 n6, n4 = N + N / 256 ∧ n5 = n4 + n4 / 65536 ∧ n6 = n5 + n5 / 4294967296 ∧ N < 2 ^ 60 ∧ n4 < 2 ^ 61 ∧ n5 < 2 ^ 62 ∧ n6 % 128 = a + b + c + d + e + f + g + h := by
  refine ⟨_, _, _, rfl, rfl, rfl, ?_⟩
  have e4 : N + N / 256 = by8 (a + b) (b + c) (c + d) (d + e) (e + f) (f + g) (g + h) h := by
    rw [hN]; unfold by8; omega
  have e5 : N + N / 256 + (N + N / 256) / 65536 = by8 (a + b + c + d) (b + c + d + e) (c + d + e + f) (d + e + f + g) (e + f + g + h) (f + g + h) (g + h) h := by
    rw [e4]; unfold by8; omega
  rw [e5, e4]
  have e6 : by8 (a + b + c + d) (b + c + d + e) (c + d + e + f) (d + e + f + g) (e + f + g + h) (f + g + h) (g + h) h / 4294967296 = e + f + g + h + 256 * (f + g + h + 256 * (g + h + 256 * h)) := by
    unfold by8; omega
  rw [e6, hN]
  unfold by8
  refine ⟨?_, ?_, ?_, ?_⟩ <;> omega
end BYT
theorem by8_sub {a b c d e f g h a' b' c' d' e' f' g' h' : Nat} (h1 : a' ≤ a) (h2 : b' ≤ b) (h3 : c' ≤ c) (h4 : d' ≤ d) (h5 : e' ≤ e) (h6 : f' ≤ f) (h7 : g' ≤ g) (h8 : h' ≤ h) :
    by8 a' b' c' d' e' f' g' h' ≤ by8 a b c d e f g h ∧ by8 a b c d e f g h - by8 a' b' c' d' e' f' g' h' = by8 (a - a') (b - b') (c - c') (d - d') (e - e') (f - f') (g - g') (h - h') := by
  obtain ⟨r1, rfl⟩ := Nat.exists_eq_add_of_le h1
  obtain ⟨r2, rfl⟩ := Nat.exists_eq_add_of_le h2
  obtain ⟨r3, rfl⟩ := Nat.exists_eq_add_of_le h3
  obtain ⟨r4, rfl⟩ := Nat.exists_eq_add_of_le h4
  obtain ⟨r5, rfl⟩ := Nat.exists_eq_add_of_le h5
  obtain ⟨r6, rfl⟩ := Nat.exists_eq_add_of_le h6
  obtain ⟨r7, rfl⟩ := Nat.exists_eq_add_of_le h7
  obtain ⟨r8, rfl⟩ := Nat.exists_eq_add_of_le h8
  simp only [Nat.add_sub_cancel_left]
  unfold by8
  refine ⟨by omega, by omega⟩
-- bits one by one
def tbN (n t : Nat) : Nat := if n.testBit t = true then 1 else 0
def smT (n a : Nat) : Nat → Nat
  | 0 => 0
  | k + 1 => smT n a k + tbN n (a + k)
theorem smT_s (n a k : Nat) : smT n a (k + 1) = smT n a k + tbN n (a + k) := by rw [smT]
theorem smT_add (n a j k : Nat) : smT n a (j + k) = smT n a j + smT n (a + j) k := by
  induction k with
  | zero => rfl
  | succ k ih => rw [← Nat.add_assoc, smT_s, smT_s, ih, Nat.add_assoc a j k, Nat.add_assoc]
theorem smT_up (n a i : Nat) : ∀ k, smT n (a + i) k = smT (n / 2 ^ i) a k := by
  intro k
  induction k with
  | zero => rfl
  | succ k ih =>
    rw [smT_s, smT_s, ih]
    unfold tbN
    rw [Nat.testBit_div_two_pow, show a + i + k = a + k + i by omega]
theorem smT_lo (n : Nat) : ∀ k, k ≤ 8 → smT n 0 k = smT (n % 256) 0 k := by
  intro k
  induction k with
  | zero => intro _; rfl
  | succ k ih =>
    intro hk
    rw [smT_s, smT_s, ih (by omega)]
    unfold tbN
    rw [show (256 : Nat) = 2 ^ 8 from rfl, Nat.testBit_mod_two_pow, decide_eq_true (show 0 + k < 8 by omega), Bool.true_and]
theorem k3_bits : ∀ b, b < 256 → k3 (k2 (k1 b)) = smT b 0 8 ∧ k3 (k2 (k1 b)) ≤ 8 := by decide +kernel
theorem smT_64 {n : Nat} (h : n < 2 ^ 64) : smT n 0 64 = smT (n % 256) 0 8 + smT (n / 256 % 256) 0 8 + smT (n / 256 / 256 % 256) 0 8 + smT (n / 256 / 256 / 256 % 256) 0 8 + smT (n / 256 / 256 / 256 / 256 % 256) 0 8 + smT (n / 256 / 256 / 256 / 256 / 256 % 256) 0 8 + smT (n / 256 / 256 / 256 / 256 / 256 / 256 % 256) 0 8 + smT (n / 256 / 256 / 256 / 256 / 256 / 256 / 256) 0 8 := by
  have key : ∀ (m k : Nat), smT m 0 (8 + k) = smT (m % 256) 0 8 + smT (m / 256) 0 k := by
    intro m k
    rw [smT_add, smT_lo m 8 (by decide), smT_up m 0 8 k]
  rw [show (64 : Nat) = 8 + 56 from rfl, key, show (56 : Nat) = 8 + 48 from rfl, key, show (48 : Nat) = 8 + 40 from rfl, key, show (40 : Nat) = 8 + 32 from rfl, key, show (32 : Nat) = 8 + 24 from rfl, key, show (24 : Nat) = 8 + 16 from rfl, key, show (16 : Nat) = 8 + 8 from rfl, key]
  omega
theorem pb_127 (n : Nat) : (lN n).toInt32 &&& 127 = nI (n % 128) := by
  apply Int32.toBitVec_inj.mp
  show (BitVec.ofNat 64 n).signExtend 32 &&& 127#32 = BitVec.ofNat 32 (n % 128)
  apply BitVec.eq_of_toNat_eq
  rw [BitVec.signExtend_eq_setWidth_of_le _ (by decide), BitVec.toNat_and, BitVec.toNat_setWidth, BitVec.toNat_ofNat, BitVec.toNat_ofNat, BitVec.toNat_ofNat]
  show n % 2 ^ 64 % 2 ^ 32 &&& (2 ^ 7 - 1) = _
  rw [Nat.and_two_pow_sub_one_eq_mod]
  omega
theorem k_lt : ∀ b, b < 256 → k1 b < 256 ∧ k2 (k1 b) < 256 := by decide +kernel
/-- Long.bitCount counts the bits that are set -/
theorem bc_eq {n : Nat} (hn : n < 2 ^ 64) : p_bc (lN n) = nI (smT n 0 64) := by
  rw [smT_64 hn]
  have h0 := by_of hn
  have l1 : n % 256 < 256 := by omega
  have l2 : n / 256 % 256 < 256 := by omega
  have l3 : n / 256 / 256 % 256 < 256 := by omega
  have l4 : n / 256 / 256 / 256 % 256 < 256 := by omega
  have l5 : n / 256 / 256 / 256 / 256 % 256 < 256 := by omega
  have l6 : n / 256 / 256 / 256 / 256 / 256 % 256 < 256 := by omega
  have l7 : n / 256 / 256 / 256 / 256 / 256 / 256 % 256 < 256 := by omega
  have l8 : n / 256 / 256 / 256 / 256 / 256 / 256 / 256 < 256 := by omega
  generalize n % 256 = a at h0 l1 ⊢
  generalize n / 256 % 256 = b at h0 l2 ⊢
  generalize n / 256 / 256 % 256 = c at h0 l3 ⊢
  generalize n / 256 / 256 / 256 % 256 = d at h0 l4 ⊢
  generalize n / 256 / 256 / 256 / 256 % 256 = e at h0 l5 ⊢
  generalize n / 256 / 256 / 256 / 256 / 256 % 256 = f at h0 l6 ⊢
  generalize n / 256 / 256 / 256 / 256 / 256 / 256 % 256 = g at h0 l7 ⊢
  generalize n / 256 / 256 / 256 / 256 / 256 / 256 / 256 = h at h0 l8 ⊢
  subst h0
  have m1 : (6148914691236517205 : Int64) = lN (by8 85 85 85 85 85 85 85 85) := rfl
  have m2 : (3689348814741910323 : Int64) = lN (by8 51 51 51 51 51 51 51 51) := rfl
  have m3 : (1085102592571150095 : Int64) = lN (by8 15 15 15 15 15 15 15 15) := rfl
  have s1 : bc1 (lN (by8 a b c d e f g h)) = lN (by8 (k1 a) (k1 b) (k1 c) (k1 d) (k1 e) (k1 f) (k1 g) (k1 h)) := by
    unfold bc1
    have es := pb_shr (k := 1) hn (by decide)
    rw [show (nI 1) = (1 : Int32) from rfl] at es
    have h1 := kb1_le a l1
    have h2 := kb1_le b l2
    have h3 := kb1_le c l3
    have h4 := kb1_le d l4
    have h5 := kb1_le e l5
    have h6 := kb1_le f l6
    have h7 := kb1_le g l7
    have h8 := kb1_le h l8
    rw [es, m1, pb_and (by omega) (by decide), show (2 : Nat) ^ 1 = 2 from rfl, by_k1 l1 l2 l3 l4 l5 l6 l7 l8]
    have hs := by8_sub h1 h2 h3 h4 h5 h6 h7 h8
    rw [pb_sub hs.1, hs.2]
    rfl
  have t1 := k_lt a l1
  have t2 := k_lt b l2
  have t3 := k_lt c l3
  have t4 := k_lt d l4
  have t5 := k_lt e l5
  have t6 := k_lt f l6
  have t7 := k_lt g l7
  have t8 := k_lt h l8
  have s2 : bc2 (lN (by8 (k1 a) (k1 b) (k1 c) (k1 d) (k1 e) (k1 f) (k1 g) (k1 h))) = lN (by8 (k2 (k1 a)) (k2 (k1 b)) (k2 (k1 c)) (k2 (k1 d)) (k2 (k1 e)) (k2 (k1 f)) (k2 (k1 g)) (k2 (k1 h))) := by
    unfold bc2
    have lt := by_lt t1.1 t2.1 t3.1 t4.1 t5.1 t6.1 t7.1 t8.1
    have es := pb_shr (k := 2) lt (by decide)
    rw [show (nI 2) = (2 : Int32) from rfl] at es
    rw [es, m2, pb_and lt (by decide), pb_and (Nat.lt_of_le_of_lt (Nat.div_le_self _ _) lt) (by decide), show (2 : Nat) ^ 2 = 4 from rfl, by_k2 t1.1 t2.1 t3.1 t4.1 t5.1 t6.1 t7.1 t8.1, by_k2a t1.1 t2.1 t3.1 t4.1 t5.1 t6.1 t7.1 t8.1, pb_add]
    congr 1
    unfold k2 by8
    omega
  have v1 := kb2_le a l1
  have v2 := kb2_le b l2
  have v3 := kb2_le c l3
  have v4 := kb2_le d l4
  have v5 := kb2_le e l5
  have v6 := kb2_le f l6
  have v7 := kb2_le g l7
  have v8 := kb2_le h l8
  have s3 : bc3 (lN (by8 (k2 (k1 a)) (k2 (k1 b)) (k2 (k1 c)) (k2 (k1 d)) (k2 (k1 e)) (k2 (k1 f)) (k2 (k1 g)) (k2 (k1 h)))) = lN (by8 (k3 (k2 (k1 a))) (k3 (k2 (k1 b))) (k3 (k2 (k1 c))) (k3 (k2 (k1 d))) (k3 (k2 (k1 e))) (k3 (k2 (k1 f))) (k3 (k2 (k1 g))) (k3 (k2 (k1 h)))) := by
    unfold bc3
    have lt := by_lt t1.2 t2.2 t3.2 t4.2 t5.2 t6.2 t7.2 t8.2
    have es := pb_shr (k := 4) lt (by decide)
    rw [show (nI 4) = (4 : Int32) from rfl] at es
    have lt2 : by8 (k2 (k1 a)) (k2 (k1 b)) (k2 (k1 c)) (k2 (k1 d)) (k2 (k1 e)) (k2 (k1 f)) (k2 (k1 g)) (k2 (k1 h)) + by8 (k2 (k1 a)) (k2 (k1 b)) (k2 (k1 c)) (k2 (k1 d)) (k2 (k1 e)) (k2 (k1 f)) (k2 (k1 g)) (k2 (k1 h)) / 16 < 2 ^ 64 := by
      unfold by8; omega
    rw [es, m3, pb_add, show (2 : Nat) ^ 4 = 16 from rfl, pb_and lt2 (by decide), by_k3 v1 v2 v3 v4 v5 v6 v7 v8]
  have u1 := k3_bits a l1
  have u2 := k3_bits b l2
  have u3 := k3_bits c l3
  have u4 := k3_bits d l4
  have u5 := k3_bits e l5
  have u6 := k3_bits f l6
  have u7 := k3_bits g l7
  have u8 := k3_bits h l8
  rw [← u1.1, ← u2.1, ← u3.1, ← u4.1, ← u5.1, ← u6.1, ← u7.1, ← u8.1]
  unfold p_bc
  rw [s1, s2, s3]
  obtain ⟨N, hN⟩ : ∃ N, N = by8 (k3 (k2 (k1 a))) (k3 (k2 (k1 b))) (k3 (k2 (k1 c))) (k3 (k2 (k1 d))) (k3 (k2 (k1 e))) (k3 (k2 (k1 f))) (k3 (k2 (k1 g))) (k3 (k2 (k1 h))) := ⟨_, rfl⟩
  obtain ⟨n4, n5, n6, e4, e5, e6, b1, b2, b3, hr⟩ := by_k4 hN u1.2 u2.2 u3.2 u4.2 u5.2 u6.2 u7.2 u8.2
  rw [← hN]
  have s4 : bc4 (lN N) = lN n4 := by
    unfold bc4
    have es := pb_shr (n := N) (k := 8) (by omega) (by decide)
    rw [show (nI 8) = (8 : Int32) from rfl] at es
    rw [es, pb_add, e4]
  have s5 : bc5 (lN n4) = lN n5 := by
    unfold bc5
    have es := pb_shr (n := n4) (k := 16) (by omega) (by decide)
    rw [show (nI 16) = (16 : Int32) from rfl] at es
    rw [es, pb_add, e5]
  have s6 : bc6 (lN n5) = lN n6 := by
    unfold bc6
    have es := pb_shr (n := n5) (k := 32) (by omega) (by decide)
    rw [show (nI 32) = (32 : Int32) from rfl] at es
    rw [es, pb_add, e6]
  rw [s4, s5, s6, pb_127, hr]
theorem bc_0 : p_bc 0 = 0 := by decide +kernel
theorem cnt_blk {g : Nat → Int32} {n a : Nat} (h : ∀ j, j < 64 → (g (a + j) = 1 ↔ n.testBit j = true)) : ∀ k, k ≤ 64 → cntN g (a + k) = cntN g a + smT n 0 k := by
  intro k
  induction k with
  | zero => intro _; rfl
  | succ k ih =>
    intro hk
    rw [← Nat.add_assoc, cntN_s, ih (by omega), smT_s, Nat.add_assoc]
    congr 2
    unfold tbN
    rw [Nat.zero_add]
    by_cases e : g (a + k) = 1
    · rw [if_pos e, if_pos ((h k (by omega)).mp e)]
    · rw [if_neg e, if_neg (fun z => e ((h k (by omega)).mpr z))]
theorem bsC_pad {f : Nat → Int64} {u : Nat} (h : ∀ k, u ≤ k → f k = 0) : ∀ m, bsC f (u + m) = bsC f u := by
  intro m
  induction m with
  | zero => rfl
  | succ m ih => rw [← Nat.add_assoc, bsC_s, ih, h (u + m) (by omega), bc_0, Int32.add_zero]
/-- a run's bits, counted, are the cells that are swept -/
theorem hcd_all (b : Bt) (g : Nat → Int32) (hB : BR b g) : bsC b.2.2.2 b.2.2.1 = nI (cnt g) := by
  obtain ⟨d, L, u, f⟩ := b
  obtain ⟨-, -, -, h4, h5⟩ := hB
  dsimp only at h4 h5 ⊢
  have e1 : bsC f u = bsC f 64 := by
    have p := bsC_pad (u := min u 64) h4
    have p1 := p (u - min u 64)
    have p2 := p (64 - min u 64)
    rw [show min u 64 + (u - min u 64) = u by omega] at p1
    rw [show min u 64 + (64 - min u 64) = 64 by omega] at p2
    rw [p1, p2]
  rw [e1]
  have key : ∀ k, k ≤ 64 → bsC f k = nI (cntN g (64 * k)) := by
    intro k
    induction k with
    | zero => intro _; rw [Nat.mul_zero, cntN_z]; rfl
    | succ k ih =>
      intro hk
      rw [bsC_s, ih (by omega), pb_of (f k), bc_eq (f k).toBitVec.isLt, nI_add]
      congr 1
      rw [show 64 * (k + 1) = 64 * k + 64 by omega]
      refine (cnt_blk (fun j hj => ?_) 64 (Nat.le_refl _)).symm
      rw [← h5 (64 * k + j) (by omega)]
      unfold bitA
      rw [bit_g _ (by omega), show (64 * k + j) / 64 = k by omega, show (64 * k + j) % 64 = j by omega]
      rfl
  exact key 64 (Nat.le_refl _)
