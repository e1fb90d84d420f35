/-! The twin's best: pure. -/
/-- the same plans, bodies, poles, start and step -/
def eqB (st st' : SA) : Prop := (∀ j, 1 ≤ j → j ≤ 6 → st'.1 j = st.1 j) ∧ ∀ i, 1 ≤ i → i ≤ 11 → st'.2 i = st.2 i
theorem eqB.rf (st : SA) : eqB st st := ⟨fun _ _ _ => rfl, fun _ _ _ => rfl⟩
theorem eqB.plan {st st' : SA} (h : eqB st st') (q k : Nat) : eqB st (plI st' q k) :=
  ⟨fun j h1 h2 => (plI_sc st' q k (by omega) (by omega) (by omega) (by omega) (by omega) (by omega)).trans (h.1 j h1 h2), fun i h1 h2 => (plI_ar st' q k (by omega) (by omega) (by omega) (by omega) (by omega) (by omega)).trans (h.2 i h1 h2)⟩
def bsOk (s : SA) (b f : Int32) : Prop := s.1 8 = 0 ∧ s.1 9 = -1 ∧ (b = -1 ∨ s.1 12 < f)
noncomputable def bsI (st : SA) : Nat → SA × Int32 × Int32
  | 0 => (st, -1, 0)
  | k + 1 => (fPlan (bsI st k).1 k, @ite _ (bsOk (fPlan (bsI st k).1 k) (bsI st k).2.1 (bsI st k).2.2) (Classical.propDecidable _) (nI k) (bsI st k).2.1, @ite _ (bsOk (fPlan (bsI st k).1 k) (bsI st k).2.1 (bsI st k).2.2) (Classical.propDecidable _) ((fPlan (bsI st k).1 k).1 12) (bsI st k).2.2)
theorem bsI_s (st : SA) (k : Nat) : bsI st (k + 1) = (fPlan (bsI st k).1 k, @ite _ (bsOk (fPlan (bsI st k).1 k) (bsI st k).2.1 (bsI st k).2.2) (Classical.propDecidable _) (nI k) (bsI st k).2.1, @ite _ (bsOk (fPlan (bsI st k).1 k) (bsI st k).2.1 (bsI st k).2.2) (Classical.propDecidable _) ((fPlan (bsI st k).1 k).1 12) (bsI st k).2.2) := by rw [bsI]
theorem bsI_eqB (st : SA) (k : Nat) : eqB st (bsI st k).1 := by
  induction k with
  | zero => rw [bsI]; exact eqB.rf st
  | succ k ih => rw [bsI_s]; exact ih.plan _ _
theorem bsI_sc (st : SA) (k : Nat) {j : Nat} (h7 : j ≠ 7) (h8 : j ≠ 8) (h9 : j ≠ 9) (h10 : j ≠ 10) (h11 : j ≠ 11) (h12 : j ≠ 12) : (bsI st k).1.1 j = st.1 j := by
  induction k with
  | zero => rw [bsI]
  | succ k ih => rw [bsI_s]; exact (plI_sc _ _ _ h7 h8 h9 h10 h11 h12).trans ih
theorem bsI_ar (st : SA) (k : Nat) {i : Nat} (h12 : i ≠ 12) (h13 : i ≠ 13) (h14 : i ≠ 14) (h15 : i ≠ 15) (h16 : i ≠ 16) (h17 : i ≠ 17) : (bsI st k).1.2 i = st.2 i := by
  induction k with
  | zero => rw [bsI]
  | succ k ih => rw [bsI_s]; exact (plI_ar _ _ _ h12 h13 h14 h15 h16 h17).trans ih
/-- what the twin asks of a state for its plans -/
def PlH (n np : Nat) (K : SA → Prop) (st : SA) : Prop := st.1 1 = nI n ∧ n ≤ 3 ∧ st.1 6 = nI np ∧ np ≤ 20 ∧ Kp n np K ∧ (∀ st', eqB st st' → K (fBegin st')) ∧ (∀ st', eqB st st' → ∀ k, k < n → rgT (bgI (bgS st'.1) st'.2 3) k) ∧
  ∀ q, q < 4 → ∃ z, z ≤ 6 ∧ st.2 8 q = nI z ∧ (∀ k, k < z → ∃ N, N < 2 ^ 31 ∧ st.2 10 (6 * q + k) = nI N) ∧ ∀ k, k < z → -3 ≤ st.2 9 (6 * q + k) ∧ st.2 9 (6 * q + k) ≤ 3
theorem bk_sc {sc sc0 : Nat → Int32} {ar0 : Nat → Nat → Int32} (h : ∀ j, j ≠ 7 → j ≠ 8 → j ≠ 9 → j ≠ 10 → j ≠ 11 → j ≠ 12 → sc j = sc0 j) (h12 : sc0 12 = nI (cnt (ar0 17))) : bkS sc sc0 ar0 = sc0 := by
  funext j
  unfold bkS
  by_cases e12 : j = 12
  · rw [e12, up_s, h12]
  rw [up_n _ _ e12]
  by_cases e8 : j = 8
  · rw [e8, up_s]
  rw [up_n _ _ e8]
  by_cases e11 : j = 11
  · rw [e11, up_s]
  rw [up_n _ _ e11]
  by_cases e10 : j = 10
  · rw [e10, up_s]
  rw [up_n _ _ e10]
  by_cases e9 : j = 9
  · rw [e9, up_s]
  rw [up_n _ _ e9]
  by_cases e7 : j = 7
  · rw [e7, up_s]
  rw [up_n _ _ e7]
  exact h j e7 e8 e9 e10 e11 e12
theorem bk_ar {ar ar0 : Nat → Nat → Int32} {f g : Nat → Int32} (h : ∀ i, i ≠ 12 → i ≠ 13 → i ≠ 14 → i ≠ 15 → i ≠ 16 → i ≠ 17 → i ≠ 18 → i ≠ 19 → ar i = ar0 i) : bkA (va_up (va_up ar 18 f) 19 g) ar0 = va_up (va_up ar0 18 f) 19 g := by
  funext i
  unfold bkA
  by_cases e17 : i = 17
  · rw [e17, up_s, up_n _ _ (by decide), up_n _ _ (by decide)]
  rw [up_n _ _ e17]
  by_cases e16 : i = 16
  · rw [e16, up_s, up_n _ _ (by decide), up_n _ _ (by decide)]
  rw [up_n _ _ e16]
  by_cases e15 : i = 15
  · rw [e15, up_s, up_n _ _ (by decide), up_n _ _ (by decide)]
  rw [up_n _ _ e15]
  by_cases e14 : i = 14
  · rw [e14, up_s, up_n _ _ (by decide), up_n _ _ (by decide)]
  rw [up_n _ _ e14]
  by_cases e13 : i = 13
  · rw [e13, up_s, up_n _ _ (by decide), up_n _ _ (by decide)]
  rw [up_n _ _ e13]
  by_cases e12 : i = 12
  · rw [e12, up_s, up_n _ _ (by decide), up_n _ _ (by decide)]
  rw [up_n _ _ e12]
  by_cases e19 : i = 19
  · rw [e19, up_s, up_s]
  rw [up_n _ _ e19, up_n _ _ e19]
  by_cases e18 : i = 18
  · rw [e18, up_s, up_s]
  rw [up_n _ _ e18, up_n _ _ e18]
  exact h i e12 e13 e14 e15 e16 e17 e18 e19
def fTold (ar : Nat → Nat → Int32) (k : Nat) (a2 : Int32) : Int32 := if 2 ≤ a2 then (if a2 = 2 then ar 14 k else if a2 = 3 then p_ask (ar 14) k else ar 16 k) else if a2 = 0 then ar 12 k else ar 13 k
def fCorner (ar : Nat → Nat → Int32) (k : Nat) (a2 a3 : Int32) : Int32 :=
  if a3 = 0 then (ar 12 k + (if 2 ≤ a2 then -ar 4 k else ar 3 k) * p_dx (ar 14 k)) - (if a2 = 0 ∨ a2 = 3 then ar 5 k else -ar 5 k) * p_dy (ar 14 k)
  else (ar 13 k + (if 2 ≤ a2 then -ar 4 k else ar 3 k) * p_dy (ar 14 k)) + (if a2 = 0 ∨ a2 = 3 then ar 5 k else -ar 5 k) * p_dx (ar 14 k)
