/-! Going on, plans, what is kept aside: pure. -/
theorem fLook_sc (st : SA) {j : Nat} (h9 : j ≠ 9) (h10 : j ≠ 10) (h11 : j ≠ 11) (h12 : j ≠ 12) : (fLook st).1 j = st.1 j := lookI_sc st _ h9 h10 h11 h12
theorem fLook_ar (st : SA) {i : Nat} (h : i ≠ 17) : (fLook st).2 i = st.2 i := lookI_ar st _ h
theorem fMove_sc (st : SA) (turn fw : Int32) {j : Nat} (h7 : j ≠ 7) (h8 : j ≠ 8) (h9 : j ≠ 9) (h10 : j ≠ 10) (h11 : j ≠ 11) (h12 : j ≠ 12) : (fMove st turn fw).1 j = st.1 j := by
  unfold fMove
  rw [fLook_sc _ h9 h10 h11 h12, grI_sc _ _ h8]
  exact up_n _ _ h7
theorem fMove_ar (st : SA) (turn fw : Int32) {i : Nat} (h12 : i ≠ 12) (h13 : i ≠ 13) (h14 : i ≠ 14) (h15 : i ≠ 15) (h16 : i ≠ 16) (h17 : i ≠ 17) : (fMove st turn fw).2 i = st.2 i := by
  unfold fMove
  rw [fLook_ar _ h17, grI_ar _ _ h16]
  dsimp only
  rw [mvI_n _ _ _ _ h12 h13 h14 h15, mvA_n _ _ _ _ h12 h13 h14]
theorem goI_s (st : SA) (turn fw : Int32) (f : Nat) : goI st turn fw (f + 1) = if st.1 8 = 0 ∧ st.1 7 < 4000 then goI (fMove st turn fw) turn fw f else st := by rw [goI]
theorem goI_sc (turn fw : Int32) (f : Nat) (st : SA) {j : Nat} (h7 : j ≠ 7) (h8 : j ≠ 8) (h9 : j ≠ 9) (h10 : j ≠ 10) (h11 : j ≠ 11) (h12 : j ≠ 12) : (goI st turn fw f).1 j = st.1 j := by
  induction f generalizing st with
  | zero => rw [goI]
  | succ f ih =>
    rw [goI_s]
    split
    · rw [ih, fMove_sc _ _ _ h7 h8 h9 h10 h11 h12]
    · rfl
theorem goI_ar (turn fw : Int32) (f : Nat) (st : SA) {i : Nat} (h12 : i ≠ 12) (h13 : i ≠ 13) (h14 : i ≠ 14) (h15 : i ≠ 15) (h16 : i ≠ 16) (h17 : i ≠ 17) : (goI st turn fw f).2 i = st.2 i := by
  induction f generalizing st with
  | zero => rw [goI]
  | succ f ih =>
    rw [goI_s]
    split
    · rw [ih, fMove_ar _ _ _ h12 h13 h14 h15 h16 h17]
    · rfl
theorem bgB_n (sc : Nat → Int32) (ar : Nat → Nat → Int32) (b : Nat) {i : Nat} (h12 : i ≠ 12) (h13 : i ≠ 13) (h14 : i ≠ 14) (h15 : i ≠ 15) (h16 : i ≠ 16) : bgB sc ar b i = ar i := by
  unfold bgB
  split
  · rw [fHang_n _ _ h12 h13, up_n _ _ h16, up_n _ _ h15, up_n _ _ h14]
  · rw [up_n _ _ h16, up_n _ _ h15, up_n _ _ h14]
theorem bgI_n (sc : Nat → Int32) (ar : Nat → Nat → Int32) (b : Nat) {i : Nat} (h12 : i ≠ 12) (h13 : i ≠ 13) (h14 : i ≠ 14) (h15 : i ≠ 15) (h16 : i ≠ 16) (h17 : i ≠ 17) : bgI sc ar b i = ar i := by
  induction b with
  | zero => rw [bgI]; unfold bgA; rw [up_n _ _ h13, up_n _ _ h12, up_n _ _ h17]
  | succ b ih => rw [bgI_s, bgB_n _ _ _ h12 h13 h14 h15 h16]; exact ih
theorem bgS_n (sc : Nat → Int32) {j : Nat} (h7 : j ≠ 7) (h8 : j ≠ 8) (h9 : j ≠ 9) (h10 : j ≠ 10) (h11 : j ≠ 11) (h12 : j ≠ 12) : bgS sc j = sc j := by
  unfold bgS
  rw [up_n _ _ h12, up_n _ _ h11, up_n _ _ h10, up_n _ _ h9, up_n _ _ h8, up_n _ _ h7]
theorem fBegin_sc (st : SA) {j : Nat} (h7 : j ≠ 7) (h8 : j ≠ 8) (h9 : j ≠ 9) (h10 : j ≠ 10) (h11 : j ≠ 11) (h12 : j ≠ 12) : (fBegin st).1 j = st.1 j := by
  unfold fBegin
  rw [fLook_sc _ h9 h10 h11 h12]
  exact bgS_n _ h7 h8 h9 h10 h11 h12
theorem fBegin_ar (st : SA) {i : Nat} (h12 : i ≠ 12) (h13 : i ≠ 13) (h14 : i ≠ 14) (h15 : i ≠ 15) (h16 : i ≠ 16) (h17 : i ≠ 17) : (fBegin st).2 i = st.2 i := by
  unfold fBegin
  rw [fLook_ar _ h17]
  exact bgI_n _ _ _ h12 h13 h14 h15 h16 h17
def plI (st : SA) (q : Nat) : Nat → SA
  | 0 => fBegin st
  | k + 1 => fGo (plI st q k) (st.2 9 (6 * q + k)) (st.2 10 (6 * q + k)) (st.2 11 (6 * q + k))
theorem plI_s (st : SA) (q k : Nat) : plI st q (k + 1) = fGo (plI st q k) (st.2 9 (6 * q + k)) (st.2 10 (6 * q + k)) (st.2 11 (6 * q + k)) := by rw [plI]
/-- the plan gone from the start on -/
def fPlan (st : SA) (q : Nat) : SA := plI st q (st.2 8 q).toNatClampNeg
theorem plI_sc (st : SA) (q k : Nat) {j : Nat} (h7 : j ≠ 7) (h8 : j ≠ 8) (h9 : j ≠ 9) (h10 : j ≠ 10) (h11 : j ≠ 11) (h12 : j ≠ 12) : (plI st q k).1 j = st.1 j := by
  induction k with
  | zero => rw [plI]; exact fBegin_sc st h7 h8 h9 h10 h11 h12
  | succ k ih => rw [plI_s]; unfold fGo; rw [goI_sc _ _ _ _ h7 h8 h9 h10 h11 h12]; exact ih
theorem plI_ar (st : SA) (q k : Nat) {i : Nat} (h12 : i ≠ 12) (h13 : i ≠ 13) (h14 : i ≠ 14) (h15 : i ≠ 15) (h16 : i ≠ 16) (h17 : i ≠ 17) : (plI st q k).2 i = st.2 i := by
  induction k with
  | zero => rw [plI]; exact fBegin_ar st h12 h13 h14 h15 h16 h17
  | succ k ih => rw [plI_s]; unfold fGo; rw [goI_ar _ _ _ _ h12 h13 h14 h15 h16 h17]; exact ih
/-- what a step of the twin asks -/
def mvH (n np : Nat) (turn fw : Int32) (st : SA) : Prop := st.1 1 = nI n ∧ n ≤ 3 ∧ st.1 6 = nI np ∧ np ≤ 20 ∧ ¬ st.1 7 + 1 = -1 ∧ Z01 (st.2 17) ∧ st.1 12 = nI (cnt (st.2 17)) ∧ (∀ k, k < n → ¬ st.2 1 k = 0) ∧
  ∀ k, k < n → rgT (grI (va_up st.1 7 (st.1 7 + 1), mvI (mvA st.1 st.2 turn (wayO fw)) (wayO fw) (st.1 5) (n - 1)) (n - 1)).2 k
/-- a property of states that steps keep, and that lets them go -/
def Kp (n np : Nat) (K : SA → Prop) : Prop := ∀ (st : SA) (turn fw : Int32), K st → (-3 ≤ turn ∧ turn ≤ 3) → st.1 7 < 4000 → mvH n np turn fw st ∧ K (fMove st turn fw)
theorem Kp.go {n np : Nat} {K : SA → Prop} (h : Kp n np K) {turn fw : Int32} (ht : -3 ≤ turn ∧ turn ≤ 3) (f : Nat) (st : SA) (h0 : K st) : K (goI st turn fw f) := by
  induction f generalizing st with
  | zero => rw [goI]; exact h0
  | succ f ih =>
    rw [goI_s]
    split
    · rename_i q; exact ih _ (h st turn fw h0 ht q.2).2
    · exact h0
def svN (sc : Nat → Int32) (ar : Nat → Nat → Int32) (j : Nat) : Int32 := match j with
  | 0 => ar 12 0 | 1 => ar 12 1 | 2 => ar 12 2 | 3 => ar 13 0 | 4 => ar 13 1 | 5 => ar 13 2 | 6 => ar 14 0 | 7 => ar 14 1 | 8 => ar 14 2 | 9 => ar 15 0 | 10 => ar 15 1 | 11 => ar 15 2
  | 12 => ar 16 0 | 13 => ar 16 1 | 14 => ar 16 2 | 15 => sc 7 | 16 => sc 9 | 17 => sc 10 | 18 => sc 11 | _ => if sc 8 = 0 then 0 else 1
def fKeep (sc : Nat → Int32) (ar : Nat → Nat → Int32) : Nat → Nat → Int32 := va_up (va_up ar 18 (svN sc ar)) 19 (ar 17)
/-- what putBack lays back of (sc0, ar0) into (sc, ar) -/
def bkS (sc sc0 : Nat → Int32) (ar0 : Nat → Nat → Int32) : Nat → Int32 := va_up (va_up (va_up (va_up (va_up (va_up sc 7 (sc0 7)) 9 (sc0 9)) 10 (sc0 10)) 11 (sc0 11)) 8 (sc0 8)) 12 (nI (cnt (ar0 17)))
def bkA (ar ar0 : Nat → Nat → Int32) : Nat → Nat → Int32 := va_up (va_up (va_up (va_up (va_up (va_up ar 12 (ar0 12)) 13 (ar0 13)) 14 (ar0 14)) 15 (ar0 15)) 16 (ar0 16)) 17 (ar0 17)
