/-! A run's step: pure rows. -/
def swA (ar : Nat → Nat → Int32) (way sl : Int32) (b : Nat) : Nat → Nat → Int32 :=
  va_up (va_up (va_up ar 15 (upd (ar 15) b (mvR ar way sl b))) 14 (upd (ar 14) b ((ar 14 b + mvR ar way sl b / ar 1 b) &&& 63))) 15 (upd (upd (ar 15) b (mvR ar way sl b)) b (mvR ar way sl b - mvR ar way sl b / ar 1 b * ar 1 b))
theorem mvB_sw (ar : Nat → Nat → Int32) (way sl : Int32) (b : Nat) : mvB ar way sl b = fHang (swA ar way sl b) b := rfl
theorem ask_s (hd : Nat → Int32) (i : Nat) : p_ask hd (i + 1) = p_wr (hd i - hd (i + 1)) := by unfold p_ask; rw [if_neg (by omega)]; rfl
theorem mvR_s (ar : Nat → Nat → Int32) (way sl : Int32) (i : Nat) : mvR ar way sl (i + 1) = ar 15 (i + 1) + p_wr (ar 14 i - ar 14 (i + 1)) * (way * sl) := by
  unfold mvR; rw [ask_s, Int32.mul_comm way, Int32.mul_assoc]
section XRS
variable {G : GG} {rb n : Nat} {md : Int32} {rd sd : Nat → Nat} {w0 : WF} {sc : Nat → Int32} {ar : Nat → Nat → Int32} {b : Bt}
theorem rW_b1 {i : Nat} (hk : i + 1 < n) : rW G rb n md rd sd w0 sc ar b (rb + 5 + (i + 1)) = some (rd (5 + (i + 1)), .inr (2, [.ref (sd (20 + (i + 1))), .ref (rd (5 + i)), .int (ar 12 (i + 1)), .int (ar 13 (i + 1)), .int (ar 14 (i + 1)), .int (ar 15 (i + 1)), .int (ar 16 (i + 1))])) := by
  rw [rW_b hk]; unfold bFs bfV; rw [if_neg (by omega), show 4 + (i + 1) = 5 + i by omega]
theorem rW_swing {i : Nat} (hk : i + 1 < n) (way sl : Int32) : va_up (rW G rb n md rd sd w0 sc ar b) (rb + 5 + (i + 1)) (some (rd (5 + (i + 1)), .inr (2, [.ref (sd (20 + (i + 1))), .ref (rd (5 + i)), .int (ar 12 (i + 1)), .int (ar 13 (i + 1)), .int ((ar 14 (i + 1) + (ar 15 (i + 1) + p_wr (ar 14 i - ar 14 (i + 1)) * (way * sl)) / ar 1 (i + 1)) &&& 63), .int ((ar 15 (i + 1) + p_wr (ar 14 i - ar 14 (i + 1)) * (way * sl)) - (ar 15 (i + 1) + p_wr (ar 14 i - ar 14 (i + 1)) * (way * sl)) / ar 1 (i + 1) * ar 1 (i + 1)), .int (ar 16 (i + 1))]))) = rW G rb n md rd sd w0 sc (swA ar way sl (i + 1)) b := by
  refine rW_up hk ?_ (fun j hj hjk => bFs_n (fun i' _ _ => ?_))
  · unfold bFs bfV; rw [if_neg (by omega), show 4 + (i + 1) = 5 + i by omega, ← mvR_s]
    simp [swA, va_up, upd]
  · unfold swA
    by_cases e : i' = 15
    · subst e; rw [up_s]; simp [upd, hjk]
    · rw [up_n _ _ e]
      by_cases e : i' = 14
      · subst e; rw [up_s]; simp [upd, hjk]
      · rw [up_n _ _ e, up_n _ _ (by assumption)]
theorem rW_follow {i : Nat} (hk : i + 1 < n) : va_up (rW G rb n md rd sd w0 sc ar b) (rb + 5 + (i + 1)) (some (rd (5 + (i + 1)), .inr (2, [.ref (sd (20 + (i + 1))), .ref (rd (5 + i)), .int ((ar 12 i - ar 2 i * p_dx (ar 14 i)) - ar 1 (i + 1) * p_dx (ar 14 (i + 1))), .int ((ar 13 i - ar 2 i * p_dy (ar 14 i)) - ar 1 (i + 1) * p_dy (ar 14 (i + 1))), .int (ar 14 (i + 1)), .int (ar 15 (i + 1)), .int (ar 16 (i + 1))]))) = rW G rb n md rd sd w0 sc (fHang ar (i + 1)) b := by
  refine rW_up hk ?_ (fun j hj hjk => bFs_n (fun i' _ _ => ?_))
  · unfold bFs bfV; rw [if_neg (by omega), show 4 + (i + 1) = 5 + i by omega]
    simp [fHang, vHx, vHy, va_up, upd]
  · unfold fHang
    by_cases e : i' = 13
    · subst e; rw [up_s]; simp [upd, hjk]
    · rw [up_n _ _ e]
      by_cases e : i' = 12
      · subst e; rw [up_s]; simp [upd, hjk]
      · rw [up_n _ _ e]
end XRS
theorem abs_sz (ar : Nat → Nat → Int32) (b : Nat) : p_abs (p_ask (ar 14) b) = szB ar b := by
  unfold p_abs szB
  by_cases h : 0 ≤ p_ask (ar 14) b
  · rw [if_pos h, if_neg (Int32.not_lt.mpr h)]
  · rw [if_neg h, if_pos (Int32.not_le.mp h)]
def b01 (x : Int32) : Prop := x = 0 ∨ x = 1
theorem or01 {x : Int32} (hx : b01 x) (P : Prop) [Decidable P] : x ||| (if P then (1 : Int32) else 0) = if ¬ x = 0 ∨ P then 1 else 0 := by
  rcases hx with h | h <;> subst h <;> by_cases hp : P <;> simp [hp]
theorem b01_n {x : Int32} (h : b01 x) : narrow .boolean (.int x) = .int x := by rcases h with h | h <;> (subst h; rfl)
theorem b01_f {x : Int32} (h : b01 x) : fits .boolean (.int x) = true := by rcases h with h | h <;> (subst h; rfl)
theorem b01_ite (P : Prop) [Decidable P] : b01 (if P then 1 else 0) := by by_cases h : P <;> simp [b01, h]
theorem grI_8 (st : SA) (b : Nat) (h : b01 (st.1 8)) : b01 ((grI st b).1 8) := by
  cases b with
  | zero => rw [grI]; exact h
  | succ b => rw [grI_s]; unfold grB; dsimp only; rw [up_s]; exact b01_ite _
