/-! The component's own world: shapes, poles, plans. -/
def shD (sd : Nat → Nat) (n : Nat) : Nat → Option Nat := fun k => if k < n then some (sd (20 + k)) else none
def plD (sd : Nat → Nat) : Nat → Option Nat := fun q => if q < 4 then some (sd (10 + q)) else none
def paD (sd : Nat → Nat) (q z : Nat) : Nat → Option Nat := fun k => if k < z then some (sd (30 + 6 * q + k)) else none
def paFs (ar : Nat → Nat → Int32) (i : Nat) : List Value := [.int (ar 9 i), .int (ar 10 i), .int (ar 11 i)]
/-- md: the lists' counts of changes (0 shapes, 1 plans, 2 + q plan q); fl q: plan q has its own table; mn q: its parts -/
def spW (G : GG) (sd : Nat → Nat) (rv : Value) (n : Nat) (md : Nat → Int32) (fl mn : Nat → Nat) (sc : Nat → Int32) (ar : Nat → Nat → Int32) (w0 : WF) : WF := fun m =>
  if m = 0 then some (sd 0, .inr (0, spFs sd rv sc))
  else if m = 1 then some (sd 1, .inl (G.2.1 0, 20, .inl (ar 6)))
  else if m = 2 then some (sd 2, .inl (G.2.1 0, 20, .inl (ar 7)))
  else if m = 3 then some (sd 3, .inr (6, [.ref (if n = 0 then G.2.2 1 else sd 4), .int (nI n), .int (md 0)]))
  else if m = 4 then (if n = 0 then none else some (sd 4, .inl (G.2.1 3, 10, .inr (.inr (.inr (.inr (shD sd n)))))))
  else if m = 5 then some (sd 5, .inr (6, [.ref (sd 6), .int (nI 4), .int (md 1)]))
  else if m = 6 then some (sd 6, .inl (G.2.1 3, 10, .inr (.inr (.inr (.inr (plD sd))))))
  else if 10 ≤ m ∧ m < 14 then some (sd m, .inr (6, [.ref (if fl (m - 10) = 0 then G.2.2 1 else sd (m + 4)), .int (nI (mn (m - 10))), .int (md (2 + (m - 10)))]))
  else if 14 ≤ m ∧ m < 18 then (if fl (m - 14) = 0 then none else some (sd m, .inl (G.2.1 3, 10, .inr (.inr (.inr (.inr (paD sd (m - 14) (mn (m - 14)))))))))
  else if 20 ≤ m ∧ m < 20 + n then some (sd m, .inr (1, shFs ar (m - 20)))
  else if 30 ≤ m ∧ m < 54 ∧ (m - 30) % 6 < mn ((m - 30) / 6) then some (sd m, .inr (3, paFs ar (m - 30)))
  else w0 m
section XSP
variable {G : GG} {sd : Nat → Nat} {rv : Value} {n : Nat} {md : Nat → Int32} {fl mn : Nat → Nat} {sc : Nat → Int32} {ar : Nat → Nat → Int32} {w0 : WF}
theorem sp_0 : spW G sd rv n md fl mn sc ar w0 0 = some (sd 0, .inr (0, spFs sd rv sc)) := by simp [spW]
theorem sp_1 : spW G sd rv n md fl mn sc ar w0 1 = some (sd 1, .inl (G.2.1 0, 20, .inl (ar 6))) := by simp [spW]
theorem sp_2 : spW G sd rv n md fl mn sc ar w0 2 = some (sd 2, .inl (G.2.1 0, 20, .inl (ar 7))) := by simp [spW]
theorem sp_3 : spW G sd rv n md fl mn sc ar w0 3 = some (sd 3, .inr (6, [.ref (if n = 0 then G.2.2 1 else sd 4), .int (nI n), .int (md 0)])) := by simp [spW]
theorem sp_4 (h : 0 < n) : spW G sd rv n md fl mn sc ar w0 4 = some (sd 4, .inl (G.2.1 3, 10, .inr (.inr (.inr (.inr (shD sd n)))))) := by simp [spW]; omega
theorem sp_5 : spW G sd rv n md fl mn sc ar w0 5 = some (sd 5, .inr (6, [.ref (sd 6), .int (nI 4), .int (md 1)])) := by simp [spW]
theorem sp_6 : spW G sd rv n md fl mn sc ar w0 6 = some (sd 6, .inl (G.2.1 3, 10, .inr (.inr (.inr (.inr (plD sd)))))) := by simp [spW]
theorem sp_p {q : Nat} (h : q < 4) : spW G sd rv n md fl mn sc ar w0 (10 + q) = some (sd (10 + q), .inr (6, [.ref (if fl q = 0 then G.2.2 1 else sd (14 + q)), .int (nI (mn q)), .int (md (2 + q))])) := by
  unfold spW
  rw [if_neg (by omega), if_neg (by omega), if_neg (by omega), if_neg (by omega), if_neg (by omega), if_neg (by omega), if_neg (by omega), if_pos (by omega), show 10 + q - 10 = q by omega, show 10 + q + 4 = 14 + q by omega]
theorem sp_d {q : Nat} (h : q < 4) (hf : ¬ fl q = 0) : spW G sd rv n md fl mn sc ar w0 (14 + q) = some (sd (14 + q), .inl (G.2.1 3, 10, .inr (.inr (.inr (.inr (paD sd q (mn q))))))) := by
  unfold spW
  rw [if_neg (by omega), if_neg (by omega), if_neg (by omega), if_neg (by omega), if_neg (by omega), if_neg (by omega), if_neg (by omega), if_neg (by omega), if_pos (by omega), show 14 + q - 14 = q by omega, if_neg hf]
theorem sp_s {k : Nat} (h : k < n) (hn : n ≤ 3) : spW G sd rv n md fl mn sc ar w0 (20 + k) = some (sd (20 + k), .inr (1, shFs ar k)) := by
  unfold spW
  rw [if_neg (by omega), if_neg (by omega), if_neg (by omega), if_neg (by omega), if_neg (by omega), if_neg (by omega), if_neg (by omega), if_neg (by omega), if_neg (by omega), if_pos (by omega), show 20 + k - 20 = k by omega]
theorem sp_a {q k : Nat} (hq : q < 4) (hk : k < mn q) (h6 : mn q ≤ 6) (hn : n ≤ 3) : spW G sd rv n md fl mn sc ar w0 (30 + 6 * q + k) = some (sd (30 + 6 * q + k), .inr (3, paFs ar (6 * q + k))) := by
  unfold spW
  have e1 : (30 + 6 * q + k - 30) / 6 = q := by omega
  have e2 : (30 + 6 * q + k - 30) % 6 = k := by omega
  rw [if_neg (by omega), if_neg (by omega), if_neg (by omega), if_neg (by omega), if_neg (by omega), if_neg (by omega), if_neg (by omega), if_neg (by omega), if_neg (by omega), if_neg (by omega), if_pos (by rw [e1, e2]; exact ⟨by omega, by omega, hk⟩), show 30 + 6 * q + k - 30 = 6 * q + k by omega]
theorem sp_w {m : Nat} (h : 60 ≤ m) (hn : n ≤ 3) : spW G sd rv n md fl mn sc ar w0 m = w0 m := by
  unfold spW
  rw [if_neg (by omega), if_neg (by omega), if_neg (by omega), if_neg (by omega), if_neg (by omega), if_neg (by omega), if_neg (by omega), if_neg (by omega), if_neg (by omega), if_neg (by omega), if_neg (by omega)]
theorem sp_L (hn : n ≤ 3) : spL G (spW G sd rv n md fl mn sc ar w0) sd rv n sc ar := ⟨sp_0, sp_1, sp_2, fun k hk => sp_s hk hn⟩
/-- the world sees the start, the step and the poles alone -/
theorem sp_sc {sc' : Nat → Int32} (h : ∀ j, 2 ≤ j → j ≤ 6 → sc' j = sc j) : spW G sd rv n md fl mn sc' ar w0 = spW G sd rv n md fl mn sc ar w0 := by
  have e : spFs sd rv sc' = spFs sd rv sc := by unfold spFs; rw [h 2 (by decide) (by decide), h 3 (by decide) (by decide), h 4 (by decide) (by decide), h 5 (by decide) (by decide), h 6 (by decide) (by decide)]
  unfold spW; rw [e]
theorem sp_ar {ar' : Nat → Nat → Int32} (h : ∀ i, 1 ≤ i → i ≤ 11 → ar' i = ar i) : spW G sd rv n md fl mn sc ar' w0 = spW G sd rv n md fl mn sc ar w0 := by
  have e1 : ∀ k, shFs ar' k = shFs ar k := fun k => by unfold shFs; rw [h 1 (by decide) (by decide), h 2 (by decide) (by decide), h 3 (by decide) (by decide), h 4 (by decide) (by decide), h 5 (by decide) (by decide)]
  have e2 : ∀ k, paFs ar' k = paFs ar k := fun k => by unfold paFs; rw [h 9 (by decide) (by decide), h 10 (by decide) (by decide), h 11 (by decide) (by decide)]
  funext m
  unfold spW; rw [h 6 (by decide) (by decide), h 7 (by decide) (by decide), e1, e2]
/-- the component's own fields set -/
theorem sp_put {rv' : Value} {sc' : Nat → Int32} {fs : List Value} (h : fs = spFs sd rv' sc') : va_up (spW G sd rv n md fl mn sc ar w0) 0 (some (sd 0, .inr (0, fs))) = spW G sd rv' n md fl mn sc' ar w0 := by
  subst h
  funext m
  by_cases e : m = 0
  · subst e; rw [up_s, sp_0]
  · rw [up_n _ _ e]; unfold spW; rw [if_neg e, if_neg e]
theorem sp_pX (f : Nat → Int32) : va_up (spW G sd rv n md fl mn sc ar w0) 1 (some (sd 1, .inl (G.2.1 0, 20, .inl f))) = spW G sd rv n md fl mn sc (va_up ar 6 f) w0 := by
  funext m
  by_cases e : m = 1
  · subst e; rw [up_s, sp_1, up_s]
  · rw [up_n _ _ e]; unfold spW; rw [if_neg e, if_neg e]; rfl
theorem sp_pY (f : Nat → Int32) : va_up (spW G sd rv n md fl mn sc ar w0) 2 (some (sd 2, .inl (G.2.1 0, 20, .inl f))) = spW G sd rv n md fl mn sc (va_up ar 7 f) w0 := by
  funext m
  by_cases e : m = 2
  · subst e; rw [up_s, sp_2, up_s]
  · rw [up_n _ _ e]; unfold spW; rw [if_neg e, if_neg e]; rfl
end XSP
/-- a run over another base world -/
theorem rW_base {G : GG} {rb n : Nat} {md : Int32} {rd sd sd' : Nat → Nat} {w0 w1 : WF} {sc : Nat → Int32} {ar : Nat → Nat → Int32} {b : Bt} {m : Nat} {c : Option (Nat × va_E)} (hn : n ≤ 3) (hm : m < rb) (h0 : sd' 0 = sd 0) (hs : ∀ k, k < n → sd' (20 + k) = sd (20 + k)) (h : va_up w0 m c = w1) :
    va_up (rW G rb n md rd sd w0 sc ar b) m c = rW G rb n md rd sd' w1 sc ar b := by
  subst h
  have e0 : rFs rd sd' sc = rFs rd sd sc := by unfold rFs; rw [h0]
  have eb : ∀ k, k < n → bFs rd sd' ar k = bFs rd sd ar k := fun k hk => by unfold bFs; rw [hs k hk]
  funext x
  by_cases e : x = m
  · subst e
    rw [up_s, rW_0 (Or.inl hm) hn, up_s]
  · rw [up_n _ _ e]
    unfold rW
    rw [e0]
    by_cases h5 : rb + 5 ≤ x ∧ x < rb + 5 + n
    · rw [if_neg (by omega), if_neg (by omega), if_neg (by omega), if_neg (by omega), if_neg (by omega), if_pos h5, if_neg (by omega), if_neg (by omega), if_neg (by omega), if_neg (by omega), if_neg (by omega), if_pos h5, eb _ (by omega)]
    · rw [if_neg h5, if_neg h5, up_n _ _ e]
