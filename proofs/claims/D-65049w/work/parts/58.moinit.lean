/-! The twin's constructor: its world half laid. -/
def pW (G : GG) (ad : Nat → Nat) (w0 : WF) (a : Nat) (fs : List Value) (k : Nat) : WF := fun n =>
  if n = 1000 then some (a, .inr (5, fs))
  else if 1001 ≤ n ∧ n < 1001 + k then some (ad (n - 1001), .inl (G.2.1 (mC (n - 1001)), mN (n - 1001), .inl (if n = 1001 then cosT else fun _ => 0)))
  else w0 n
section XPW
variable {G : GG} {ad : Nat → Nat} {w0 : WF} {a : Nat} {fs fs' : List Value} {k : Nat}
theorem pW_o : pW G ad w0 a fs k 1000 = some (a, .inr (5, fs)) := by simp [pW]
theorem pW_put {fs0 : List Value} (h : fs = fs') : va_up (pW G ad w0 a fs0 k) 1000 (some (a, .inr (5, fs))) = pW G ad w0 a fs' k := by
  subst h
  funext n
  by_cases e : n = 1000
  · subst e; rw [up_s, pW_o]
  · rw [up_n _ _ e]; unfold pW; rw [if_neg e, if_neg e]
theorem pW_new {d c N : Nat} (hk : 1 ≤ k) (hc : mC k = c) (hN : mN k = N) : va_up (pW G ad w0 a fs k) (1001 + k) (some (d, .inl (G.2.1 c, N, .inl (fun _ => 0)))) = pW G (va_up ad k d) w0 a fs (k + 1) := by
  subst hc; subst hN
  funext n
  by_cases e : n = 1001 + k
  · subst e
    rw [up_s]; unfold pW
    rw [if_neg (by omega), if_pos (by omega), if_neg (by omega), show 1001 + k - 1001 = k by omega, up_s]
  · rw [up_n _ _ e]; unfold pW
    by_cases e0 : n = 1000
    · rw [if_pos e0, if_pos e0]
    rw [if_neg e0, if_neg e0]
    by_cases e1 : 1001 ≤ n ∧ n < 1001 + k
    · rw [if_pos e1, if_pos (show 1001 ≤ n ∧ n < 1001 + (k + 1) by omega), up_n _ _ (by omega)]
    · rw [if_neg e1, if_neg (show ¬ (1001 ≤ n ∧ n < 1001 + (k + 1)) by omega)]
theorem pW_mW {sc : Nat → Int32} (ha : ad 20 = a) (hfs : fs = mFs ad sc) : pW G ad w0 a fs 20 = mW G ad w0 sc (fun _ _ => 0) := by
  subst hfs
  funext n
  unfold pW mW
  by_cases e0 : n = 1000
  · rw [if_pos e0, if_pos e0, ha]
  rw [if_neg e0, if_neg e0]
  by_cases e1 : n = 1001
  · subst e1; rw [if_pos (by decide), if_pos rfl, if_pos rfl]; rfl
  rw [if_neg e1]
  by_cases e2 : 1001 < n ∧ n < 1021
  · rw [if_pos (show 1001 ≤ n ∧ n < 1001 + 20 by omega), if_neg e1, if_pos e2]
  · rw [if_neg (show ¬ (1001 ≤ n ∧ n < 1001 + 20) by omega), if_neg e1, if_neg e2]
end XPW
