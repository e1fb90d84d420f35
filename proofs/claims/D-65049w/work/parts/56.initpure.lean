/-! The component's constructor: pure rows. -/
def sI : Nat → Int32 := fun j => if j = 5 then 4 else if j = 9 ∨ j = 10 ∨ j = 11 then -1 else 0
def aI : Nat → Nat → Int32 := fun _ _ => 0
def msI : Nat → Int32 := fun j => if j = 1 then 4 else 0
section XI
variable {G : GG} {sd rd2 : Nat → Nat} {rv : Value} {ms : Nat → Int32} {fl mn : Nat → Nat} {sc1 sc2 : Nat → Int32} {ar1 ar2 : Nat → Nat → Int32} {b2 : Bt} {w0 : WF} {n' : Nat}
theorem new_less0 {a rb2 : Nat} {c0 : Option (Nat × va_E)} {fs : List Value} (hn' : n' ≤ 3) (hrb2 : rb2 = 100 ∨ rb2 = 200) (hw : ∀ m, 100 ≤ m → m < 300 → w0 m = none) (ha : rd2 0 = a)
    (h1 : ∀ j, 2 ≤ j → j ≤ 6 → sc2 j = sc1 j) (h2 : ∀ i, 1 ≤ i → i ≤ 11 → ar2 i = ar1 i) (hfs : fs = (spFs sd rv sc1).set 9 (.ref a)) (m : Nat) (q : Nat × va_E)
    (h : cW G rb2 n' (nI n') rd2 sd ms fl mn sc2 ar2 b2 w0 m = some q) : va_up (rW G rb2 n' (nI n') rd2 sd (va_up (spW G sd rv n' ms fl mn sc1 ar1 w0) rb2 c0) sc2 ar2 b2) 0 (some (sd 0, .inr (0, fs))) m = some q := by
  unfold cW at h
  by_cases e0 : m = 0
  · subst e0
    rw [up_s]
    rw [rW_out hn' (by omega), sp_0] at h
    rw [← h, hfs, ← ha]
    unfold spFs
    rw [h1 2 (by decide) (by decide), h1 3 (by decide) (by decide), h1 4 (by decide) (by decide), h1 5 (by decide) (by decide), h1 6 (by decide) (by decide)]
    rfl
  · rw [up_n _ _ e0]
    by_cases e1 : rb2 ≤ m ∧ m < rb2 + 8
    · refine rW_in e1 ?_ h
      rw [sp_w (by omega) hn', hw m (by omega) (by omega)]
    · rw [rW_out hn' e1] at h ⊢
      rw [up_n _ _ (by omega)]
      rw [sp_ar h2] at h
      rw [← h]
      unfold spW
      rw [if_neg e0, if_neg e0]
end XI
