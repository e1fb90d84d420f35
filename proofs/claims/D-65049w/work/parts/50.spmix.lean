/-! The component's world under its writing methods. -/
section XM2
variable {G : GG} {rb rb2 n n' : Nat} {md : Int32} {rd rd2 sd : Nat → Nat} {rv : Value} {ms : Nat → Int32} {fl mn : Nat → Nat} {sc1 sc2 sc1' sc2' : Nat → Int32} {ar1 ar2 ar1' ar2' : Nat → Nat → Int32} {b b2 : Bt} {w0 : WF}
theorem cw_mix (h1 : ∀ j, 2 ≤ j → j ≤ 6 → sc1' j = sc1 j) (h2 : ∀ i, 1 ≤ i → i ≤ 11 → ar1' i = ar1 i) (h3 : ∀ j, 7 ≤ j → j ≤ 11 → sc2' j = sc2 j) (h4 : ∀ i, 12 ≤ i → i ≤ 16 → ∀ k, k < n → ar2' i k = ar2 i k) :
    rW G rb n md rd sd (spW G sd rv n' ms fl mn sc1' ar1' w0) sc2' ar2' b = rW G rb n md rd sd (spW G sd rv n' ms fl mn sc1 ar1 w0) sc2 ar2 b := by
  rw [sp_sc h1, sp_ar h2, rW_sc (rFs_n h3), rW_ar (fun k hk => bFs_n (fun i a1 a2 => h4 i a1 a2 k hk))]
theorem pc6_le (L : Nat) : pc6 L ≤ 6 := by unfold pc6; repeat' split
                                           all_goals omega
theorem ps6_le (L : Nat) : ps6 L ≤ 256 := by unfold ps6; split <;> omega
/-- where a run has cells of its own -/
theorem rW_in {w1 w2 : WF} {m : Nat} {q : Nat × va_E} (hm : rb ≤ m ∧ m < rb + 8) (h0 : w1 m = none) (h : rW G rb n md rd sd w1 sc2 ar2 b m = some q) : rW G rb n md rd sd w2 sc2 ar2 b m = some q := by
  unfold rW at h ⊢
  by_cases e0 : m = rb
  · rw [if_pos e0] at h ⊢; exact h
  rw [if_neg e0] at h ⊢
  by_cases e1 : m = rb + 1
  · rw [if_pos e1] at h ⊢; exact h
  rw [if_neg e1] at h ⊢
  by_cases e2 : m = rb + 2
  · rw [if_pos e2] at h ⊢; exact h
  rw [if_neg e2] at h ⊢
  by_cases e3 : m = rb + 3
  · rw [if_pos e3] at h ⊢; exact h
  rw [if_neg e3] at h ⊢
  by_cases e4 : m = rb + 4
  · rw [if_pos e4] at h ⊢; exact h
  rw [if_neg e4] at h ⊢
  by_cases e5 : rb + 5 ≤ m ∧ m < rb + 5 + n
  · rw [if_pos e5] at h ⊢; exact h
  · rw [if_neg e5, h0] at h; cases h
theorem rW_out {w1 : WF} {m : Nat} (hn : n ≤ 3) (hm : ¬ (rb ≤ m ∧ m < rb + 8)) : rW G rb n md rd sd w1 sc2 ar2 b m = w1 m := rW_0 (by omega) hn
/-- behind a new run: the old one is forgotten -/
theorem new_less {a : Nat} {sc : Nat → Int32} {ar : Nat → Nat → Int32} {c0 : Option (Nat × va_E)} {fs : List Value} (hn : n ≤ 3) (hn' : n' ≤ 3) (hrb : rb = 100 ∨ rb = 200) (hrb2 : rb2 = 300 - rb) (hw : ∀ m, 100 ≤ m → m < 300 → w0 m = none) (ha : rd2 0 = a)
    (h1 : ∀ j, 2 ≤ j → j ≤ 6 → sc2 j = sc1 j) (h2 : ∀ i, 1 ≤ i → i ≤ 11 → ar2 i = ar1 i) (hfs : fs = (spFs sd rv sc1).set 9 (.ref a)) (m : Nat) (q : Nat × va_E)
    (h : cW G rb2 n' (nI n') rd2 sd ms fl mn sc2 ar2 b2 w0 m = some q) : va_up (rW G rb2 n' (nI n') rd2 sd (va_up (rW G rb n md rd sd (spW G sd rv n' ms fl mn sc1 ar1 w0) sc ar b) rb2 c0) sc2 ar2 b2) 0 (some (sd 0, .inr (0, fs))) m = some q := by
  unfold cW at h
  by_cases e0 : m = 0
  · subst e0
    rw [up_s]
    rw [rW_out hn' (by omega), sp_0] at h
    rw [← h, hfs, ← ha]
    unfold spFs
    rw [h1 2 (by decide) (by decide), h1 3 (by decide) (by decide), h1 4 (by decide) (by decide), h1 5 (by decide) (by decide), h1 6 (by decide) (by decide)]
    rfl
  · rw [up_n _ _ e0]
    by_cases e1 : rb2 ≤ m ∧ m < rb2 + 8
    · refine rW_in e1 ?_ h
      rw [sp_w (by omega) hn', hw m (by omega) (by omega)]
    · rw [rW_out hn' e1] at h ⊢
      rw [up_n _ _ (by omega)]
      by_cases e2 : rb ≤ m ∧ m < rb + 8
      · rw [sp_w (by omega) hn', hw m (by omega) (by omega)] at h; cases h
      · rw [rW_out hn e2]
        rw [sp_ar h2] at h
        rw [← h]
        unfold spW
        rw [if_neg e0, if_neg e0]
/-- a run that was gone apart is forgotten -/
theorem gone_less {sc : Nat → Int32} {ar : Nat → Nat → Int32} {c0 : Option (Nat × va_E)} (hn : n ≤ 3) (hrb : rb = 100 ∨ rb = 200) (hrb2 : rb2 = 300 - rb) (hw : ∀ m, 100 ≤ m → m < 300 → w0 m = none) (m : Nat) (q : Nat × va_E)
    (h : cW G rb n md rd sd ms fl mn sc ar b w0 m = some q) : rW G rb2 n (nI n) rd2 sd (va_up (cW G rb n md rd sd ms fl mn sc ar b w0) rb2 c0) sc2 ar2 b2 m = some q := by
  unfold cW at h ⊢
  by_cases e1 : rb2 ≤ m ∧ m < rb2 + 8
  · rw [rW_out hn (by omega), sp_w (by omega) hn, hw m (by omega) (by omega)] at h; cases h
  · rw [rW_out hn e1, up_n _ _ (by omega)]; exact h
theorem spL_up {x : WF} {m : Nat} {c : Option (Nat × va_E)} {sc : Nat → Int32} {ar : Nat → Nat → Int32} (h : spL G x sd rv n sc ar) (hm : 60 ≤ m) (hn : n ≤ 3) : spL G (va_up x m c) sd rv n sc ar :=
  ⟨(up_n _ _ (by omega)).trans h.1, (up_n _ _ (by omega)).trans h.2.1, (up_n _ _ (by omega)).trans h.2.2.1, fun k hk => (up_n _ _ (by omega)).trans (h.2.2.2 k hk)⟩
theorem spL_rW {x : WF} {sc : Nat → Int32} {ar : Nat → Nat → Int32} (h : spL G x sd rv n' sc ar) (hrb : 100 ≤ rb) (hn : n ≤ 3) (hn' : n' ≤ 3) : spL G (rW G rb n md rd sd x sc2 ar2 b) sd rv n' sc ar :=
  ⟨(rW_out hn (by omega)).trans h.1, (rW_out hn (by omega)).trans h.2.1, (rW_out hn (by omega)).trans h.2.2.1, fun k hk => (rW_out hn (by omega)).trans (h.2.2.2 k hk)⟩
end XM2
