/-! A shape more, a part more, a plan cleared: the component's world. -/
section XAD
variable {G : GG} {sd sd' : Nat → Nat} {rv : Value} {n : Nat} {ms ms' : Nat → Int32} {fl fl' mn mn' : Nat → Nat} {sc : Nat → Int32} {ar ar' : Nat → Nat → Int32} {w0 : WF}
/-- outside of some labels the world is the same -/
theorem sp_same {L : Nat → Prop} {n' : Nat} (hn' : n' ≤ 3) (hn : n ≤ n') (m : Nat) (hm : ¬ L m) (hsd : ∀ j, ¬ L j → sd' j = sd j) (l0 : ∀ j, j = 0 ∨ j = 1 ∨ j = 2 ∨ j = 5 ∨ j = 6 → ¬ L j) (l3 : L 3 ∨ (n' = n ∧ ms' 0 = ms 0 ∧ ¬ L 3 ∧ ¬ L 4)) (l4 : L 4 ∨ n' = n) (hms : ms' 1 = ms 1)
    (hp : ∀ q, q < 4 → L (10 + q) ∨ (fl' q = fl q ∧ mn' q = mn q ∧ ms' (2 + q) = ms (2 + q) ∧ (¬ L (14 + q) ∨ fl q = 0))) (hd : ∀ q, q < 4 → L (14 + q) ∨ (fl' q = fl q ∧ mn' q = mn q ∧ (∀ k, k < mn q → ¬ L (30 + 6 * q + k)) ∨ (fl q = 0 ∧ fl' q = 0))) (h10 : ∀ q, q < 4 → sd' (10 + q) = sd (10 + q)) (h3 : sd' 3 = sd 3)
    (hs : ∀ k, k < n' → L (20 + k) ∨ (k < n ∧ shFs ar' k = shFs ar k)) (hk4 : n' = n → sd' 4 = sd 4 ∧ ∀ k, k < n → sd' (20 + k) = sd (20 + k)) (ha : ∀ q k, q < 4 → k < 6 → L (30 + 6 * q + k) ∨ ((k < mn' q ↔ k < mn q) ∧ paFs ar' (6 * q + k) = paFs ar (6 * q + k))) (hmn : ∀ q, q < 4 → mn' q ≤ 6 ∧ mn q ≤ 6) (a6 : ar' 6 = ar 6) (a7 : ar' 7 = ar 7) :
    spW G sd rv n ms fl mn sc ar w0 m = spW G sd' rv n' ms' fl' mn' sc ar' w0 m := by
  have e0 : sd' 0 = sd 0 := hsd 0 (l0 0 (by simp))
  have e1 : sd' 1 = sd 1 := hsd 1 (l0 1 (by simp))
  have e2 : sd' 2 = sd 2 := hsd 2 (l0 2 (by simp))
  have e5 : sd' 5 = sd 5 := hsd 5 (l0 5 (by simp))
  have e6 : sd' 6 = sd 6 := hsd 6 (l0 6 (by simp))
  unfold spW
  by_cases c0 : m = 0
  · rw [if_pos c0, if_pos c0]; unfold spFs; rw [e0, e1, e2, e5, h3]
  rw [if_neg c0, if_neg c0]
  by_cases c1 : m = 1
  · rw [if_pos c1, if_pos c1, e1, a6]
  rw [if_neg c1, if_neg c1]
  by_cases c2 : m = 2
  · rw [if_pos c2, if_pos c2, e2, a7]
  rw [if_neg c2, if_neg c2]
  by_cases c3 : m = 3
  · subst c3
    rcases l3 with z | ⟨z1, z2, z3, z4⟩
    · exact absurd z hm
    · subst z1; rw [if_pos rfl, if_pos rfl, h3, z2, hsd 4 z4]
  rw [if_neg c3, if_neg c3]
  by_cases c4 : m = 4
  · subst c4
    rcases l4 with z | z
    · exact absurd z hm
    · subst z
      rw [if_pos rfl, if_pos rfl, (hk4 rfl).1]
      have : shD sd' n' = shD sd n' := by
        funext k; unfold shD
        by_cases hk : k < n'
        · rw [if_pos hk, if_pos hk, (hk4 rfl).2 k hk]
        · rw [if_neg hk, if_neg hk]
      rw [this]
  rw [if_neg c4, if_neg c4]
  by_cases c5 : m = 5
  · rw [if_pos c5, if_pos c5, e5, e6, hms]
  rw [if_neg c5, if_neg c5]
  by_cases c6 : m = 6
  · rw [if_pos c6, if_pos c6, e6]
    have : plD sd' = plD sd := by
      funext q; unfold plD
      by_cases hq : q < 4
      · rw [if_pos hq, if_pos hq, h10 q hq]
      · rw [if_neg hq, if_neg hq]
    rw [this]
  rw [if_neg c6, if_neg c6]
  by_cases c7 : 10 ≤ m ∧ m < 14
  · rw [if_pos c7, if_pos c7]
    obtain ⟨q, rfl⟩ : ∃ q, m = 10 + q := ⟨m - 10, by omega⟩
    rcases hp q (by omega) with z | ⟨z1, z2, z3, z4⟩
    · exact absurd z hm
    · rw [show 10 + q - 10 = q by omega, z1, z2, z3, h10 q (by omega), show 10 + q + 4 = 14 + q by omega]
      rcases z4 with z | z
      · rw [hsd _ z]
      · rw [if_pos z, if_pos z]
  rw [if_neg c7, if_neg c7]
  by_cases c8 : 14 ≤ m ∧ m < 18
  · rw [if_pos c8, if_pos c8]
    obtain ⟨q, rfl⟩ : ∃ q, m = 14 + q := ⟨m - 14, by omega⟩
    rcases hd q (by omega) with z | ⟨z1, z2, z3⟩ | ⟨z1, z2⟩
    · exact absurd z hm
    · rw [show 14 + q - 14 = q by omega, z1, z2, hsd _ hm]
      have : paD sd' q (mn q) = paD sd q (mn q) := by
        funext k; unfold paD
        by_cases hk : k < mn q
        · rw [if_pos hk, if_pos hk, hsd _ (z3 k hk)]
        · rw [if_neg hk, if_neg hk]
      rw [this]
    · rw [show 14 + q - 14 = q by omega, if_pos z1, if_pos z2]
  rw [if_neg c8, if_neg c8]
  by_cases c9 : 20 ≤ m ∧ m < 20 + n'
  · obtain ⟨k, rfl⟩ : ∃ k, m = 20 + k := ⟨m - 20, by omega⟩
    rcases hs k (by omega) with z | ⟨z1, z2⟩
    · exact absurd z hm
    · rw [if_pos (by omega), if_pos c9, show 20 + k - 20 = k by omega, z2, hsd _ hm]
  rw [if_neg (by omega), if_neg c9]
  by_cases c10 : 30 ≤ m ∧ m < 54
  · obtain ⟨i, rfl⟩ : ∃ i, m = 30 + i := ⟨m - 30, by omega⟩
    have hi : i = 6 * (i / 6) + i % 6 := by omega
    have hm2 : ¬ L (30 + 6 * (i / 6) + i % 6) := by rw [show 30 + 6 * (i / 6) + i % 6 = 30 + i by omega]; exact hm
    rcases ha (i / 6) (i % 6) (by omega) (by omega) with z | ⟨z1, z2⟩
    · exact absurd z hm2
    · rw [← hi] at z2
      rw [show 30 + i - 30 = i by omega]
      by_cases hk : i % 6 < mn (i / 6)
      · rw [if_pos ⟨c10.1, c10.2, hk⟩, if_pos ⟨c10.1, c10.2, z1.mpr hk⟩, z2, hsd _ hm]
      · rw [if_neg (fun y => hk y.2.2), if_neg (fun y => hk (z1.mp y.2.2))]
  rw [if_neg (by omega), if_neg (by omega)]
def shN (sd : Nat → Nat) (n sA d : Nat) : Nat → Nat := va_up (if n = 0 then va_up sd 4 d else sd) (20 + n) sA
theorem shN_o {n sA d j : Nat} (h4 : j ≠ 4) (h : j ≠ 20 + n) : shN sd n sA d j = sd j := by
  unfold shN; rw [up_n _ _ h]; split
  · exact up_n _ _ h4
  · rfl
theorem shN_4 {n sA d : Nat} : shN sd n sA d 4 = if n = 0 then d else sd 4 := by
  unfold shN; rw [up_n _ _ (by omega)]; split
  · exact up_s _ _ _
  · rfl
theorem shN_n {n sA d : Nat} : shN sd n sA d (20 + n) = sA := up_s _ _ _
theorem sh_o (ar : Nat → Nat → Int32) {n k : Nat} (a1 a2 a3 a4 a5 : Int32) (h : k ≠ n) : shFs (fBodyA ar n a1 a2 a3 a4 a5) k = shFs ar k := by
  unfold shFs fBodyA; simp [va_up, upd, h]
theorem sp_body {sA d dv : Nat} {tf : Nat → Option Nat} (hn : n < 3) (hmn : ∀ q, q < 4 → mn q ≤ 6) (a1 a2 a3 a4 a5 : Int32) (hdv : dv = if n = 0 then d else sd 4) (htf : tf = va_up (shD sd n) n (some sA)) :
    va_up (va_up (va_up (spW G sd rv n ms fl mn sc ar w0) (20 + n) (some (sA, .inr (1, [.int a1, .int a2, .int a3, .int a4, .int a5])))) 4 (some (dv, .inl (G.2.1 3, 10, .inr (.inr (.inr (.inr tf))))))) 3 (some (sd 3, .inr (6, [.ref dv, .int (nI (n + 1)), .int (ms 0 + 1)]))) = spW G (shN sd n sA d) rv (n + 1) (va_up ms 0 (ms 0 + 1)) fl mn sc (fBodyA ar n a1 a2 a3 a4 a5) w0 := by
  funext m
  by_cases e3 : m = 3
  · subst e3; rw [up_s, sp_3, if_neg (by omega), shN_o (by omega) (by omega), shN_4, hdv, up_s]
  rw [up_n _ _ e3]
  by_cases e4 : m = 4
  · subst e4; rw [up_s, sp_4 (by omega), shN_4, hdv]
    have : tf = shD (shN sd n sA d) (n + 1) := by
      rw [htf]; funext k; unfold va_up shD
      by_cases e : k = n
      · subst e; rw [if_pos rfl, if_pos (by omega), shN_n]
      · rw [if_neg e]
        by_cases e2 : k < n
        · rw [if_pos e2, if_pos (by omega), shN_o (by omega) (by omega)]
        · rw [if_neg e2, if_neg (by omega)]
    rw [this]
  rw [up_n _ _ e4]
  by_cases en : m = 20 + n
  · subst en; rw [up_s, sp_s (by omega) (by omega), shN_n]
    unfold shFs fBodyA; simp [va_up, upd]
  rw [up_n _ _ en]
  refine sp_same (L := fun m => m = 3 ∨ m = 4 ∨ m = 20 + n) (by omega) (by omega) m (by omega) (fun j hj => shN_o (by omega) (by omega)) (fun j hj => by omega) (Or.inl (Or.inl rfl)) (Or.inl (Or.inr (Or.inl rfl))) rfl (fun q hq => Or.inr ⟨rfl, rfl, up_n _ _ (by omega), Or.inl (by omega)⟩) (fun q hq => Or.inr (Or.inl ⟨rfl, rfl, fun k hk => by omega⟩)) (fun q hq => shN_o (by omega) (by omega)) (shN_o (by omega) (by omega)) (fun k hk => ?_) (fun h => by omega) (fun q k hq hk => Or.inr ⟨Iff.rfl, rfl⟩) (fun q hq => ⟨hmn q hq, hmn q hq⟩) rfl rfl
  by_cases e : k = n
  · exact Or.inl (Or.inr (Or.inr (by rw [e])))
  · exact Or.inr ⟨by omega, sh_o _ _ _ _ _ _ e⟩
-- a part more
def paN (sd : Nat → Nat) (fl : Nat → Nat) (q z pA d : Nat) : Nat → Nat := va_up (if fl q = 0 then va_up sd (14 + q) d else sd) (30 + 6 * q + z) pA
theorem paN_o {q z pA d j : Nat} (h1 : j ≠ 14 + q) (h2 : j ≠ 30 + 6 * q + z) : paN sd fl q z pA d j = sd j := by
  unfold paN; rw [up_n _ _ h2]; split
  · exact up_n _ _ h1
  · rfl
theorem paN_14 {q z pA d : Nat} (hq : q < 4) : paN sd fl q z pA d (14 + q) = if fl q = 0 then d else sd (14 + q) := by
  unfold paN; rw [up_n _ _ (by omega)]; split
  · exact up_s _ _ _
  · rfl
theorem paN_n {q z pA d : Nat} : paN sd fl q z pA d (30 + 6 * q + z) = pA := up_s _ _ _
theorem pa_o (ar : Nat → Nat → Int32) {q z i : Nat} (a2 a3 fw : Int32) (h : i ≠ 6 * q + z) : paFs (fPartA ar q z a2 a3 fw) i = paFs ar i := by
  unfold paFs fPartA; simp [va_up, upd, h]
theorem sp_part {q z pA d dv : Nat} {tf : Nat → Option Nat} (hn : n ≤ 3) (hq : q < 4) (hz : mn q = z) (hz6 : z < 6) (hmn : ∀ q, q < 4 → mn q ≤ 6) (a2 a3 fw : Int32) (hdv : dv = if fl q = 0 then d else sd (14 + q)) (htf : tf = va_up (paD sd q z) z (some pA)) :
    va_up (va_up (va_up (spW G sd rv n ms fl mn sc ar w0) (30 + 6 * q + z) (some (pA, .inr (3, [.int a2, .int a3, .int fw])))) (14 + q) (some (dv, .inl (G.2.1 3, 10, .inr (.inr (.inr (.inr tf))))))) (10 + q) (some (sd (10 + q), .inr (6, [.ref dv, .int (nI (z + 1)), .int (ms (2 + q) + 1)]))) = spW G (paN sd fl q z pA d) rv n (va_up ms (2 + q) (ms (2 + q) + 1)) (va_up fl q 1) (va_up mn q (z + 1)) sc (fPartA ar q z a2 a3 fw) w0 := by
  funext m
  by_cases e1 : m = 10 + q
  · subst e1; rw [up_s, sp_p hq, up_s, if_neg (by decide), paN_o (by omega) (by omega), paN_14 hq, hdv, up_s, up_s]
  rw [up_n _ _ e1]
  by_cases e2 : m = 14 + q
  · subst e2; rw [up_s, sp_d hq (by rw [up_s]; decide), paN_14 hq, hdv, up_s]
    have : tf = paD (paN sd fl q z pA d) q (z + 1) := by
      rw [htf]; funext k; unfold va_up paD
      by_cases e : k = z
      · subst e; rw [if_pos rfl, if_pos (by omega), paN_n]
      · rw [if_neg e]
        by_cases e2 : k < z
        · rw [if_pos e2, if_pos (by omega), paN_o (by omega) (by omega)]
        · rw [if_neg e2, if_neg (by omega)]
    rw [this]
  rw [up_n _ _ e2]
  by_cases e3 : m = 30 + 6 * q + z
  · subst e3; rw [up_s, sp_a hq (by rw [up_s]; omega) (by rw [up_s]; omega) hn, paN_n]
    unfold paFs fPartA; simp [va_up, upd]
  rw [up_n _ _ e3]
  refine sp_same (L := fun m => m = 10 + q ∨ m = 14 + q ∨ m = 30 + 6 * q + z) hn (Nat.le_refl _) m (by omega) (fun j hj => paN_o (by omega) (by omega)) (fun j hj => by omega) (Or.inr ⟨rfl, up_n _ _ (by omega), by omega, by omega⟩) (Or.inr rfl) (up_n _ _ (by omega)) (fun q1 hq1 => ?_) (fun q1 hq1 => ?_) (fun q1 hq1 => paN_o (by omega) (by omega)) (paN_o (by omega) (by omega)) (fun k hk => Or.inr ⟨hk, rfl⟩) (fun _ => ⟨paN_o (by omega) (by omega), fun k hk => paN_o (by omega) (by omega)⟩) (fun q1 k hq1 hk => ?_) (fun q1 hq1 => ⟨?_, hmn q1 hq1⟩) rfl rfl
  · by_cases e : q1 = q
    · exact Or.inl (Or.inl (by rw [e]))
    · exact Or.inr ⟨up_n _ _ e, up_n _ _ e, up_n _ _ (by omega), Or.inl (by omega)⟩
  · by_cases e : q1 = q
    · exact Or.inl (Or.inr (Or.inl (by rw [e])))
    · exact Or.inr (Or.inl ⟨up_n _ _ e, up_n _ _ e, fun k hk => by have := hmn q1 hq1; omega⟩)
  · by_cases e : 6 * q1 + k = 6 * q + z
    · exact Or.inl (Or.inr (Or.inr (by omega)))
    · refine Or.inr ⟨?_, pa_o _ _ _ _ e⟩
      by_cases e4 : q1 = q
      · subst e4; rw [up_s]; omega
      · rw [up_n _ _ e4]
  · by_cases e : q1 = q
    · subst e; rw [up_s]; omega
    · rw [up_n _ _ e]; exact hmn q1 hq1
-- a plan cleared
theorem sp_clr0 {q : Nat} (hn : n ≤ 3) (hq : q < 4) (hf : fl q = 0) (hz : mn q = 0) (hmn : ∀ q, q < 4 → mn q ≤ 6) : va_up (spW G sd rv n ms fl mn sc ar w0) (10 + q) (some (sd (10 + q), .inr (6, [.ref (G.2.2 1), .int 0, .int (ms (2 + q) + 1)]))) = spW G sd rv n (va_up ms (2 + q) (ms (2 + q) + 1)) fl (va_up mn q 0) sc (va_up ar 8 (upd (ar 8) q 0)) w0 := by
  have hmn' : va_up mn q 0 = mn := up_idd mn hz
  rw [hmn']
  funext m
  by_cases e1 : m = 10 + q
  · subst e1; rw [up_s, sp_p hq, if_pos hf, hz, up_s]; rfl
  rw [up_n _ _ e1]
  refine sp_same (L := fun m => m = 10 + q) hn (Nat.le_refl _) m e1 (fun j hj => rfl) (fun j hj => by omega) (Or.inr ⟨rfl, up_n _ _ (by omega), by omega, by omega⟩) (Or.inr rfl) (up_n _ _ (by omega)) (fun q1 hq1 => ?_) (fun q1 hq1 => Or.inr (Or.inl ⟨rfl, rfl, fun k hk => by omega⟩)) (fun q1 hq1 => rfl) rfl (fun k hk => Or.inr ⟨hk, rfl⟩) (fun _ => ⟨rfl, fun k hk => rfl⟩) (fun q1 k hq1 hk => Or.inr ⟨Iff.rfl, rfl⟩) (fun q1 hq1 => ⟨hmn q1 hq1, hmn q1 hq1⟩) rfl rfl
  by_cases e : q1 = q
  · exact Or.inl (by rw [e])
  · exact Or.inr ⟨rfl, rfl, up_n _ _ (by omega), Or.inl (by omega)⟩
theorem sp_clr {q : Nat} (hn : n ≤ 3) (hq : q < 4) (hf : ¬ fl q = 0) (hmn : ∀ q, q < 4 → mn q ≤ 6) (hw : ∀ m, 30 ≤ m → m < 54 → w0 m = none) (m : Nat) (x : Nat × va_E) (h : spW G sd rv n (va_up ms (2 + q) (ms (2 + q) + 1)) fl (va_up mn q 0) sc (va_up ar 8 (upd (ar 8) q 0)) w0 m = some x) :
    va_up (va_up (spW G sd rv n ms fl mn sc ar w0) (14 + q) (some (sd (14 + q), .inl (G.2.1 3, 10, .inr (.inr (.inr (.inr (clF (paD sd q (mn q)) (mn q))))))))) (10 + q) (some (sd (10 + q), .inr (6, [.ref (sd (14 + q)), .int 0, .int (ms (2 + q) + 1)]))) m = some x := by
  by_cases e1 : m = 10 + q
  · subst e1; rw [up_s]; rw [sp_p hq, if_neg hf, up_s, up_s] at h; exact h
  rw [up_n _ _ e1]
  by_cases e2 : m = 14 + q
  · subst e2; rw [up_s]; rw [sp_d hq hf, up_s] at h
    rw [← h]
    have : clF (paD sd q (mn q)) (mn q) = paD sd q 0 := by
      funext k; unfold clF paD
      by_cases hk : k < mn q
      · rw [if_pos hk, if_neg (by omega)]
      · rw [if_neg hk, if_neg hk, if_neg (by omega)]
    rw [this]
  rw [up_n _ _ e2]
  by_cases e3 : 30 + 6 * q ≤ m ∧ m < 30 + 6 * q + 6
  · exfalso
    obtain ⟨k, rfl⟩ : ∃ k, m = 30 + 6 * q + k := ⟨m - (30 + 6 * q), by omega⟩
    unfold spW at h
    rw [if_neg (by omega), if_neg (by omega), if_neg (by omega), if_neg (by omega), if_neg (by omega), if_neg (by omega), if_neg (by omega), if_neg (by omega), if_neg (by omega), if_neg (by omega), if_neg (by rw [show (30 + 6 * q + k - 30) / 6 = q by omega, up_s]; omega), hw _ (by omega) (by omega)] at h
    cases h
  rw [← h]
  refine sp_same (L := fun m => m = 10 + q ∨ m = 14 + q ∨ (30 + 6 * q ≤ m ∧ m < 30 + 6 * q + 6)) hn (Nat.le_refl _) m (by omega) (fun j hj => rfl) (fun j hj => by omega) (Or.inr ⟨rfl, up_n _ _ (by omega), by omega, by omega⟩) (Or.inr rfl) (up_n _ _ (by omega)) (fun q1 hq1 => ?_) (fun q1 hq1 => ?_) (fun q1 hq1 => rfl) rfl (fun k hk => Or.inr ⟨hk, rfl⟩) (fun _ => ⟨rfl, fun k hk => rfl⟩) (fun q1 k hq1 hk => ?_) (fun q1 hq1 => ⟨?_, hmn q1 hq1⟩) rfl rfl
  · by_cases e : q1 = q
    · exact Or.inl (Or.inl (by rw [e]))
    · exact Or.inr ⟨rfl, up_n _ _ e, up_n _ _ (by omega), Or.inl (by omega)⟩
  · by_cases e : q1 = q
    · exact Or.inl (Or.inr (Or.inl (by rw [e])))
    · exact Or.inr (Or.inl ⟨rfl, up_n _ _ e, fun k hk => by have := hmn q1 hq1; omega⟩)
  · by_cases e : q1 = q
    · exact Or.inl (Or.inr (Or.inr (by omega)))
    · exact Or.inr ⟨by rw [up_n _ _ e], rfl⟩
  · by_cases e : q1 = q
    · subst e; rw [up_s]; omega
    · rw [up_n _ _ e]; exact hmn q1 hq1
theorem rW_mono {rb : Nat} {md : Int32} {rd : Nat → Nat} {b : Bt} {w1 w2 : WF} (h : ∀ m x, w2 m = some x → w1 m = some x) (m : Nat) (x : Nat × va_E) (h2 : rW G rb n md rd sd w2 sc ar b m = some x) : rW G rb n md rd sd w1 sc ar b m = some x := by
  unfold rW at h2 ⊢
  by_cases e0 : m = rb
  · rw [if_pos e0] at h2 ⊢; exact h2
  rw [if_neg e0] at h2 ⊢
  by_cases e1 : m = rb + 1
  · rw [if_pos e1] at h2 ⊢; exact h2
  rw [if_neg e1] at h2 ⊢
  by_cases e2 : m = rb + 2
  · rw [if_pos e2] at h2 ⊢; exact h2
  rw [if_neg e2] at h2 ⊢
  by_cases e3 : m = rb + 3
  · rw [if_pos e3] at h2 ⊢; exact h2
  rw [if_neg e3] at h2 ⊢
  by_cases e4 : m = rb + 4
  · rw [if_pos e4] at h2 ⊢; exact h2
  rw [if_neg e4] at h2 ⊢
  by_cases e5 : rb + 5 ≤ m ∧ m < rb + 5 + n
  · rw [if_pos e5] at h2 ⊢; exact h2
  · rw [if_neg e5] at h2 ⊢; exact h m x h2
end XAD
