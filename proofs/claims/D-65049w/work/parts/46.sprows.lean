/-! Rows for the component's public methods. -/
theorem p_in0 {v a b : Int32} (h : ¬ p_in v a b = 1) : p_in v a b = 0 := by
  unfold p_in at h ⊢
  split
  · rename_i q; rw [if_pos q] at h; exact absurd rfl h
  · rfl
theorem QtE.up {cls : String} {a a' : Array Value} {s st t t2 : State} {x : Addr} (h : QtE cls a st x t) (hst : st.heap = s.heap) (hW : s.WarmedH st.vm) (ht : t2.heap = t.heap) : QtE cls a' s x t2 := by
  obtain ⟨h1, h2, ce, h3, h4, h5⟩ := h
  rw [hst] at h1 h2
  exact ⟨by rw [ht]; exact h1, fun q hq => by rw [ht]; exact h2 q hq, ce, by rw [ht]; exact h3, h4, (hW.alike.findClass cls none).symm.trans h5⟩
theorem i32_cases {x : Int32} {k : Nat} (h0 : 0 ≤ x) (h1 : x ≤ nI k) (hk : k < 2 ^ 31) : ∃ j, j ≤ k ∧ x = nI j := by
  obtain ⟨j, hj, e⟩ := nI_of (Int32.not_lt.mpr h0)
  refine ⟨j, ?_, e⟩
  rw [e, nI_leI hj hk] at h1
  exact h1
/-- what a walk over the component's world sees of a plain lookup -/
abbrev cW (G : GG) (rb n : Nat) (md : Int32) (rd sd : Nat → Nat) (ms : Nat → Int32) (fl mn : Nat → Nat) (sc : Nat → Int32) (ar : Nat → Nat → Int32) (b : Bt) (w0 : WF) : WF := rW G rb n md rd sd (spW G sd (.ref (rd 0)) n ms fl mn sc ar w0) sc ar b
theorem body_ix {x : Int32} {n : Nat} (hn : n ≤ 3) (h : p_in x 0 (nI n - 1) = 1) : ∃ k, k < n ∧ x = nI k := by
  obtain ⟨h1, h2⟩ := p_inE.mp h
  cases n with
  | zero => exact absurd (Int32.le_trans h1 h2) (by decide)
  | succ m =>
    rw [nI_pred] at h2
    obtain ⟨j, hj, e⟩ := i32_cases h1 h2 (by omega)
    exact ⟨j, by omega, e⟩
theorem ix_body {k n : Nat} (hk : k < n) (hn : n ≤ 3) : p_in (nI k) 0 (nI n - 1) = 1 := by
  cases n with
  | zero => omega
  | succ m => rw [nI_pred]; exact p_inE.mpr ⟨nI_pos' (by omega), nI_le (by omega) (by omega)⟩
theorem plan_ix {x : Int32} (h : p_in x 0 3 = 1) : ∃ q, q < 4 ∧ x = nI q := by
  obtain ⟨h1, h2⟩ := p_inE.mp h
  obtain ⟨j, hj, e⟩ := i32_cases (k := 3) h1 h2 (by decide)
  exact ⟨j, by omega, e⟩
theorem ix_plan {q : Nat} (hq : q < 4) : p_in (nI q) 0 3 = 1 := p_inE.mpr ⟨nI_pos' (by omega), nI_le (b := 3) (by omega) (by decide)⟩
theorem bit_get {b : Bt} {g : Nat → Int32} (hB : BR b g) (hz : Z01 g) {t : Nat} (ht : t < 4096) : @ite _ (bsB b.2.2.1 b.2.2.2 t) (Classical.propDecidable _) (1 : Int32) 0 = g t := by
  have h5 := hB.2.2.2.2 t ht
  have key : bsB b.2.2.1 b.2.2.2 t ↔ g t = 1 := by
    rw [← h5]
    refine ⟨fun h => h.2, fun h => ⟨?_, h⟩⟩
    refine Nat.lt_of_not_le (fun z => h ?_)
    rw [hB.2.2.2.1 _ (Nat.le_trans (Nat.min_le_left _ _) z)]
    simp
  by_cases h : bsB b.2.2.1 b.2.2.2 t
  · rw [if_pos h]; exact (key.mp h).symm
  · rw [if_neg h]
    rcases hz t ht with q | q
    · exact q.symm
    · exact absurd (key.mpr q) h
