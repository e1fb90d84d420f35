/-! What each command makes of the state that the two share. -/
def RI (rb n : Nat) (fl mn : Nat → Nat) (b : Bt) (np : Nat) (sc : Nat → Int32) (ar : Nat → Nat → Int32) : Prop :=
  (rb = 100 ∨ rb = 200) ∧ KK n np (sc, ar) ∧ plK mn ar ∧ (∀ q, q < 4 → fl q = 0 → mn q = 0) ∧ BR b (ar 17)
section RIS
variable {rb n : Nat} {fl mn : Nat → Nat} {b : Bt} {np : Nat} {sc : Nat → Int32} {ar : Nat → Nat → Int32}
theorem KK_0 (h : KK n np (sc, ar)) (v : Int32) : KK n np (va_up sc 0 v, ar) := h.congr (fun j a _ => up_n _ _ (by omega)) (fun _ _ => rfl)
theorem RI.z (h : RI rb n fl mn b np sc ar) (v : Int32) : RI rb n fl mn b np (va_up sc 0 v) ar := ⟨h.1, KK_0 h.2.1 v, h.2.2.1, h.2.2.2.1, h.2.2.2.2⟩
theorem RI.n3 (h : RI rb n fl mn b np sc ar) : n ≤ 3 := h.2.1.1.2.1
theorem RI.m6 (h : RI rb n fl mn b np sc ar) : ∀ q, q < 4 → mn q ≤ 6 := fun q hq => (h.2.2.1 q hq).1
theorem RI.keep (h : RI rb n fl mn b np sc ar) : RI rb n fl mn b np (va_up sc 0 0) (fKeep (va_up sc 0 0) ar) := by
  have e : ∀ i, i ≠ 18 → i ≠ 19 → fKeep (va_up sc 0 0) ar i = ar i := fun i h1 h2 => by unfold fKeep; rw [up_n _ _ h2, up_n _ _ h1]
  refine ⟨h.1, h.2.1.congr (fun j a _ => up_n _ _ (by omega)) (fun i hi => e i (by omega) (by omega)), h.2.2.1.congr (fun i a b => e i (by omega) (by omega)), h.2.2.2.1, ?_⟩
  rw [e 17 (by decide) (by decide)]; exact h.2.2.2.2
theorem in_int {v a b : Int32} (h : p_in v a b = 1) : a.toInt ≤ v.toInt ∧ v.toInt ≤ b.toInt := by
  obtain ⟨h1, h2⟩ := p_inE.mp h
  rw [Int32.le_iff_toInt_le] at h1 h2
  exact ⟨h1, h2⟩
theorem cf_body {a1 a2 a3 a4 a5 : Int32} (h : cfK n np (sc, ar)) (hn : n < 3) (hv : p_in a1 1 200 = 1 ∧ p_in a2 0 200 = 1 ∧ p_in a3 0 60 = 1 ∧ p_in a4 0 60 = 1 ∧ p_in a5 1 20 = 1) : cfK (n + 1) np (fBodyS sc, fBodyA ar n a1 a2 a3 a4 a5) := by
  obtain ⟨c1, c2, c3, c4, c5, c6, c7, c8⟩ := h
  have e : ∀ j, j ≠ 0 → j ≠ 1 → fBodyS sc j = sc j := fun j h0 h1 => by unfold fBodyS; rw [up_n _ _ h1, up_n _ _ h0]
  refine ⟨?_, by omega, (e 6 (by decide) (by decide)).trans c3, c4, fun k hk => ?_, ?_, ?_, ?_⟩
  · show fBodyS sc 1 = _
    unfold fBodyS
    rw [up_s, show sc 1 = nI n from c1, ← nI_1]
  · obtain ⟨v1, v2, v3, v4, v5⟩ := hv
    have i1 := in_int v1
    have i2 := in_int v2
    have i3 := in_int v3
    have i4 := in_int v4
    have i5 := in_int v5
    simp only [Int32.reduceToInt] at i1 i2 i3 i4 i5
    by_cases ek : k = n
    · subst ek
      show lenK (fBodyA ar k a1 a2 a3 a4 a5) k
      unfold lenK shK fBodyA
      simp [va_up, upd]
      omega
    · refine (c5 k (by omega)).congr (fun i a b => ?_)
      show fBodyA ar n a1 a2 a3 a4 a5 i k = ar i k
      unfold fBodyA
      have : i = 1 ∨ i = 2 ∨ i = 3 ∨ i = 4 ∨ i = 5 := by omega
      rcases this with h | h | h | h | h <;> (subst h; simp [va_up, upd, ek])
  · show nr 1000 (fBodyS sc 2); rw [e 2 (by decide) (by decide)]; exact c6
  · show nr 1000 (fBodyS sc 3); rw [e 3 (by decide) (by decide)]; exact c7
  · show 1 ≤ (fBodyS sc 5).toInt ∧ (fBodyS sc 5).toInt ≤ 20; rw [e 5 (by decide) (by decide)]; exact c8
theorem fBodyA_n {a1 a2 a3 a4 a5 : Int32} {i : Nat} (h : 6 ≤ i) : fBodyA ar n a1 a2 a3 a4 a5 i = ar i := by
  unfold fBodyA
  rw [up_n _ _ (by omega), up_n _ _ (by omega), up_n _ _ (by omega), up_n _ _ (by omega), up_n _ _ (by omega)]
theorem RI.body {a1 a2 a3 a4 a5 : Int32} {b' : Bt} (h : RI rb n fl mn b np sc ar) (hn : n < 3) (hv : p_in a1 1 200 = 1 ∧ p_in a2 0 200 = 1 ∧ p_in a3 0 60 = 1 ∧ p_in a4 0 60 = 1 ∧ p_in a5 1 20 = 1) (hB : BR b' ((fBegin (fBodyS sc, fBodyA ar n a1 a2 a3 a4 a5)).2 17)) :
    RI (300 - rb) (n + 1) fl mn b' np (fBegin (fBodyS sc, fBodyA ar n a1 a2 a3 a4 a5)).1 (fBegin (fBodyS sc, fBodyA ar n a1 a2 a3 a4 a5)).2 := by
  have h1 := h.1
  refine ⟨by omega, KK_begin (cf_body h.2.1.1 hn hv), h.2.2.1.congr (fun i a b => ?_), h.2.2.2.1, hB⟩
  rw [fBegin_ar _ (by omega) (by omega) (by omega) (by omega) (by omega) (by omega)]
  exact fBodyA_n (by omega)
theorem cf_start {a1 a2 a3 : Int32} (h : cfK n np (sc, ar)) (hv : p_in a1 (-1000) 1000 = 1 ∧ p_in a2 (-1000) 1000 = 1 ∧ p_in a3 0 63 = 1) : cfK n np (fStartS sc a1 a2 a3, ar) := by
  obtain ⟨c1, c2, c3, c4, c5, c6, c7, c8⟩ := h
  have i1 := in_int hv.1
  have i2 := in_int hv.2.1
  simp only [Int32.reduceToInt] at i1 i2
  have e : ∀ j, j ≠ 0 → j ≠ 2 → j ≠ 3 → j ≠ 4 → fStartS sc a1 a2 a3 j = sc j := fun j h0 h1 h2 h3 => by unfold fStartS; rw [up_n _ _ h3, up_n _ _ h2, up_n _ _ h1, up_n _ _ h0]
  refine ⟨(e 1 (by decide) (by decide) (by decide) (by decide)).trans c1, c2, (e 6 (by decide) (by decide) (by decide) (by decide)).trans c3, c4, c5, ?_, ?_, ?_⟩
  · show nr 1000 (fStartS sc a1 a2 a3 2); unfold fStartS; rw [up_n _ _ (by decide), up_n _ _ (by decide), up_s]; exact i1
  · show nr 1000 (fStartS sc a1 a2 a3 3); unfold fStartS; rw [up_n _ _ (by decide), up_s]; exact i2
  · show 1 ≤ (fStartS sc a1 a2 a3 5).toInt ∧ (fStartS sc a1 a2 a3 5).toInt ≤ 20; rw [e 5 (by decide) (by decide) (by decide) (by decide)]; exact c8
theorem RI.begin {sc1 : Nat → Int32} {b' : Bt} (h : RI rb n fl mn b np sc ar) (h1 : cfK n np (sc1, ar)) (hB : BR b' ((fBegin (sc1, ar)).2 17)) : RI (300 - rb) n fl mn b' np (fBegin (sc1, ar)).1 (fBegin (sc1, ar)).2 := by
  have h0 := h.1
  refine ⟨by omega, KK_begin h1, h.2.2.1.congr (fun i a b => ?_), h.2.2.2.1, hB⟩
  rw [fBegin_ar _ (by omega) (by omega) (by omega) (by omega) (by omega) (by omega)]
theorem cf_step {a1 : Int32} (h : cfK n np (sc, ar)) (hv : p_in a1 1 20 = 1) : cfK n np (fStepS sc a1, ar) := by
  obtain ⟨c1, c2, c3, c4, c5, c6, c7, c8⟩ := h
  have i1 := in_int hv
  simp only [Int32.reduceToInt] at i1
  have e : ∀ j, j ≠ 0 → j ≠ 5 → fStepS sc a1 j = sc j := fun j h0 h1 => by unfold fStepS; rw [up_n _ _ h1, up_n _ _ h0]
  refine ⟨(e 1 (by decide) (by decide)).trans c1, c2, (e 6 (by decide) (by decide)).trans c3, c4, c5, ?_, ?_, ?_⟩
  · show nr 1000 (fStepS sc a1 2); rw [e 2 (by decide) (by decide)]; exact c6
  · show nr 1000 (fStepS sc a1 3); rw [e 3 (by decide) (by decide)]; exact c7
  · show 1 ≤ (fStepS sc a1 5).toInt ∧ (fStepS sc a1 5).toInt ≤ 20; unfold fStepS; rw [up_s]; exact i1
theorem RI.pole {a1 a2 : Int32} (h : RI rb n fl mn b np sc ar) (hnp : np < 20) : RI rb n fl mn b (np + 1) (fPoleS sc) (fPoleA ar np a1 a2) := by
  have e : ∀ j, j ≠ 0 → j ≠ 6 → fPoleS sc j = sc j := fun j h0 h1 => by unfold fPoleS; rw [up_n _ _ h1, up_n _ _ h0]
  have e2 : ∀ i, i ≠ 6 → i ≠ 7 → fPoleA ar np a1 a2 i = ar i := fun i h0 h1 => by unfold fPoleA; rw [up_n _ _ h1, up_n _ _ h0]
  obtain ⟨⟨c1, c2, c3, c4, c5, c6, c7, c8⟩, r⟩ := h.2.1
  refine ⟨h.1, ⟨⟨(e 1 (by decide) (by decide)).trans c1, c2, ?_, by omega, fun k hk => (c5 k hk).congr (fun i a b => by show fPoleA ar np a1 a2 i k = ar i k; rw [e2 i (by omega) (by omega)]), ?_, ?_, ?_⟩, r.congr (fun j a b => e j (by omega) (by omega)) (fun i a b => e2 i (by omega) (by omega))⟩, h.2.2.1.congr (fun i a b => e2 i (by omega) (by omega)), h.2.2.2.1, ?_⟩
  · show fPoleS sc 6 = _
    unfold fPoleS
    rw [up_s, show sc 6 = nI np from c3, ← nI_1]
  · show nr 1000 (fPoleS sc 2); rw [e 2 (by decide) (by decide)]; exact c6
  · show nr 1000 (fPoleS sc 3); rw [e 3 (by decide) (by decide)]; exact c7
  · show 1 ≤ (fPoleS sc 5).toInt ∧ (fPoleS sc 5).toInt ≤ 20; rw [e 5 (by decide) (by decide)]; exact c8
  · rw [e2 17 (by decide) (by decide)]; exact h.2.2.2.2
theorem RI.go {a1 fw : Int32} {N : Nat} {b' : Bt} (h : RI rb n fl mn b np sc ar) (hv : p_in a1 (-3) 3 = 1) (hB : BR b' ((goI (sc, ar) a1 fw N).2 17)) : RI rb n fl mn b' np (goI (sc, ar) a1 fw N).1 (goI (sc, ar) a1 fw N).2 := by
  refine ⟨h.1, (KK_p n np).go (p_inE.mp hv) N _ h.2.1, h.2.2.1.congr (fun i a b => ?_), h.2.2.2.1, hB⟩
  rw [goI_ar _ _ _ _ (by omega) (by omega) (by omega) (by omega) (by omega) (by omega)]
theorem fGo_nI {st : SA} {a fw : Int32} {N : Nat} (h : N < 2 ^ 31) : fGo st a (nI N) fw = goI st a fw N := by unfold fGo; rw [nI_clamp h]
theorem RI.part {q : Nat} {a2 a3 fw : Int32} (h : RI rb n fl mn b np sc ar) (hq : q < 4) (hz : mn q < 6) (hv : p_in a2 (-3) 3 = 1 ∧ p_in a3 1 60 = 1) : RI rb n (va_up fl q 1) (va_up mn q (mn q + 1)) b np sc (fPartA ar q (mn q) a2 a3 fw) := by
  have e2 : ∀ i, i ≠ 8 → i ≠ 9 → i ≠ 10 → i ≠ 11 → fPartA ar q (mn q) a2 a3 fw i = ar i := fun i h0 h1 h2 h3 => by unfold fPartA; rw [up_n _ _ h0, up_n _ _ h3, up_n _ _ h2, up_n _ _ h1]
  have e8 : fPartA ar q (mn q) a2 a3 fw 8 = upd (ar 8) q (nI (mn q + 1)) := by unfold fPartA; rw [up_s]
  have e9 : fPartA ar q (mn q) a2 a3 fw 9 = upd (ar 9) (6 * q + mn q) a2 := by unfold fPartA; rw [up_n _ _ (by decide), up_n _ _ (by decide), up_n _ _ (by decide), up_s]
  have e10 : fPartA ar q (mn q) a2 a3 fw 10 = upd (ar 10) (6 * q + mn q) a3 := by unfold fPartA; rw [up_n _ _ (by decide), up_n _ _ (by decide), up_s]
  refine ⟨h.1, h.2.1.congr (fun _ _ _ => rfl) (fun i hi => e2 i (by omega) (by omega) (by omega) (by omega)), fun q' hq' => ?_, fun q' hq' hf => ?_, ?_⟩
  · have p' := h.2.2.1 q' hq'
    have pq := h.2.2.1 q hq
    rw [e8, e9, e10]
    by_cases eq : q' = q
    · subst eq
      rw [up_s]
      refine ⟨by omega, by simp [upd], fun k hk => ?_⟩
      by_cases ek : k = mn q'
      · subst ek
        simp only [upd, if_true]
        obtain ⟨i1, i2⟩ := p_inE.mp hv.2
        obtain ⟨N, hN, eN⟩ := nI_of (x := a3) (Int32.not_lt.mpr (Int32.le_trans (by decide) i1))
        exact ⟨⟨N, hN, eN⟩, p_inE.mp hv.1⟩
      · have : ¬ 6 * q' + k = 6 * q' + mn q' := by omega
        simp only [upd, this, if_false]
        exact p'.2.2 k (by omega)
    · rw [up_n _ _ eq]
      refine ⟨p'.1, by simp only [upd, eq, if_false]; exact p'.2.1, fun k hk => ?_⟩
      have : ¬ 6 * q' + k = 6 * q + mn q := by have := p'.1; omega
      simp only [upd, this, if_false]
      exact p'.2.2 k hk
  · by_cases eq : q' = q
    · subst eq; rw [up_s] at hf; omega
    · rw [up_n _ _ eq] at hf ⊢; exact h.2.2.2.1 q' hq' hf
  · rw [e2 17 (by decide) (by decide) (by decide) (by decide)]; exact h.2.2.2.2
theorem RI.clear {q : Nat} (h : RI rb n fl mn b np sc ar) (hq : q < 4) : RI rb n fl (va_up mn q 0) b np sc (va_up ar 8 (upd (ar 8) q 0)) := by
  have e2 : ∀ i, i ≠ 8 → va_up ar 8 (upd (ar 8) q 0) i = ar i := fun i h0 => up_n _ _ h0
  refine ⟨h.1, h.2.1.congr (fun _ _ _ => rfl) (fun i hi => e2 i (by omega)), fun q' hq' => ?_, fun q' hq' hf => ?_, ?_⟩
  · have p' := h.2.2.1 q' hq'
    rw [up_s, e2 9 (by decide), e2 10 (by decide)]
    by_cases eq : q' = q
    · subst eq
      rw [up_s]
      exact ⟨by omega, by simp [upd]; rfl, fun k hk => by omega⟩
    · rw [up_n _ _ eq]
      exact ⟨p'.1, by simp only [upd, eq, if_false]; exact p'.2.1, p'.2.2⟩
  · by_cases eq : q' = q
    · subst eq; rw [up_s]
    · rw [up_n _ _ eq]; exact h.2.2.2.1 q' hq' hf
  · rw [e2 17 (by decide)]; exact h.2.2.2.2
theorem RI_0 (b : Bt) (hB : BR b (aI 17)) : RI 100 0 (fun _ => 0) (fun _ => 0) b 0 sI aI := by
  refine ⟨Or.inl rfl, ⟨⟨rfl, by decide, rfl, by decide, fun k hk => by omega, ?_, ?_, ?_⟩, ?_, ?_, Or.inl rfl, ?_, fun k hk => by omega⟩, fun q hq => ⟨Nat.zero_le _, rfl, fun k hk => absurd hk (Nat.not_lt_zero _)⟩, fun _ _ _ => rfl, hB⟩
  · show nr 1000 (0 : Int32); unfold nr; decide
  · show nr 1000 (0 : Int32); unfold nr; decide
  · show 1 ≤ (4 : Int32).toInt ∧ (4 : Int32).toInt ≤ 20; decide
  · exact fun _ _ => Or.inl rfl
  · show (0 : Int32) = nI (cnt (fun _ => 0)); unfold cnt; rw [cntN_0]; rfl
  · show 0 ≤ (0 : Int32).toInt ∧ (0 : Int32).toInt ≤ 4000; decide
end RIS
