/-! The sweep's invariant, and what look keeps. -/
def swR (aF aT bF bT t : Nat) : Prop := aF ≤ t / 64 ∧ t / 64 ≤ aT ∧ bF ≤ t % 64 ∧ t % 64 ≤ bT
/-- f is g with the covered cells of the range ahead of t0 set -/
def SWI (P : Nat → Prop) (aF aT bF bT : Nat) (g f : Nat → Int32) (t0 : Nat) : Prop := ∀ t, t < 4096 → (t < t0 ∧ swR aF aT bF bT t ∧ P t → f t = 1) ∧ (¬ (t < t0 ∧ swR aF aT bF bT t ∧ P t) → f t = g t)
theorem SWI.start {P : Nat → Prop} {aF aT bF bT : Nat} {g : Nat → Int32} : SWI P aF aT bF bT g g (64 * aF + bF) := by
  intro t ht
  refine ⟨fun h => ?_, fun _ => rfl⟩
  obtain ⟨h1, ⟨h2, h3, h4, h5⟩, -⟩ := h
  omega
theorem SWI.skip {P : Nat → Prop} {aF aT bF bT : Nat} {g f : Nat → Int32} {t0 t1 : Nat} (h : SWI P aF aT bF bT g f t0) (h01 : t0 ≤ t1) (hn : ∀ t, t0 ≤ t → t < t1 → t < 4096 → swR aF aT bF bT t → P t → f t = 1) : SWI P aF aT bF bT g f t1 := by
  intro t ht
  obtain ⟨h1, h2⟩ := h t ht
  refine ⟨fun q => ?_, fun q => ?_⟩
  · by_cases e : t < t0
    · exact h1 ⟨e, q.2.1, q.2.2⟩
    · exact hn t (by omega) q.1 ht q.2.1 q.2.2
  · exact h2 (fun z => q ⟨by omega, z.2⟩)
theorem SWI.set {P : Nat → Prop} {aF aT bF bT : Nat} {g f : Nat → Int32} {t0 : Nat} (h : SWI P aF aT bF bT g f t0) (hR : swR aF aT bF bT t0) (hP : P t0) : SWI P aF aT bF bT g (upd f t0 1) (t0 + 1) := by
  intro t ht
  obtain ⟨h1, h2⟩ := h t ht
  by_cases e : t = t0
  · subst e
    exact ⟨fun _ => by simp [upd], fun q => absurd ⟨by omega, hR, hP⟩ q⟩
  · refine ⟨fun q => ?_, fun q => ?_⟩
    · simp only [upd, e, if_false]; exact h1 ⟨by omega, q.2⟩
    · simp only [upd, e, if_false]; exact h2 (fun z => q ⟨by omega, z.2⟩)
theorem SWI.at {P : Nat → Prop} {aF aT bF bT : Nat} {g f : Nat → Int32} {t0 : Nat} (h : SWI P aF aT bF bT g f t0) (ht : t0 < 4096) : f t0 = g t0 := (h t0 ht).2 (fun z => by omega)
theorem SWI.end {P : Nat → Prop} {aF aT bF bT a : Nat} {g f : Nat → Int32} (h : SWI P aF aT bF bT g f (64 * a + bF)) (ha : aT < a) (hr : ∀ t, t < 4096 → P t → swR aF aT bF bT t) : ∀ t, t < 4096 → (P t → f t = 1) ∧ (¬ P t → f t = g t) := by
  intro t ht
  obtain ⟨h1, h2⟩ := h t ht
  refine ⟨fun q => h1 ⟨?_, hr t ht q, q⟩, fun q => h2 (fun z => q z.2.2)⟩
  have := (hr t ht q).2.1
  omega
theorem fCl_keep (sc : Nat → Int32) (ar : Nat → Nat → Int32) (k j0 n : Nat) {j : Nat} (h9 : j ≠ 9) (h10 : j ≠ 10) (h11 : j ≠ 11) : fClN sc ar k j0 n j = sc j := by
  unfold fClN
  split
  · cases fstP (hitP ar k) j0 n with
    | none => rfl
    | some q => simp [va_up, h9, h10, h11]
  · rfl
theorem lookI_sc (st : SA) (k : Nat) {j : Nat} (h9 : j ≠ 9) (h10 : j ≠ 10) (h11 : j ≠ 11) (h12 : j ≠ 12) : (lookI st k).1 j = st.1 j := by
  induction k with
  | zero => rfl
  | succ k ih =>
    show fClN _ _ _ _ _ j = _
    rw [fCl_keep _ _ _ _ _ h9 h10 h11, up_n _ _ h12]
    exact ih
theorem lookI_ar (st : SA) (k : Nat) {i : Nat} (h : i ≠ 17) : (lookI st k).2 i = st.2 i := by
  induction k with
  | zero => rfl
  | succ k ih =>
    show va_up _ 17 _ i = _
    rw [up_n _ _ h]
    exact ih
theorem lookI_s (st : SA) (k : Nat) : lookI st (k + 1) = lookB (lookI st k) k := by rw [lookI]
theorem lookB_17 (st : SA) (k : Nat) : (lookB st k).2 17 = fSw st.2 k := by unfold lookB; dsimp only; rw [up_s]
theorem lookB_12 (st : SA) (k : Nat) : (lookB st k).1 12 = nI (cnt (fSw st.2 k)) := by
  unfold lookB fCl
  dsimp only
  rw [fCl_keep _ _ _ _ _ (by decide) (by decide) (by decide), up_s]
theorem fSw_01 {ar : Nat → Nat → Int32} (k : Nat) (h : Z01 (ar 17)) : Z01 (fSw ar k) := by
  intro t ht
  unfold fSw
  split
  · exact Or.inr rfl
  · exact h t ht
theorem lookI_01 (st : SA) (k : Nat) (h : Z01 (st.2 17)) : Z01 ((lookI st k).2 17) := by
  induction k with
  | zero => rw [lookI]; exact h
  | succ k ih => rw [lookI_s, lookB_17]; exact fSw_01 k ih
theorem lookI_cnt (st : SA) (k : Nat) (h : st.1 12 = nI (cnt (st.2 17))) : (lookI st k).1 12 = nI (cnt ((lookI st k).2 17)) := by
  cases k with
  | zero => rw [lookI]; exact h
  | succ k => rw [lookI_s, lookB_17, lookB_12]
theorem up_id {α : Type} (f : Nat → α) (k : Nat) (v : α) (h : f k = v) : va_up f k v = f := by
  funext j
  unfold va_up
  split
  · rename_i e; rw [e, h]
  · rfl
/-- body k's cells that are covered lie in the twin's range -/
def rgT (ar : Nat → Nat → Int32) (k : Nat) : Prop := ∀ t, t < 4096 → cvB ar k (cX t) (cY t) = 1 →
  p_wi (p_co (ar 12 k) - 10) ≤ zs (t / 64) ∧ zs (t / 64) ≤ p_wi (p_co (ar 12 k) + 10) ∧ p_wi (p_co (ar 13 k) - 10) ≤ zs (t % 64) ∧ zs (t % 64) ≤ p_wi (p_co (ar 13 k) + 10)
theorem cX_at {a b : Nat} (hb : b < 64) : cX (64 * a + b) = 4096 * ((8 * zs a) + 4) := by
  unfold cX zs
  rw [show (64 * a + b) / 64 = a by omega]
theorem cY_at {a b : Nat} (hb : b < 64) : cY (64 * a + b) = 4096 * ((8 * zs b) + 4) := by
  unfold cY zs
  rw [show (64 * a + b) % 64 = b by omega]
theorem fClN_stop {sc : Nat → Int32} {ar : Nat → Nat → Int32} {k j n : Nat} (h : ¬ sc 9 = -1) : fClN sc ar k j n = sc := by unfold fClN; rw [if_neg h]
theorem fClN_0 {sc : Nat → Int32} {ar : Nat → Nat → Int32} {k j : Nat} : fClN sc ar k j 0 = sc := by unfold fClN fstP; split <;> rfl
theorem fClN_hit {sc : Nat → Int32} {ar : Nat → Nat → Int32} {k j n : Nat} (h : sc 9 = -1) (hj : hitP ar k j = true) : fClN sc ar k j (n + 1) = va_up (va_up (va_up sc 9 (sc 7)) 10 (nI k)) 11 (nI j) := by
  unfold fClN fstP; rw [if_pos h, if_pos hj]
theorem fClN_miss {sc : Nat → Int32} {ar : Nat → Nat → Int32} {k j n : Nat} (hj : ¬ hitP ar k j = true) : fClN sc ar k j (n + 1) = fClN sc ar k (j + 1) n := by
  unfold fClN; rw [show fstP (hitP ar k) j (n + 1) = fstP (hitP ar k) (j + 1) n from by rw [fstP, if_neg hj]]
