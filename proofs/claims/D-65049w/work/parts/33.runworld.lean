/-! The component's world: its own object, and a run. -/
abbrev Bt : Type := Nat × Nat × Nat × (Nat → Int64)
/-- the component's fields; sd: its places; rv: the run -/
def spFs (sd : Nat → Nat) (rv : Value) (sc : Nat → Int32) : List Value := [.ref (sd 3), .ref (sd 5), .ref (sd 1), .ref (sd 2), .int (sc 6), .int (sc 2), .int (sc 3), .int (sc 4), .int (sc 5), rv]
def shFs (ar : Nat → Nat → Int32) (k : Nat) : List Value := [.int (ar 1 k), .int (ar 2 k), .int (ar 3 k), .int (ar 4 k), .int (ar 5 k)]
/-- what a run asks of the component: its object, the poles, the shapes -/
def spL (G : GG) (w0 : WF) (sd : Nat → Nat) (rv : Value) (n : Nat) (sc : Nat → Int32) (ar : Nat → Nat → Int32) : Prop :=
  w0 0 = some (sd 0, .inr (0, spFs sd rv sc)) ∧ w0 1 = some (sd 1, .inl (G.2.1 0, 20, .inl (ar 6))) ∧ w0 2 = some (sd 2, .inl (G.2.1 0, 20, .inl (ar 7))) ∧ ∀ k, k < n → w0 (20 + k) = some (sd (20 + k), .inr (1, shFs ar k))
theorem spL.congr {G : GG} {w0 : WF} {sd : Nat → Nat} {rv : Value} {n : Nat} {sc sc' : Nat → Int32} {ar ar' : Nat → Nat → Int32} (h : spL G w0 sd rv n sc ar) (h1 : ∀ j, 2 ≤ j → j ≤ 6 → sc' j = sc j) (h2 : ∀ i, 1 ≤ i → i ≤ 7 → ar' i = ar i) : spL G w0 sd rv n sc' ar' := by
  obtain ⟨q1, q2, q3, q4⟩ := h
  refine ⟨?_, ?_, ?_, fun k hk => ?_⟩
  · rw [q1]; unfold spFs; rw [h1 2 (by decide) (by decide), h1 3 (by decide) (by decide), h1 4 (by decide) (by decide), h1 5 (by decide) (by decide), h1 6 (by decide) (by decide)]
  · rw [q2, h2 6 (by decide) (by decide)]
  · rw [q3, h2 7 (by decide) (by decide)]
  · rw [q4 k hk]; unfold shFs; rw [h2 1 (by decide) (by decide), h2 2 (by decide) (by decide), h2 3 (by decide) (by decide), h2 4 (by decide) (by decide), h2 5 (by decide) (by decide)]
-- a run at the labels rb ..: n bodies, md the list's count of changes, rd its places, b its bits
def rFs (rd sd : Nat → Nat) (sc : Nat → Int32) : List Value := [.ref (rd 1), .ref (rd 3), .int (sc 7), .int (sc 8), .int (sc 9), .int (sc 10), .int (sc 11), .ref (sd 0)]
def bfV (rd : Nat → Nat) (k : Nat) : Value := if k = 0 then .null else .ref (rd (4 + k))
def bFs (rd sd : Nat → Nat) (ar : Nat → Nat → Int32) (k : Nat) : List Value := [.ref (sd (20 + k)), bfV rd k, .int (ar 12 k), .int (ar 13 k), .int (ar 14 k), .int (ar 15 k), .int (ar 16 k)]
def tdF (rd : Nat → Nat) (n : Nat) : Nat → Option Nat := fun k => if k < n then some (rd (5 + k)) else none
def rW (G : GG) (rb n : Nat) (md : Int32) (rd sd : Nat → Nat) (w0 : WF) (sc : Nat → Int32) (ar : Nat → Nat → Int32) (b : Bt) : WF := fun m =>
  if m = rb then some (rd 0, .inr (4, rFs rd sd sc))
  else if m = rb + 1 then some (rd 1, .inr (6, [.ref (if n = 0 then G.2.2 1 else rd 2), .int (nI n), .int md]))
  else if m = rb + 2 then (if n = 0 then none else some (rd 2, .inl (G.2.1 3, 10, .inr (.inr (.inr (.inr (tdF rd n)))))))
  else if m = rb + 3 then some (rd 3, .inr (7, [.ref b.1, .int (nI b.2.2.1), .int 0]))
  else if m = rb + 4 then some (b.1, .inl (G.2.1 2, b.2.1, .inr (.inl b.2.2.2)))
  else if rb + 5 ≤ m ∧ m < rb + 5 + n then some (rd (m - rb), .inr (2, bFs rd sd ar (m - (rb + 5))))
  else w0 m
section XRW
variable {G : GG} {rb n : Nat} {md : Int32} {rd sd : Nat → Nat} {w0 : WF} {sc : Nat → Int32} {ar : Nat → Nat → Int32} {b : Bt}
theorem rW_o : rW G rb n md rd sd w0 sc ar b rb = some (rd 0, .inr (4, rFs rd sd sc)) := by simp [rW]
theorem rW_t (h : 0 < n) : rW G rb n md rd sd w0 sc ar b (rb + 1) = some (rd 1, .inr (6, [.ref (rd 2), .int (nI n), .int md])) := by simp [rW]; omega
theorem rW_t0 (h : n = 0) : rW G rb n md rd sd w0 sc ar b (rb + 1) = some (rd 1, .inr (6, [.ref (G.2.2 1), .int (nI n), .int md])) := by simp [rW, h]
theorem rW_d (h : 0 < n) : rW G rb n md rd sd w0 sc ar b (rb + 2) = some (rd 2, .inl (G.2.1 3, 10, .inr (.inr (.inr (.inr (tdF rd n)))))) := by simp [rW]; omega
theorem rW_s : rW G rb n md rd sd w0 sc ar b (rb + 3) = some (rd 3, .inr (7, [.ref b.1, .int (nI b.2.2.1), .int 0])) := by simp [rW]
theorem rW_w : rW G rb n md rd sd w0 sc ar b (rb + 4) = some (b.1, .inl (G.2.1 2, b.2.1, .inr (.inl b.2.2.2))) := by simp [rW]
theorem rW_b {k : Nat} (hk : k < n) : rW G rb n md rd sd w0 sc ar b (rb + 5 + k) = some (rd (5 + k), .inr (2, bFs rd sd ar k)) := by
  unfold rW
  rw [if_neg (by omega), if_neg (by omega), if_neg (by omega), if_neg (by omega), if_neg (by omega), if_pos (by omega), show rb + 5 + k - rb = 5 + k by omega, show rb + 5 + k - (rb + 5) = k by omega]
theorem rW_0 {m : Nat} (h : m < rb ∨ rb + 8 ≤ m) (hn : n ≤ 3) : rW G rb n md rd sd w0 sc ar b m = w0 m := by
  unfold rW
  rw [if_neg (by omega), if_neg (by omega), if_neg (by omega), if_neg (by omega), if_neg (by omega), if_neg (by omega)]
/-- the size of the list of bodies, whatever it is -/
theorem rW_tz : ∃ d : Nat, rW G rb n md rd sd w0 sc ar b (rb + 1) = some (rd 1, .inr (6, [.ref d, .int (nI n), .int md])) := by simp [rW]
theorem rW_up {ar' : Nat → Nat → Int32} {k : Nat} (hk : k < n) {fs : List Value} (h : fs = bFs rd sd ar' k) (ho : ∀ j, j < n → j ≠ k → bFs rd sd ar' j = bFs rd sd ar j) :
    va_up (rW G rb n md rd sd w0 sc ar b) (rb + 5 + k) (some (rd (5 + k), .inr (2, fs))) = rW G rb n md rd sd w0 sc ar' b := by
  subst h
  funext m
  by_cases e : m = rb + 5 + k
  · subst e
    rw [up_s, rW_b hk]
  · rw [up_n _ _ e]
    unfold rW
    split
    · rfl
    split
    · rfl
    split
    · rfl
    split
    · rfl
    split
    · rfl
    split
    · rename_i h5
      rw [ho (m - (rb + 5)) (by omega) (by omega)]
    · rfl
theorem rW_ob {sc' : Nat → Int32} {fs : List Value} (h : fs = rFs rd sd sc') : va_up (rW G rb n md rd sd w0 sc ar b) rb (some (rd 0, .inr (4, fs))) = rW G rb n md rd sd w0 sc' ar b := by
  subst h
  funext m
  by_cases e : m = rb
  · subst e; rw [up_s, rW_o]
  · rw [up_n _ _ e]; unfold rW; rw [if_neg e, if_neg e]
theorem rW_bits {b' : Bt} {d' L' u' : Nat} {f' : Nat → Int64} (h : b' = (d', L', u', f')) : va_up (va_up (rW G rb n md rd sd w0 sc ar b) (rb + 4) (some (d', .inl (G.2.1 2, L', .inr (.inl f'))))) (rb + 3) (some (rd 3, .inr (7, [.ref d', .int (nI u'), .int 0]))) = rW G rb n md rd sd w0 sc ar b' := by
  subst h
  funext m
  by_cases e : m = rb + 3
  · subst e; rw [up_s, rW_s]
  · rw [up_n _ _ e]
    by_cases e4 : m = rb + 4
    · subst e4; rw [up_s, rW_w]
    · rw [up_n _ _ e4]; unfold rW; rw [if_neg e, if_neg e4, if_neg e, if_neg e4]
/-- the world depends on the bodies' own numbers alone -/
theorem rW_ar {ar' : Nat → Nat → Int32} (h : ∀ k, k < n → bFs rd sd ar' k = bFs rd sd ar k) : rW G rb n md rd sd w0 sc ar' b = rW G rb n md rd sd w0 sc ar b := by
  funext m
  unfold rW
  split
  · rfl
  split
  · rfl
  split
  · rfl
  split
  · rfl
  split
  · rfl
  split
  · rename_i h5
    rw [h (m - (rb + 5)) (by omega)]
  · rfl
theorem rW_sc {sc' : Nat → Int32} (h : rFs rd sd sc' = rFs rd sd sc) : rW G rb n md rd sd w0 sc' ar b = rW G rb n md rd sd w0 sc ar b := by
  unfold rW; rw [h]
theorem rW_w0 {w1 : WF} (h : ∀ m, m < rb ∨ rb + 8 ≤ m → w1 m = w0 m) : ∀ m, m < rb ∨ rb + 8 ≤ m → n ≤ 3 → rW G rb n md rd sd w1 sc ar b m = w0 m := fun m hm hn => (rW_0 hm hn).trans (h m hm)
end XRW
theorem bFs_n {rd sd : Nat → Nat} {ar ar' : Nat → Nat → Int32} {k : Nat} (h : ∀ i, 12 ≤ i → i ≤ 16 → ar' i k = ar i k) : bFs rd sd ar' k = bFs rd sd ar k := by
  unfold bFs; rw [h 12 (by decide) (by decide), h 13 (by decide) (by decide), h 14 (by decide) (by decide), h 15 (by decide) (by decide), h 16 (by decide) (by decide)]
theorem rFs_n {rd sd : Nat → Nat} {sc sc' : Nat → Int32} (h : ∀ j, 7 ≤ j → j ≤ 11 → sc' j = sc j) : rFs rd sd sc' = rFs rd sd sc := by
  unfold rFs; rw [h 7 (by decide) (by decide), h 8 (by decide) (by decide), h 9 (by decide) (by decide), h 10 (by decide) (by decide), h 11 (by decide) (by decide)]
-- bits
def bitA (f : Nat → Int64) (t : Nat) : Prop := ¬ f (t / 64) &&& (1 <<< ((nI t).toInt64 &&& 63)) = 0
/-- the bits b are the cells g -/
def BR (b : Bt) (g : Nat → Int32) : Prop := 0 < b.2.1 ∧ b.2.1 ≤ 128 ∧ b.2.2.1 ≤ b.2.1 ∧ (∀ k, min b.2.2.1 64 ≤ k → b.2.2.2 k = 0) ∧ ∀ t, t < 4096 → (bitA b.2.2.2 t ↔ g t = 1)
def rmP (sz tz L L' : Nat) (H : Heap) : Prop := L ≤ L' ∧ H.size + pc6 L' ≤ sz + pc6 L ∧ hTot H + ps6 L' ≤ tz + ps6 L
theorem BR.congr {b : Bt} {g g' : Nat → Int32} (h : BR b g) (hg : ∀ t, t < 4096 → (g' t = 1 ↔ g t = 1)) : BR b g' := ⟨h.1, h.2.1, h.2.2.1, h.2.2.2.1, fun t ht => (h.2.2.2.2 t ht).trans (hg t ht).symm⟩
theorem bit_m : ∀ j, j < 64 → ((1 : Int64) <<< ((nI j).toInt64 &&& 63)).toBitVec = BitVec.twoPow 64 j := by decide +kernel
theorem bit_63 (t : Nat) (h : t < 4096) : (nI t).toInt64 &&& 63 = (nI (t % 64)).toInt64 &&& 63 := by
  rw [nI_l (by omega), nI_l (by omega)]
  apply Int64.toBitVec_inj.mp
  rw [Int64.toBitVec_and, Int64.toBitVec_and]
  show BitVec.ofNat 64 t &&& 63#64 = BitVec.ofNat 64 (t % 64) &&& 63#64
  apply BitVec.eq_of_toNat_eq
  simp only [BitVec.toNat_and, BitVec.toNat_ofNat]
  rw [Nat.mod_eq_of_lt (show t < 2 ^ 64 by omega), Nat.mod_eq_of_lt (show t % 64 < 2 ^ 64 by omega)]
  show t &&& (2 ^ 6 - 1) = t % 64 &&& (2 ^ 6 - 1)
  rw [Nat.and_two_pow_sub_one_eq_mod, Nat.and_two_pow_sub_one_eq_mod]
  omega
theorem bit_g (x : Int64) {t : Nat} (h : t < 4096) : ¬ x &&& (1 <<< ((nI t).toInt64 &&& 63)) = 0 ↔ x.toBitVec.getLsbD (t % 64) = true := by
  rw [bit_63 t h]
  have hm := bit_m (t % 64) (Nat.mod_lt _ (by decide))
  generalize (1 : Int64) <<< ((nI (t % 64)).toInt64 &&& 63) = m at hm
  have e1 : (x &&& m = 0) ↔ (x.toBitVec &&& m.toBitVec) = 0#64 := by
    rw [← Int64.toBitVec_inj, Int64.toBitVec_and]; rfl
  rw [e1, hm, BitVec.and_twoPow]
  by_cases hb : x.toBitVec.getLsbD (t % 64) = true
  · simp only [hb, if_true]
    refine ⟨fun _ => trivial, fun _ z => ?_⟩
    have := congrArg (fun v : BitVec 64 => v.getLsbD (t % 64)) z
    simp at this
    omega
  · simp [hb]
theorem bit_or (x : Int64) {t s : Nat} (h : t < 4096) (hs : s < 4096) : (x ||| (1 <<< ((nI t).toInt64 &&& 63))).toBitVec.getLsbD (s % 64) = (x.toBitVec.getLsbD (s % 64) || decide (s % 64 = t % 64)) := by
  rw [bit_63 t h]
  have hm := bit_m (t % 64) (Nat.mod_lt _ (by decide))
  generalize (1 : Int64) <<< ((nI (t % 64)).toInt64 &&& 63) = m at hm
  rw [Int64.toBitVec_or, BitVec.getLsbD_or, hm, BitVec.getLsbD_twoPow]
  congr 1
  have : t % 64 < 64 := Nat.mod_lt _ (by decide)
  by_cases e : s % 64 = t % 64
  · simp [e]; omega
  · simp [e, Ne.symm e]
theorem BR.set {d L u d' L' t : Nat} {f : Nat → Int64} {g : Nat → Int32} (h : BR (d, L, u, f) g) (ht : t < 4096) (h1 : t / 64 < L') (h2 : L ≤ L') (h3 : L' ≤ 128) :
    BR (d', L', max u (t / 64 + 1), vp_updL f (t / 64) (f (t / 64) ||| (1 <<< ((nI t).toInt64 &&& 63)))) (upd g t 1) := by
  obtain ⟨q1, q2, q3, q4, q5⟩ := h
  dsimp only at q1 q2 q3 q4 q5
  refine ⟨by show 0 < L'; omega, h3, by show max u (t / 64 + 1) ≤ L'; omega, fun k hk => ?_, fun s hs => ?_⟩
  · have hk : min (max u (t / 64 + 1)) 64 ≤ k := hk
    show vp_updL f (t / 64) _ k = 0
    have : k ≠ t / 64 := by omega
    simp only [vp_updL, this, if_false]
    exact q4 k (by omega)
  · show bitA (vp_updL f (t / 64) _) s ↔ upd g t 1 s = 1
    have e0 := q5 s hs
    unfold bitA at e0 ⊢
    rw [bit_g _ hs] at e0 ⊢
    by_cases e : s / 64 = t / 64
    · simp only [vp_updL, e, if_true]
      rw [bit_or _ ht hs, ← e, Bool.or_eq_true, e0, decide_eq_true_iff]
      by_cases e2 : s = t
      · subst e2; simp [upd]
      · have : ¬ s % 64 = t % 64 := by omega
        simp [upd, e2, this]
    · simp only [vp_updL, e, if_false]
      rw [e0]
      have e2 : ¬ s = t := fun z => e (by rw [z])
      simp [upd, e2]
theorem rW_bput {G : GG} {rb n : Nat} {md : Int32} {rd sd : Nat → Nat} {w0 : WF} {sc : Nat → Int32} {ar : Nat → Nat → Int32} {b : Bt} {k : Nat} (hk : k < n) (q i : Nat) (hi : 12 ≤ i ∧ i ≤ 16) (hq : i = q + 10) (v : Int32) :
    va_up (rW G rb n md rd sd w0 sc ar b) (rb + 5 + k) (some (rd (5 + k), .inr (2, (bFs rd sd ar k).set q (.int v)))) = rW G rb n md rd sd w0 sc (va_up ar i (upd (ar i) k v)) b := by
  refine rW_up hk ?_ (fun j hj hjk => bFs_n (fun i' _ _ => ?_))
  · have : q = 2 ∨ q = 3 ∨ q = 4 ∨ q = 5 ∨ q = 6 := by omega
    rcases this with h | h | h | h | h <;> (subst h; subst hq; simp [bFs, va_up, upd])
  · by_cases e : i' = i
    · subst e; rw [up_s]; simp [upd, hjk]
    · rw [up_n _ _ e]
