/-! Joins and loops of a walk; the twin's world. -/
section XJ
variable {p : Program} {l : Launch} {e : Env} {R : Room} {s : State} {m : MethodId} {args : Array Value} {below : List Frame} {meth : Method} {c : Code} {H : Heap} {locs : List Loc} {cells slots : Nat} {Q : State → Prop}
variable {pc nL : Nat} {ls : Array Slot} {st : List Value}
/-- roads that meet at pcj: x is what they may differ in -/
theorem x_join {X : Type} (P : X → Prop) (L : X → List (Nat × Value)) (sj : X → List Value) (pcj : Nat)
    (J : ∀ (ls : Array Slot) (x : X), lv_has ls nL (L x) → P x → W p l e R s m args below meth c H locs cells slots Q (F0 m pcj ls (sj x)))
    (k : (∀ (ls : Array Slot) (x : X), lv_has ls nL (L x) → P x → W p l e R s m args below meth c H locs cells slots Q (F0 m pcj ls (sj x))) → W p l e R s m args below meth c H locs cells slots Q (F0 m pc ls st)) : W p l e R s m args below meth c H locs cells slots Q (F0 m pc ls st) := k J
/-- the same where the heap may differ too -/
theorem x_joinH {X : Type} (P : X → Heap → List Loc → Prop) (L : X → List (Nat × Value)) (sj : X → List Value) (pcj : Nat)
    (J : ∀ (ls : Array Slot) (x : X) (H : Heap) (locs : List Loc), lv_has ls nL (L x) → P x H locs → W p l e R s m args below meth c H locs cells slots Q (F0 m pcj ls (sj x)))
    (k : (∀ (ls : Array Slot) (x : X) (H : Heap) (locs : List Loc), lv_has ls nL (L x) → P x H locs → W p l e R s m args below meth c H locs cells slots Q (F0 m pcj ls (sj x))) → W p l e R s m args below meth c H locs cells slots Q (F0 m pc ls st)) : W p l e R s m args below meth c H locs cells slots Q (F0 m pc ls st) := k J
/-- a loop: μ falls -/
theorem x_loop {X : Type} (μ : X → Nat) (I : X → Heap → List Loc → Prop) (L : X → List (Nat × Value)) (pch : Nat)
    (body : ∀ (x : X) (H : Heap) (locs : List Loc) (ls : Array Slot), I x H locs → lv_has ls nL (L x) → (∀ (y : X) (H : Heap) (locs : List Loc) (ls : Array Slot), μ y < μ x → I y H locs → lv_has ls nL (L y) → W p l e R s m args below meth c H locs cells slots Q (F0 m pch ls [])) → W p l e R s m args below meth c H locs cells slots Q (F0 m pch ls [])) :
    ∀ (x : X) (H : Heap) (locs : List Loc) (ls : Array Slot), I x H locs → lv_has ls nL (L x) → W p l e R s m args below meth c H locs cells slots Q (F0 m pch ls []) := by
  have key : ∀ (n : Nat) (x : X), μ x < n → ∀ (H : Heap) (locs : List Loc) (ls : Array Slot), I x H locs → lv_has ls nL (L x) → W p l e R s m args below meth c H locs cells slots Q (F0 m pch ls []) := by
    intro n
    induction n with
    | zero => intro x h; exact absurd h (Nat.not_lt_zero _)
    | succ n ih => intro x h H locs ls hI hl; exact body x H locs ls hI hl (fun y H locs ls hy => ih y (by omega) H locs ls)
  exact fun x => key (μ x + 1) x (Nat.lt_succ_self _)
/-- a loop that makes cells: its counts are in I -/
theorem x_loopC {X : Type} (μ : X → Nat) (I : X → Heap → List Loc → Nat → Nat → Prop) (L : X → List (Nat × Value)) (pch : Nat)
    (body : ∀ (x : X) (H : Heap) (locs : List Loc) (cells slots : Nat) (ls : Array Slot), I x H locs cells slots → lv_has ls nL (L x) → (∀ (y : X) (H : Heap) (locs : List Loc) (cells slots : Nat) (ls : Array Slot), μ y < μ x → I y H locs cells slots → lv_has ls nL (L y) → W p l e R s m args below meth c H locs cells slots Q (F0 m pch ls [])) → W p l e R s m args below meth c H locs cells slots Q (F0 m pch ls [])) :
    ∀ (x : X) (H : Heap) (locs : List Loc) (cells slots : Nat) (ls : Array Slot), I x H locs cells slots → lv_has ls nL (L x) → W p l e R s m args below meth c H locs cells slots Q (F0 m pch ls []) := by
  have key : ∀ (n : Nat) (x : X), μ x < n → ∀ (H : Heap) (locs : List Loc) (cells slots : Nat) (ls : Array Slot), I x H locs cells slots → lv_has ls nL (L x) → W p l e R s m args below meth c H locs cells slots Q (F0 m pch ls []) := by
    intro n
    induction n with
    | zero => intro x h; exact absurd h (Nat.not_lt_zero _)
    | succ n ih => intro x h H locs cells slots ls hI hl; exact body x H locs cells slots ls hI hl (fun y H locs cells slots ls hy => ih y (by omega) H locs cells slots ls)
  exact fun x => key (μ x + 1) x (Nat.lt_succ_self _)
end XJ
-- the twin: 13 numbers sc, 20 arrays ar (0: the cosines, which stay), their places ad (20: the object itself)
def mFs (ad : Nat → Nat) (sc : Nat → Int32) : List Value := [.int (sc 0), .ref (ad 0), .int (sc 1), .ref (ad 1), .ref (ad 2), .ref (ad 3), .ref (ad 4), .ref (ad 5), .int (sc 2), .int (sc 3), .int (sc 4), .int (sc 5), .int (sc 6), .ref (ad 6), .ref (ad 7), .ref (ad 8), .ref (ad 9), .ref (ad 10), .ref (ad 11), .ref (ad 12), .ref (ad 13), .ref (ad 14), .ref (ad 15), .ref (ad 16), .int (sc 7), .int (sc 8), .int (sc 9), .int (sc 10), .int (sc 11), .int (sc 12), .ref (ad 17), .ref (ad 18), .ref (ad 19)]
def mC (i : Nat) : Nat := if i = 11 ∨ i = 17 ∨ i = 19 then 1 else 0
def mN (i : Nat) : Nat := match i with
  | 0 => 17 | 6 => 20 | 7 => 20 | 8 => 4 | 9 => 24 | 10 => 24 | 11 => 24 | 17 => 4096 | 18 => 20 | 19 => 4096 | _ => 3
def mW (G : GG) (ad : Nat → Nat) (w0 : WF) (sc : Nat → Int32) (ar : Nat → Nat → Int32) : WF := fun n =>
  if n = 1000 then some (ad 20, .inr (5, mFs ad sc))
  else if n = 1001 then some (ad 0, .inl (G.2.1 0, 17, .inl cosT))
  else if 1001 < n ∧ n < 1021 then some (ad (n - 1001), .inl (G.2.1 (mC (n - 1001)), mN (n - 1001), .inl (ar (n - 1001))))
  else w0 n
section XM
variable {G : GG} {ad : Nat → Nat} {w0 : WF} {sc : Nat → Int32} {ar : Nat → Nat → Int32}
theorem mW_o : mW G ad w0 sc ar 1000 = some (ad 20, .inr (5, mFs ad sc)) := by simp [mW]
theorem mW_c : mW G ad w0 sc ar 1001 = some (ad 0, .inl (G.2.1 0, 17, .inl cosT)) := by simp [mW]
theorem mW_i (i : Nat) {N : Nat} {f : Nat → Int32} (h0 : 0 < i) (h : i < 20) (hc : mC i = 0) (hN : mN i = N) (hf : ar i = f) : mW G ad w0 sc ar (1001 + i) = some (ad i, .inl (G.2.1 0, N, .inl f)) := by
  subst hN; subst hf
  unfold mW
  rw [if_neg (by omega), if_neg (by omega), if_pos (by omega), show 1001 + i - 1001 = i by omega, hc]
theorem mW_z (i : Nat) {N : Nat} {f : Nat → Int32} (h0 : 0 < i) (h : i < 20) (hc : mC i = 1) (hN : mN i = N) (hf : ar i = f) : mW G ad w0 sc ar (1001 + i) = some (ad i, .inl (G.2.1 1, N, .inl f)) := by
  subst hN; subst hf
  unfold mW
  rw [if_neg (by omega), if_neg (by omega), if_pos (by omega), show 1001 + i - 1001 = i by omega, hc]
theorem mW_w {n : Nat} (h : n < 1000 ∨ 1021 ≤ n) : mW G ad w0 sc ar n = w0 n := by
  unfold mW
  rw [if_neg (by omega), if_neg (by omega), if_neg (by omega)]
theorem mW_set {sc' : Nat → Int32} {fs : List Value} (h : fs = mFs ad sc') : va_up (mW G ad w0 sc ar) 1000 (some (ad 20, .inr (5, fs))) = mW G ad w0 sc' ar := by
  subst h
  funext n
  unfold va_up mW
  by_cases hn : n = 1000
  · simp [hn]
  · simp [hn]
theorem mW_ar {i : Nat} (h0 : 0 < i) (h : i < 20) {N k : Nat} {f g : Nat → Int32} (hk : mC i = k) (hN : mN i = N) (hg : g = f) : va_up (mW G ad w0 sc ar) (1001 + i) (some (ad i, .inl (G.2.1 k, N, .inl g))) = mW G ad w0 sc (va_up ar i f) := by
  subst hk; subst hN; subst hg
  funext n
  unfold va_up mW
  by_cases hn : n = 1001 + i
  · subst hn
    rw [if_pos rfl, if_neg (by omega), if_neg (by omega), if_pos (by omega), show 1001 + i - 1001 = i by omega]
    simp
  · rw [if_neg hn]
    by_cases h1 : n = 1000
    · simp [h1]
    · by_cases h2 : n = 1001
      · simp [h2]
      · rw [if_neg h1, if_neg h2, if_neg h1, if_neg h2]
        by_cases h3 : 1001 < n ∧ n < 1021
        · rw [if_pos h3, if_pos h3]
          simp [show ¬ n - 1001 = i by omega]
        · rw [if_neg h3, if_neg h3]
theorem mW_w0 (w1 : WF) (h : ∀ n, n < 1000 ∨ 1021 ≤ n → w1 n = w0 n) : mW G ad w1 sc ar = mW G ad w0 sc ar := by
  funext n
  unfold mW
  by_cases h1 : n = 1000
  · simp [h1]
  · by_cases h2 : n = 1001
    · simp [h2]
    · rw [if_neg h1, if_neg h2, if_neg h1, if_neg h2]
      by_cases h3 : 1001 < n ∧ n < 1021
      · rw [if_pos h3, if_pos h3]
      · rw [if_neg h3, if_neg h3]; exact h n (by omega)
end XM
section XMR
variable {p : Program} {l : Launch} {e : Env} {R : Room} {s : State} {m : MethodId} {args : Array Value} {below : List Frame} {meth : Method} {c : Code} {H : Heap} {locs : List Loc} {cells slots : Nat} {Q : State → Prop}
variable {cc : ByteArray} {pc : Nat} {ls : Array Slot} {nL : Nat} {own : String} {G : GG} {A : Nat → Prop} {rest : List Value} {ad : Nat → Nat} {w0 : WF} {sc : Nat → Int32} {ar : Nat → Nat → Int32}
theorem m_put (C : Cx p s m args meth c cc nL own G A) (hH : Hw G A s (mW G ad w0 sc ar) H locs) (k j : Nat) {v : Int32} (hset : (mFs ad sc).set k (.int v) = mFs ad (va_up sc j v)) (hk : k < 33) {index : Nat}
    (hlink : Cond.fieldLink own index "SweptPathsModel" (F_Mo k).2.1 (F_Mo k).2.2.1 ∈ wt) (hown : (F_Mo k).1 = "SweptPathsModel") (hfin : (F_Mo k).2.2.2 = false) (hn : narrow (f_Mo k) (.int v) = .int v) (hfit : fits (f_Mo k) (.int v) = true) (hdg : decode cc pc = .ok (.putfield index, 3))
    (kk : ∀ (H : Heap) (locs : List Loc), Hw G A s (mW G ad w0 (va_up sc j v) ar) H locs → W p l e R s m args below meth c H locs cells slots Q (F0 m (pc + 3) ls rest)) : W p l e R s m args below meth c H locs cells slots Q (F0 m pc ls (.int v :: .ref (ad 20) :: rest)) := by
  refine x_put C hH 1000 mW_o k (v := .int v) hk (q := ("SweptPathsModel", F_Mo, 33)) rfl hk hlink (fun x hx => by rw [← hown]; exact hx) hfin hn hfit hdg (fun H locs h => kk H locs ?_)
  rw [mW_set hset] at h
  exact h
theorem m_ast (C : Cx p s m args meth c cc nL own G A) (hH : Hw G A s (mW G ad w0 sc ar) H locs) (i : Nat) (h0 : 0 < i) (h : i < 20) (hc : mC i = 0) {N : Nat} (hN : mN i = N) {f : Nat → Int32} (hf : ar i = f) {x v : Int32} {j : Nat} (hx : x = nI j) (hj : j < N) (hdg : decode cc pc = .ok (.iastore, 1))
    (kk : ∀ (H : Heap) (locs : List Loc), Hw G A s (mW G ad w0 sc (va_up ar i (upd f j v))) H locs → W p l e R s m args below meth c H locs cells slots Q (F0 m (pc + 1) ls rest)) : W p l e R s m args below meth c H locs cells slots Q (F0 m pc ls (.int v :: .int x :: .ref (ad i) :: rest)) := by
  have hN2 : N < 2 ^ 31 := by subst hN; unfold mN; split <;> decide
  refine x_ast C hH (1001 + i) (mW_i i h0 h hc hN hf) hx hj hN2 hdg (fun H locs h2 => kk H locs ?_)
  have e1 := mW_ar (G := G) (ad := ad) (w0 := w0) (sc := sc) (ar := ar) h0 h hc hN (rfl : upd f j v = upd f j v)
  rw [e1] at h2
  exact h2
theorem m_zst (C : Cx p s m args meth c cc nL own G A) (hH : Hw G A s (mW G ad w0 sc ar) H locs) (i : Nat) (h0 : 0 < i) (h : i < 20) (hc : mC i = 1) {N : Nat} (hN : mN i = N) {f : Nat → Int32} (hf : ar i = f) {x v : Int32} {j : Nat} (hx : x = nI j) (hj : j < N) (hv : narrow .boolean (.int v) = .int v) (hdg : decode cc pc = .ok (.bastore, 1))
    (kk : ∀ (H : Heap) (locs : List Loc), Hw G A s (mW G ad w0 sc (va_up ar i (upd f j v))) H locs → W p l e R s m args below meth c H locs cells slots Q (F0 m (pc + 1) ls rest)) : W p l e R s m args below meth c H locs cells slots Q (F0 m pc ls (.int v :: .int x :: .ref (ad i) :: rest)) := by
  have hN2 : N < 2 ^ 31 := by subst hN; unfold mN; split <;> decide
  refine x_zst C hH (1001 + i) (mW_z i h0 h hc hN hf) hx hj hN2 hv hdg (fun H locs h2 => kk H locs ?_)
  have e1 := mW_ar (G := G) (ad := ad) (w0 := w0) (sc := sc) (ar := ar) h0 h hc hN (rfl : upd f j v = upd f j v)
  rw [e1] at h2
  exact h2
end XMR
/-- an array's cell depends on its places alone -/
theorem cell_congr {cA : ClassId} {N : Nat} {f g : Nat → Int32} (h : ∀ j, j < N → f j = g j) : vp_cell cA (N, .inl f) = vp_cell cA (N, .inl g) := by
  rw [vp_cell_i, vp_cell_i]
  unfold arrV
  congr 2
  funext j
  show Value.int (f j.val) = Value.int (g j.val)
  rw [h j.val j.isLt]
/-- the twin's world with other contents that agree where there are places -/
theorem mW_congr {G : GG} {ad : Nat → Nat} {w0 : WF} {sc : Nat → Int32} {ar ar' : Nat → Nat → Int32} {H : Heap} (hP : wP G (mW G ad w0 sc ar) H) (h : ∀ i, 0 < i → i < 20 → ∀ j, j < mN i → ar i j = ar' i j) : wP G (mW G ad w0 sc ar') H := by
  intro n q hq
  by_cases h3 : 1001 < n ∧ n < 1021
  · have e1 : mW G ad w0 sc ar' n = some (ad (n - 1001), .inl (G.2.1 (mC (n - 1001)), mN (n - 1001), .inl (ar' (n - 1001)))) := by
      unfold mW; rw [if_neg (by omega), if_neg (by omega), if_pos h3]
    have e2 : mW G ad w0 sc ar n = some (ad (n - 1001), .inl (G.2.1 (mC (n - 1001)), mN (n - 1001), .inl (ar (n - 1001)))) := by
      unfold mW; rw [if_neg (by omega), if_neg (by omega), if_pos h3]
    rw [e1] at hq
    cases hq
    have h1 := hP n _ e2
    show H[_]? = some (vp_cell _ _)
    rw [← cell_congr (f := ar (n - 1001)) (h (n - 1001) (by omega) (by omega))]
    exact h1
  · have e1 : mW G ad w0 sc ar' n = mW G ad w0 sc ar n := by
      unfold mW
      by_cases h1 : n = 1000
      · simp [h1]
      · by_cases h2 : n = 1001
        · simp [h2]
        · rw [if_neg h1, if_neg h2, if_neg h1, if_neg h2, if_neg h3, if_neg h3]
    exact hP n q (by rw [← e1]; exact hq)
theorem mW_congrD {G : GG} {A : Nat → Prop} {ad : Nat → Nat} {w0 : WF} {sc sc' : Nat → Int32} {ar ar' : Nat → Nat → Int32} (hD : wD A (mW G ad w0 sc ar)) : wD A (mW G ad w0 sc' ar') := by
  have key : ∀ n q, mW G ad w0 sc' ar' n = some q → ∃ q0, mW G ad w0 sc ar n = some q0 ∧ q0.1 = q.1 := by
    intro n q hq
    unfold mW at hq ⊢
    by_cases h1 : n = 1000
    · rw [if_pos h1] at hq ⊢; cases hq; exact ⟨_, rfl, rfl⟩
    · by_cases h2 : n = 1001
      · rw [if_neg h1, if_pos h2] at hq ⊢; cases hq; exact ⟨_, rfl, rfl⟩
      · by_cases h3 : 1001 < n ∧ n < 1021
        · rw [if_neg h1, if_neg h2, if_pos h3] at hq ⊢; cases hq; exact ⟨_, rfl, rfl⟩
        · rw [if_neg h1, if_neg h2, if_neg h3] at hq ⊢; exact ⟨q, hq, rfl⟩
  refine ⟨fun i j x y hi hj hxy => ?_, fun k q hk => ?_⟩
  · obtain ⟨x0, h1, h2⟩ := key i x hi
    obtain ⟨y0, h3, h4⟩ := key j y hj
    exact hD.1 i j x0 y0 h1 h3 (h2.trans (hxy.trans h4.symm))
  · obtain ⟨q0, h1, h2⟩ := key k q hk
    rw [← h2]; exact hD.2 k q0 h1
theorem Hw.mcongr {G : GG} {A : Nat → Prop} {s : State} {ad : Nat → Nat} {w0 : WF} {sc : Nat → Int32} {ar ar' : Nat → Nat → Int32} {H : Heap} {locs : List Loc} (hH : Hw G A s (mW G ad w0 sc ar) H locs) (h : ∀ i, 0 < i → i < 20 → ∀ j, j < mN i → ar i j = ar' i j) : Hw G A s (mW G ad w0 sc ar') H locs := ⟨mW_congr hH.1 h, mW_congrD hH.2.1, hH.2.2⟩
