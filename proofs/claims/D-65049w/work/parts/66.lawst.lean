/-! The law's state between two commands, and rows of its walk. -/
def LI (G : GG) (A : Nat → Prop) (s : State) (oa : Nat) (ad : Nat → Nat) (sa : Nat) (H : Heap) (locs : List Loc) : Prop :=
  ∃ (rb n : Nat) (md : Int32) (rd sd : Nat → Nat) (ms : Nat → Int32) (fl mn : Nat → Nat) (sc : Nat → Int32) (ar : Nat → Nat → Int32) (b : Bt) (np : Nat) (f : Nat → Int64), RI rb n fl mn b np sc ar ∧ sd 0 = sa ∧ Hw G A s (cW G rb n md rd sd ms fl mn sc ar b (lwW G oa f ad sc ar)) H locs
section XLS
variable {p : Program} {l : Launch} {e : Env} {R : Room} {s : State} {m : MethodId} {args : Array Value} {below : List Frame} {meth : Method} {c : Code} {H : Heap} {locs : List Loc} {cells slots : Nat} {Q : State → Prop}
variable {cc : ByteArray} {pc : Nat} {ls : Array Slot} {nL : Nat} {own : String} {G : GG} {A : Nat → Prop} {rest : List Value} {b0 L : Nat} {xs : Nat → Int32}
theorem x_sld (C : Cx p s m args meth c cc nL own G A) (hX : va_X b0 L xs s s.heap) (hbl : b0 < s.heap.size) (hbA : ¬ A b0) (hS : va_S A s.heap H locs) (hL : L ≤ 384) {v : Int32} {j : Nat} (hv : v = nI j) (hj : j < L) (hdg : decode cc pc = .ok (.iaload, 1))
    (kk : W p l e R s m args below meth c H locs cells slots Q (F0 m (pc + 1) ls (.int (xs j) :: rest))) : W p l e R s m args below meth c H locs cells slots Q (F0 m pc ls (.int v :: .ref b0 :: rest)) := by
  subst hv
  refine va_sld C.1 C.2.1 hX hbl hbA hS (vp_in_nI hj (by omega)) hdg ?_
  rw [nI_clamp (by omega)]
  exact kk
end XLS
theorem ix_1 (i : Nat) : nI i + 1 = nI (i + 1) := nI_add i 1
theorem ix_2 (i : Nat) : nI i + 2 = nI (i + 2) := nI_add i 2
theorem ix_3 (i : Nat) : nI i + 3 = nI (i + 3) := nI_add i 3
theorem ix_4 (i : Nat) : nI i + 4 = nI (i + 4) := nI_add i 4
theorem ix_5 (i : Nat) : nI i + 5 = nI (i + 5) := nI_add i 5
section XLM
variable {G : GG} {rb n : Nat} {md : Int32} {rd sd : Nat → Nat} {ms : Nat → Int32} {fl mn : Nat → Nat} {sc sc' : Nat → Int32} {ar ar' : Nat → Nat → Int32} {b : Bt} {w0 : WF} {ad : Nat → Nat} {sc2 : Nat → Int32} {ar2 : Nat → Nat → Int32} {oa : Nat} {f : Nat → Int64}
theorem cW_mx (h1 : ∀ j, 2 ≤ j → j ≤ 11 → sc' j = sc j) (h2 : ∀ i, 1 ≤ i → i ≤ 16 → ar' i = ar i) : cW G rb n md rd sd ms fl mn sc' ar' b w0 = cW G rb n md rd sd ms fl mn sc ar b w0 :=
  cw_mix (fun j a b => h1 j a (by omega)) (fun i a b => h2 i a (by omega)) (fun j a b => h1 j (by omega) b) (fun i a b k _ => by rw [h2 i (by omega) b])
theorem cW_0 {v : Int32} : cW G rb n md rd sd ms fl mn sc ar b w0 = cW G rb n md rd sd ms fl mn (va_up sc 0 v) ar b w0 := (cW_mx (fun j a _ => up_n _ _ (by omega)) (fun _ _ _ => rfl)).symm
theorem to_mW (hn : n ≤ 3) (hrb : rb ≤ 200) : cW G rb n md rd sd ms fl mn sc ar b (lwW G oa f ad sc2 ar2) = mW G ad (cW G rb n md rd sd ms fl mn sc ar b (oW G oa f)) sc2 ar2 := (mc_swap hn hrb).symm
theorem mo_o (hn : n ≤ 3) (hrb : rb ≤ 200) : mW G ad (cW G rb n md rd sd ms fl mn sc ar b (oW G oa f)) sc2 ar2 500 = some (oa, .inl (G.2.1 2, 1, .inr (.inl f))) := (mW_w (Or.inl (by decide))).trans ((cW_hi (by decide) hn hrb).trans oW_o)
end XLM
theorem fKeep_n {sc : Nat → Int32} {ar : Nat → Nat → Int32} {i : Nat} (h1 : i ≠ 18) (h2 : i ≠ 19) : fKeep sc ar i = ar i := by unfold fKeep; rw [up_n _ _ h2, up_n _ _ h1]
theorem z_body {sc : Nat → Int32} {X : Nat → Nat → Int32} : (fBegin (fBodyS sc, X)).1 0 = 0 := by
  rw [fBegin_sc _ (by decide) (by decide) (by decide) (by decide) (by decide) (by decide)]
  show fBodyS sc 0 = 0
  unfold fBodyS; rw [up_n _ _ (by decide), up_s]
theorem z_start {sc : Nat → Int32} {X : Nat → Nat → Int32} {a1 a2 a3 : Int32} : (fBegin (fStartS sc a1 a2 a3, X)).1 0 = 0 := by
  rw [fBegin_sc _ (by decide) (by decide) (by decide) (by decide) (by decide) (by decide)]
  show fStartS sc a1 a2 a3 0 = 0
  unfold fStartS; rw [up_n _ _ (by decide), up_n _ _ (by decide), up_n _ _ (by decide), up_s]
theorem z_step {sc : Nat → Int32} {X : Nat → Nat → Int32} {a1 : Int32} : (fBegin (fStepS sc a1, X)).1 0 = 0 := by
  rw [fBegin_sc _ (by decide) (by decide) (by decide) (by decide) (by decide) (by decide)]
  show fStepS sc a1 0 = 0
  unfold fStepS; rw [up_n _ _ (by decide), up_s]
theorem z_pole {sc : Nat → Int32} : fPoleS sc 0 = 0 := by unfold fPoleS; rw [up_n _ _ (by decide), up_s]
theorem z_go {sc : Nat → Int32} {X : Nat → Nat → Int32} {a fw : Int32} {N : Nat} : (goI (va_up sc 0 0, X) a fw N).1 0 = 0 := by
  rw [goI_sc _ _ _ _ (by decide) (by decide) (by decide) (by decide) (by decide) (by decide)]
  show va_up sc 0 0 0 = 0
  rw [up_s]
theorem cell_ix {v : Int32} (h : p_in v (-32) 31 = 1) : ∃ a, a < 64 ∧ v = zs a := by
  obtain ⟨h1, h2⟩ := p_inE.mp h
  obtain ⟨a, ha, e⟩ := wi_nat v
  refine ⟨a, by omega, ?_⟩
  rw [← e]
  unfold p_wi
  rw [if_neg (Int32.not_lt.mpr h1), if_neg (Int32.not_lt.mpr h2)]
theorem pos_ix {v b : Int32} (h : p_in v 1 b = 1) : ∃ N, N < 2 ^ 31 ∧ v = nI N := nI_of (Int32.not_lt.mpr (Int32.le_trans (by decide) (p_inE.mp h).1))
theorem mn_6 {mn : Nat → Nat} {ar : Nat → Nat → Int32} {q : Nat} (h : plK mn ar) (hq : q < 4) (h6 : mn q = 6) : ar 8 q = 6 := by rw [(h q hq).2.1, h6]; rfl
theorem n_3 {x : Int32} {n : Nat} (h : x = nI n) (h3 : n = 3) : x = 3 := by rw [h, h3]; rfl
theorem n_0 {x : Int32} {n : Nat} (h : x = nI n) (h3 : n = 0) : x = 0 := by rw [h, h3]; rfl
theorem n_20 {x : Int32} {n : Nat} (h : x = nI n) (h3 : n = 20) : x = 20 := by rw [h, h3]; rfl
theorem n_pos {x : Int32} {n : Nat} (h : x = nI n) (hn : n ≤ 3) (h3 : 0 < n) : ¬ x = 0 := by
  intro z
  rw [h, ← nI_0, nI_eq (by omega) (by omega)] at z
  omega
