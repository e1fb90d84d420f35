/-! A run's start: pure rows. -/
section BG
variable {sc : Nat → Int32} {ar : Nat → Nat → Int32} {n : Nat}
theorem bgB_pos {sc : Nat → Int32} {ar : Nat → Nat → Int32} {b n : Nat} (h1 : sc 1 = nI n) (hn : n ≤ 3) (hb : 0 < b) (hbn : b < n) : bgB sc ar b = fHang (va_up (va_up (va_up ar 14 (upd (ar 14) b (sc 4))) 15 (upd (ar 15) b 0)) 16 (upd (ar 16) b 0)) b := by
  unfold bgB; rw [if_pos ⟨hb, by rw [h1, nI_ltI (by omega) (by omega)]; exact hbn⟩]
theorem bgB_neg {sc : Nat → Int32} {ar : Nat → Nat → Int32} {b n : Nat} (h1 : sc 1 = nI n) (hn : n ≤ 3) (hb3 : b < 3) (hb : b = 0 ∨ n ≤ b) : bgB sc ar b = va_up (va_up (va_up ar 14 (upd (ar 14) b (sc 4))) 15 (upd (ar 15) b 0)) 16 (upd (ar 16) b 0) := by
  unfold bgB; rw [if_neg (fun z => by have h2 := z.2; rw [h1, nI_ltI (by omega) (by omega)] at h2; have := z.1; omega)]
theorem fHang_o (ar : Nat → Nat → Int32) {k j : Nat} (h : j ≠ k) (i : Nat) : fHang ar k i j = ar i j := by
  unfold fHang
  by_cases e : i = 13
  · subst e; rw [up_s]; simp [upd, h]
  · rw [up_n _ _ e]
    by_cases e : i = 12
    · subst e; rw [up_s]; simp [upd, h]
    · rw [up_n _ _ e]
theorem bgB_o (sc : Nat → Int32) (ar : Nat → Nat → Int32) {b j : Nat} (h : j ≠ b) (i : Nat) : bgB sc ar b i j = ar i j := by
  have e : ∀ i, va_up (va_up (va_up ar 14 (upd (ar 14) b (sc 4))) 15 (upd (ar 15) b 0)) 16 (upd (ar 16) b 0) i j = ar i j := by
    intro i
    by_cases e : i = 16
    · subst e; rw [up_s]; simp [upd, h]
    · rw [up_n _ _ e]
      by_cases e : i = 15
      · subst e; rw [up_s]; simp [upd, h]
      · rw [up_n _ _ e]
        by_cases e : i = 14
        · subst e; rw [up_s]; simp [upd, h]
        · rw [up_n _ _ e]
  unfold bgB
  split
  · rw [fHang_o _ h]; exact e i
  · exact e i
/-- what is at place j is laid by turn j alone -/
theorem bgI_at (sc : Nat → Int32) (ar : Nat → Nat → Int32) {j : Nat} (i : Nat) : ∀ b, j < b → bgI sc ar b i j = bgI sc ar (j + 1) i j := by
  intro b
  induction b with
  | zero => intro h; omega
  | succ b ih =>
    intro h
    by_cases e : j = b
    · rw [e]
    · rw [bgI_s, bgB_o _ _ e]; exact ih (by omega)
theorem bg_hr {j : Nat} : bgB sc ar j 14 j = sc 4 ∧ bgB sc ar j 15 j = 0 ∧ bgB sc ar j 16 j = 0 := by
  unfold bgB
  split
  · rw [fHang_n _ _ (by decide) (by decide), fHang_n _ _ (by decide) (by decide), fHang_n _ _ (by decide) (by decide)]; simp [va_up, upd]
  · simp [va_up, upd]
theorem bg_14 {j : Nat} (h : j < 3) : bgI sc ar 3 14 j = sc 4 := by rw [bgI_at _ _ _ 3 h, bgI_s]; exact bg_hr.1
theorem bg_15 {j : Nat} (h : j < 3) : bgI sc ar 3 15 j = 0 := by rw [bgI_at _ _ _ 3 h, bgI_s]; exact bg_hr.2.1
theorem bg_16 {j : Nat} (h : j < 3) : bgI sc ar 3 16 j = 0 := by rw [bgI_at _ _ _ 3 h, bgI_s]; exact bg_hr.2.2
theorem bg_0 : bgI sc ar 3 12 0 = 4096 * sc 2 ∧ bgI sc ar 3 13 0 = 4096 * sc 3 := by
  rw [bgI_at _ _ _ 3 (by decide), bgI_at _ _ _ 3 (by decide), bgI_s, bgI]
  unfold bgB
  rw [if_neg (fun z => absurd z.1 (by decide))]
  simp [bgA, va_up, upd]
theorem bg_s (h1 : sc 1 = nI n) (hn : n ≤ 3) {i : Nat} (hi : i + 1 < n) : bgI sc ar 3 12 (i + 1) = vHx (bgI sc ar 3) (i + 1) ∧ bgI sc ar 3 13 (i + 1) = vHy (bgI sc ar 3) (i + 1) := by
  have a1 : ∀ q, bgI sc ar 3 q (i + 1) = bgI sc ar (i + 1 + 1) q (i + 1) := fun q => bgI_at sc ar q 3 (by omega)
  have a0 : ∀ q, bgI sc ar 3 q i = bgI sc ar (i + 1) q i := fun q => bgI_at sc ar q 3 (by omega)
  unfold vHx vHy
  rw [show i + 1 - 1 = i by omega]
  simp only [a1, a0]
  rw [bgI_s sc ar (i + 1)]
  rw [bgB_pos h1 hn (by omega) hi]
  generalize bgI sc ar (i + 1) = a
  simp [fHang, vHx, vHy, va_up, upd]
end BG
section XRA
variable {G : GG} {rb k : Nat} {md md' : Int32} {rd sd : Nat → Nat} {w0 : WF} {sc : Nat → Int32} {ar : Nat → Nat → Int32} {b : Bt}
def rdN (rd : Nat → Nat) (k bA d : Nat) : Nat → Nat := va_up (if k = 0 then va_up rd 2 d else rd) (5 + k) bA
theorem rdN_lo {rd : Nat → Nat} {k bA d j : Nat} (h : j < 5 + k) (h2 : j ≠ 2) : rdN rd k bA d j = rd j := by
  unfold rdN; rw [up_n _ _ (by omega)]; split
  · exact up_n _ _ h2
  · rfl
theorem rdN_hi {rd : Nat → Nat} {k bA d : Nat} : rdN rd k bA d (5 + k) = bA := up_s _ _ _
theorem rdN_2 {rd : Nat → Nat} {k bA d : Nat} : rdN rd k bA d 2 = if k = 0 then d else rd 2 := by
  unfold rdN; rw [up_n _ _ (by omega)]; split
  · exact up_s _ _ _
  · rfl
/-- a run with a body more -/
theorem rW_add {bA d : Nat} {fs : List Value} {dv : Nat} {tf : Nat → Option Nat} (hfs : fs = bFs (rdN rd k bA d) sd ar k) (hdv : dv = if k = 0 then d else rd 2) (htf : tf = va_up (tdF rd k) k (some bA)) :
    va_up (va_up (va_up (rW G rb k md rd sd w0 sc ar b) (rb + 5 + k) (some (bA, .inr (2, fs)))) (rb + 2) (some (dv, .inl (G.2.1 3, 10, .inr (.inr (.inr (.inr tf))))))) (rb + 1) (some (rd 1, .inr (6, [.ref dv, .int (nI (k + 1)), .int md']))) = rW G rb (k + 1) md' (rdN rd k bA d) sd w0 sc ar b := by
  have h2 : dv = rdN rd k bA d 2 := by rw [rdN_2]; exact hdv
  have ht : tf = tdF (rdN rd k bA d) (k + 1) := by
    rw [htf]; funext j
    unfold va_up tdF
    by_cases e : j = k
    · subst e; rw [if_pos rfl, if_pos (by omega), rdN_hi]
    · rw [if_neg e]
      by_cases e2 : j < k
      · rw [if_pos e2, if_pos (by omega), rdN_lo (by omega) (by omega)]
      · rw [if_neg e2, if_neg (by omega)]
  subst hfs; subst ht; rw [h2]
  have r0 : rdN rd k bA d 0 = rd 0 := rdN_lo (by omega) (by omega)
  have r1 : rdN rd k bA d 1 = rd 1 := rdN_lo (by omega) (by omega)
  have r3 : rdN rd k bA d 3 = rd 3 := rdN_lo (by omega) (by omega)
  funext m
  by_cases e1 : m = rb + 1
  · subst e1; rw [up_s, rW_t (by omega), r1]
  rw [up_n _ _ e1]
  by_cases e2 : m = rb + 2
  · subst e2; rw [up_s, rW_d (by omega)]
  rw [up_n _ _ e2]
  by_cases e3 : m = rb + 5 + k
  · subst e3; rw [up_s, rW_b (by omega), rdN_hi]
  rw [up_n _ _ e3]
  unfold rW
  by_cases e0 : m = rb
  · rw [if_pos e0, if_pos e0]; unfold rFs; rw [r0, r1, r3]
  rw [if_neg e0, if_neg e0, if_neg e1, if_neg e1, if_neg e2, if_neg e2]
  by_cases e5 : m = rb + 3
  · rw [if_pos e5, if_pos e5, r3]
  rw [if_neg e5, if_neg e5]
  by_cases e6 : m = rb + 4
  · rw [if_pos e6, if_pos e6]
  rw [if_neg e6, if_neg e6]
  by_cases e7 : rb + 5 ≤ m ∧ m < rb + 5 + k
  · rw [if_pos e7, if_pos (by omega), rdN_lo (by omega) (by omega)]
    unfold bFs bfV
    by_cases e8 : m - (rb + 5) = 0
    · rw [if_pos e8, if_pos e8]
    · rw [if_neg e8, if_neg e8, rdN_lo (by omega) (by omega)]
  · rw [if_neg e7, if_neg (by omega)]
theorem Hw.less {A : Nat → Prop} {s : State} {w w' : WF} {H : Heap} {locs : List Loc} (h : Hw G A s w H locs) (hw : ∀ k q, w' k = some q → w k = some q) : Hw G A s w' H locs := ⟨h.1.less hw, h.2.1.less hw, h.2.2⟩
theorem BR_0 (d : Nat) : BR (d, 1, 0, fun _ => 0) (fun _ => 0) := by
  refine ⟨Nat.one_pos, by show 1 ≤ 128; decide, Nat.zero_le _, fun _ _ => rfl, fun t ht => ?_⟩
  constructor
  · intro h; exact absurd (show (0 : Int64) &&& _ = 0 by simp) h
  · intro h; exact absurd h (show ¬ (0 : Int32) = 1 by decide)
end XRA
theorem x_newN {p : Program} {l : Launch} {e : Env} {R : Room} {s : State} {m : MethodId} {args : Array Value} {below : List Frame} {meth : Method} {c : Code} {H : Heap} {locs : List Loc} {cells slots : Nat} {Q : State → Prop} {cc : ByteArray} {pc : Nat} {ls : Array Slot} {nL : Nat} {own : String} {G : GG} {A : Nat → Prop} {w : WF} {rest : List Value}
    (C : Cx p s m args meth c cc nL own G A) (hH : Hw G A s w H locs) (hA : ∀ q, s.heap.size ≤ q → A q) (n : Nat) (ci : Nat) {q : vw_C} (hc : classes[ci]? = some q) (N : Nat) (hN : q.2.2 = N) {index : Nat} (hcl : Cond.classLink own index q.1 ∈ wt) (hinst : Cond.instantiable q.1 q.2.2 ∈ wt) (hini : Cond.initialized q.1 ∈ wt)
    {fs : List Value} (hfs : ∀ j, j < q.2.2 → defaultValue (fTy ci j) = vp_V fs j) (hcells : cells + 1 ≤ R.cells) (hslots : slots + N ≤ R.slots) (hdg : decode cc pc = .ok (.new index, 3))
    (kk : ∀ (a : Nat) (H : Heap), Hw G A s (va_up w n (some (a, .inr (ci, fs)))) H locs → W p l e R s m args below meth c H locs (cells + 1) (slots + N) Q (F0 m (pc + 3) ls (.ref a :: rest))) : W p l e R s m args below meth c H locs cells slots Q (F0 m pc ls rest) := by
  subst hN
  exact x_new C hH hA n ci hc hcl hinst hini hfs hcells hslots hdg kk
