/-! Rows for the JDK's methods that write. -/
section XO
variable {p : Program} {l : Launch} {e : Env} {R : Room} {s : State} {m : MethodId} {args : Array Value} {below : List Frame} {meth : Method} {c : Code} {H : Heap} {locs : List Loc} {cells slots : Nat} {Q : State → Prop}
variable {cc : ByteArray} {pc : Nat} {ls : Array Slot} {nL : Nat} {own : String} {G : GG} {A : Nat → Prop} {w : WF} {rest : List Value} {a : Nat}
theorem x_obj (C : Cx p s m args meth c cc nL own G A) {idx : Nat} (tl : Cond.methodLink own idx y_Obj_init ∈ wt) (hls : ls.size = nL) (hf : 1 ≤ R.frames) (h8 : (rest.map fun v => v.category).sum + 12 ≤ R.locals) (hdg : decode cc pc = .ok (.invokespecial idx, 3))
    (kk : W p l e R s m args below meth c H locs cells slots Q (F0 m (pc + 3) ls rest)) : W p l e R s m args below meth c H locs cells slots Q (F0 m pc ls (.ref a :: rest)) :=
  W.objInit C.1 C.2.1 C.2.2.2.1 (C.ts tl) (C.ts t_30) (C.ts t_31) rfl (by rw [C.2.2.1]; exact hls) rfl hdg hf (by show 2 * 0 + _ + 12 ≤ _; omega) kk
theorem wP.two {i j : Nat} {x y : Nat × va_E} (h : wP G w H) (hi : w i = some x) (hj : w j = some y) : va_P G.1 classes [x, y] H := by
  intro k q hk
  match k, hk with
  | 0, hk => cases hk; exact h i x hi
  | 1, hk => cases hk; exact h j y hj
  | k + 2, hk => simp at hk
/-- the first n places of a long array are copied into another -/
theorem x_copyl (C : Cx p s m args meth c cc nL own G A) (hH : Hw G A s w H []) (i j : Nat) (hij : i ≠ j) {a0 N0 N1 n : Nat} {f g : Nat → Int64} (hi : w i = some (a0, .inl (G.2.1 2, N0, .inr (.inl f)))) (hj : w j = some (a, .inl (G.2.1 2, N1, .inr (.inl g)))) (h4 : n ≤ N0) (h5 : n ≤ N1) (hN : n < 2 ^ 31) {index : Nat} {x : Int32} (hx : x = nI n)
    (hlink : Cond.methodLink own index arraycopyName ∈ wt) (hnat : Cond.native arraycopyName ∈ wt) (hst : Cond.static arraycopyName ∈ wt) (hini : Cond.initialized "java/lang/System" ∈ wt) (hls : ls.size = nL) (hf : 1 ≤ R.frames) (hlo : (rest.map fun v => v.category).sum + (nativeFrameWords "java/lang/System" "arraycopy" 5 + 11) ≤ R.locals) (hdg : decode cc pc = .ok (.invokestatic index, 3))
    (kk : ∀ (H : Heap) (locs : List Loc), Hw G A s (va_up w j (some (a, .inl (G.2.1 2, N1, .inr (.inl (fun k => if k < n then f k else g k)))))) H locs → W p l e R s m args below meth c H locs cells slots Q (F0 m (pc + 3) ls rest)) : W p l e R s m args below meth c H [] cells slots Q (F0 m pc ls (.int x :: .int 0 :: .ref a :: .int 0 :: .ref a0 :: rest)) := by
  subst hx
  obtain ⟨hP, hD, hS⟩ := hH
  have hne : a0 ≠ a := hD.ne hi hj hij
  have hD2 : va_D (fun q => q = a0 ∨ q = a) [(a0, .inl (G.2.1 2, N0, .inr (.inl f))), (a, .inl (G.2.1 2, N1, .inr (.inl g)))] := by
    refine ⟨fun i1 j1 p1 q1 h1 h2 h3 => ?_, fun k q hk => ?_⟩
    · match i1, j1, h1, h2 with
      | 0, 0, _, _ => rfl
      | 1, 1, _, _ => rfl
      | 0, 1, h1, h2 => cases h1; cases h2; exact absurd h3 hne
      | 1, 0, h1, h2 => cases h1; cases h2; exact absurd h3.symm hne
      | k + 2, _, h1, _ => simp at h1
      | _, k + 2, _, h2 => simp at h2
    · match k, hk with
      | 0, hk => cases hk; exact Or.inl rfl
      | 1, hk => cases hk; exact Or.inr rfl
      | k + 2, hk => simp at hk
  have hcl : (nI n).toNatClampNeg = n := nI_clamp hN
  refine va_copyl C.1 C.2.1 (by rw [C.2.2.1]; exact hls.symm) C.2.2.2.1 (C.ts hlink) (C.ts hnat) (C.ts hst) (C.ts hini) C.K (hP.two hi hj) hD2 (H0 := H) ⟨Nat.le_refl _, fun _ _ _ => rfl, fun _ h => by cases h⟩ 0 1 2 2 rfl rfl rfl rfl rfl (by decide) (by decide) (nI_pos hN) (by rw [hcl]; show 0 + n ≤ N0; omega) (by rw [hcl]; show 0 + n ≤ N1; omega) (fun _ _ => rfl) hf hlo hdg fun H1 locs1 q1 _ q3 => ?_
  rw [hcl] at q1
  have e1 : va_cpy f g (0 : Int32).toNatClampNeg (0 : Int32).toNatClampNeg n = fun k => if k < n then f k else g k := by
    funext k
    show (if 0 ≤ k ∧ k < 0 + n then f (0 + (k - 0)) else g k) = _
    by_cases hk : k < n
    · rw [if_pos (by omega), if_pos hk, show 0 + (k - 0) = k by omega]
    · rw [if_neg (by omega), if_neg hk]
  rw [e1] at q1
  have ha : A a := hD.2 j _ hj
  have hA0 : A a0 := hD.2 i _ hi
  refine kk H1 locs1 ⟨?_, hD.set hj, Nat.le_trans hS.1 q3.1, fun q h1 h2 => (q3.2.1 q (Nat.lt_of_lt_of_le h1 hS.1) (fun z => h2 (by rcases z with z | z <;> (subst z; assumption)))).trans (hS.2.1 q h1 h2), fun q hq => ?_⟩
  · intro k q hk
    unfold va_up at hk
    split at hk
    · cases hk; exact q1 1 _ rfl
    · rename_i hkj
      by_cases hki : k = i
      · subst hki
        rw [hi] at hk; cases hk
        exact q1 0 _ rfl
      · exact (hP k q hk).kept (q3.2.1 q.1 (hP k q hk).lt (fun z => by
          rcases z with z | z
          · exact hki (hD.1 k i _ _ hk hi z)
          · exact hkj (hD.1 k j _ _ hk hj z)))
  · rcases q3.2.2 q hq with z | z <;> (rw [z]; assumption)
end XO
/-- the world behind a call that makes cells -/
theorem x_mwn {p : Program} {l : Launch} {e : Env} {R : Room} {s : State} {m : MethodId} {args : Array Value} {below : List Frame} {meth : Method} {c : Code} {H : Heap} {locs : List Loc} {cells slots mc ms : Nat} {Q : State → Prop} {pc : Nat} {ls : Array Slot} {G : GG} {A : Nat → Prop} {w' : Nat → WF} {v : Nat → Option Value} {rest st0 : List Value} {a : Array Value}
    (hr : va_Run p l e R s m args below meth c H locs cells slots mc ms (F0 m pc ls st0) rest (Qrt A (fun u H => ∃ d, u = v d ∧ Wd G A (w' d) H) a) A) (hS : va_S A s.heap H locs)
    (kk : ∀ (d : Nat) (H : Heap) (locs : List Loc), Hw G A s (w' d) H locs → W p l e R s m args below meth c H locs (cells + mc) (slots + ms) Q (F0 m (pc + 3) ls ((v d).toList ++ rest))) : W p l e R s m args below meth c H locs cells slots Q (F0 m pc ls st0) :=
  x_mt hr hS (fun v H1 locs1 hB hS1 _ => by obtain ⟨d, rfl, h1, h2⟩ := hB; exact kk d H1 locs1 ⟨h1, h2, hS1⟩)
theorem up_up {α : Type} (f : Nat → α) (k : Nat) (x y : α) : va_up (va_up f k x) k y = va_up f k y := by
  funext j; unfold va_up; split <;> rfl
theorem up_sw {α : Type} (f : Nat → α) {k j : Nat} (h : k ≠ j) (x y : α) : va_up (va_up f k x) j y = va_up (va_up f j y) k x := by
  funext i; unfold va_up
  by_cases h1 : i = j
  · subst h1; rw [if_pos rfl, if_neg (fun z => h z.symm), if_pos rfl]
  · rw [if_neg h1, if_neg h1]
theorem up_idd {α : Type} (f : Nat → α) {k : Nat} {x : α} (h : f k = x) : va_up f k x = f := by
  funext i; unfold va_up
  split
  · rename_i h1; subst h1; exact h.symm
  · rfl
-- how often the words of a bit set may still grow, and by how much
def pc6 (L : Nat) : Nat := if 64 ≤ L then 0 else if 32 ≤ L then 1 else if 16 ≤ L then 2 else if 8 ≤ L then 3 else if 4 ≤ L then 4 else if 2 ≤ L then 5 else 6
def ps6 (L : Nat) : Nat := if 64 ≤ L then 0 else 256 - 2 * L
theorem pc6_grow {L L' : Nat} (h0 : 0 < L) (h : L < 64) (h2 : 2 * L ≤ L') : pc6 L' + 1 ≤ pc6 L := by
  unfold pc6; repeat' split
  all_goals omega
theorem ps6_grow {L L' : Nat} (h : L < 64) (h2 : 2 * L ≤ L') (h3 : L' ≤ 128) (h4 : L' = 2 * L ∨ L' ≤ 64) : ps6 L' + L' ≤ ps6 L := by
  unfold ps6; repeat' split
  all_goals omega
section XQ
variable {p : Program} {l : Launch} {e : Env} {R : Room} {s : State} {m : MethodId} {args : Array Value} {below : List Frame} {meth : Method} {c : Code} {H : Heap} {locs : List Loc} {cells slots mc ms : Nat} {Q : State → Prop} {pc : Nat} {ls : Array Slot} {G : GG} {A : Nat → Prop} {X : Type} {w' : X → WF} {v : X → Value} {Pd : X → Heap → Prop} {rest st0 : List Value} {a : Array Value}
/-- a writing method's end: some x, what holds of it, the answer, the world -/
def Qx1 {X : Type} (A : Nat → Prop) (v : X → Value) (Pd : X → Heap → Prop) (G : GG) (w' : X → WF) : Array Value → State → Outcome → State → Prop := Qrt A (fun u H => ∃ x, u = some (v x) ∧ Pd x H ∧ Wd G A (w' x) H)
def Qx0 {X : Type} (A : Nat → Prop) (Pd : X → Heap → Prop) (G : GG) (w' : X → WF) : Array Value → State → Outcome → State → Prop := Qrt A (fun u H => ∃ x, u = none ∧ Pd x H ∧ Wd G A (w' x) H)
theorem x_q1 (hr : va_Run p l e R s m args below meth c H locs cells slots mc ms (F0 m pc ls st0) rest (Qx1 A v Pd G w' a) A) (hS : va_S A s.heap H locs)
    (kk : ∀ (x : X) (H1 : Heap) (locs : List Loc), Pd x H1 → Hw G A s (w' x) H1 locs → H.size ≤ H1.size → W p l e R s m args below meth c H1 locs (cells + mc) (slots + ms) Q (F0 m (pc + 3) ls (v x :: rest))) : W p l e R s m args below meth c H locs cells slots Q (F0 m pc ls st0) :=
  x_mt hr hS (fun _ H1 locs1 hB hS1 hz => by obtain ⟨x, rfl, h0, h1, h2⟩ := hB; exact kk x H1 locs1 h0 ⟨h1, h2, hS1⟩ hz)
theorem x_q0 (hr : va_Run p l e R s m args below meth c H locs cells slots mc ms (F0 m pc ls st0) rest (Qx0 A Pd G w' a) A) (hS : va_S A s.heap H locs)
    (kk : ∀ (x : X) (H1 : Heap) (locs : List Loc), Pd x H1 → Hw G A s (w' x) H1 locs → H.size ≤ H1.size → W p l e R s m args below meth c H1 locs (cells + mc) (slots + ms) Q (F0 m (pc + 3) ls rest)) : W p l e R s m args below meth c H locs cells slots Q (F0 m pc ls st0) :=
  x_mt hr hS (fun _ H1 locs1 hB hS1 hz => by obtain ⟨x, rfl, h0, h1, h2⟩ := hB; exact kk x H1 locs1 h0 ⟨h1, h2, hS1⟩ hz)
end XQ
/-- the labels one further on: label 0 is free -/
def wSh (w : WF) : WF := fun k => if k = 0 then none else w (k - 1)
theorem wSh_s (w : WF) (k : Nat) : wSh w (k + 1) = w k := by simp [wSh]
theorem Hw.sh {G : GG} {A : Nat → Prop} {s : State} {w : WF} {H : Heap} {locs : List Loc} (h : Hw G A s w H locs) : Hw G A s (wSh w) H locs := by
  have key : ∀ k q, wSh w k = some q → k ≠ 0 ∧ w (k - 1) = some q := by
    intro k q hk
    unfold wSh at hk
    split at hk
    · cases hk
    · rename_i h0; exact ⟨h0, hk⟩
  refine ⟨fun k q hk => h.1 _ q (key k q hk).2, ⟨fun i j p q hi hj hpq => ?_, fun k q hk => h.2.1.2 _ q (key k q hk).2⟩, h.2.2⟩
  have h1 := key i p hi
  have h2 := key j q hj
  have := h.2.1.1 _ _ p q h1.2 h2.2 hpq
  omega
theorem Hw.unsh {G : GG} {A : Nat → Prop} {s : State} {w : WF} {H : Heap} {locs : List Loc} {n : Nat} {x : Nat × va_E} (h : Hw G A s (va_up (wSh w) 0 (some x)) H locs) : Hw G A s (va_up w n (some x)) H locs := by
  have key : ∀ k q, va_up w n (some x) k = some q → va_up (wSh w) 0 (some x) (if k = n then 0 else k + 1) = some q := by
    intro k q hk
    unfold va_up at hk
    split at hk
    · rename_i h1; rw [if_pos h1, up_s]; exact hk
    · rename_i h1; rw [if_neg h1, up_n _ _ (by omega), wSh_s]; exact hk
  refine ⟨fun k q hk => h.1 _ q (key k q hk), ⟨fun i j p q hi hj hpq => ?_, fun k q hk => h.2.1.2 _ q (key k q hk)⟩, h.2.2⟩
  have := h.2.1.1 _ _ p q (key i p hi) (key j q hj) hpq
  by_cases h1 : i = n <;> by_cases h2 : j = n <;> simp [h1, h2] at this <;> omega
def clF (f : Nat → Option Nat) (k : Nat) : Nat → Option Nat := fun j => if j < k then none else f j
theorem clF_0 (f : Nat → Option Nat) : clF f 0 = f := by funext j; simp [clF]
theorem clF_s (f : Nat → Option Nat) (k : Nat) : va_up (clF f k) k none = clF f (k + 1) := by
  funext j; unfold va_up clF
  by_cases h : j = k
  · subst h; simp
  · rw [if_neg h]
    by_cases h2 : j < k
    · rw [if_pos h2, if_pos (by omega)]
    · rw [if_neg h2, if_neg (by omega)]
theorem nI_2 (L : Nat) : 2 * nI L = nI (2 * L) := (Int32.ofNat_mul 2 L).symm
theorem p_max_n {a b : Nat} (ha : a < 2 ^ 31) (hb : b < 2 ^ 31) : p_max (nI a) (nI b) = nI (max a b) := by
  unfold p_max
  by_cases h : a < b
  · rw [if_pos ((nI_ltI ha hb).mpr h), Nat.max_eq_right (by omega)]
  · rw [if_neg (fun z => h ((nI_ltI ha hb).mp z)), Nat.max_eq_left (by omega)]
theorem p_min_n {a b : Nat} (ha : a < 2 ^ 31) (hb : b < 2 ^ 31) : p_min (nI a) (nI b) = nI (min a b) := by
  unfold p_min
  by_cases h : b < a
  · rw [if_pos ((nI_ltI hb ha).mpr h), Nat.min_eq_right (by omega)]
  · rw [if_neg (fun z => h ((nI_ltI hb ha).mp z)), Nat.min_eq_left (by omega)]
