/-! Calls whose end is one known world. -/
section XMW
variable {p : Program} {l : Launch} {e : Env} {R : Room} {s : State} {m : MethodId} {args : Array Value} {below : List Frame} {meth : Method} {c : Code} {H : Heap} {locs : List Loc} {cells slots : Nat} {Q : State → Prop}
variable {pc : Nat} {ls : Array Slot} {G : GG} {A : Nat → Prop} {w w' : WF} {rest st0 : List Value} {a : Array Value}
def Qw (A : Nat → Prop) (v : Option Value) (G : GG) (w' : WF) : Array Value → State → Outcome → State → Prop := Qrt A (fun u H => u = v ∧ Wd G A w' H)
theorem x_mw0 (hr : va_Run p l e R s m args below meth c H locs cells slots 0 0 (F0 m pc ls st0) rest (Qw A none G w' a) A) (hS : va_S A s.heap H locs)
    (kk : ∀ (H : Heap) (locs : List Loc), Hw G A s w' H locs → W p l e R s m args below meth c H locs cells slots Q (F0 m (pc + 3) ls rest)) : W p l e R s m args below meth c H locs cells slots Q (F0 m pc ls st0) :=
  x_mt hr hS (fun v H1 locs1 hB hS1 _ => by obtain ⟨rfl, h1, h2⟩ := hB; exact kk H1 locs1 ⟨h1, h2, hS1⟩)
theorem x_mw1 {v : Value} (hr : va_Run p l e R s m args below meth c H locs cells slots 0 0 (F0 m pc ls st0) rest (Qw A (some v) G w' a) A) (hS : va_S A s.heap H locs)
    (kk : ∀ (H : Heap) (locs : List Loc), Hw G A s w' H locs → W p l e R s m args below meth c H locs cells slots Q (F0 m (pc + 3) ls (v :: rest))) : W p l e R s m args below meth c H locs cells slots Q (F0 m pc ls st0) :=
  x_mt hr hS (fun v H1 locs1 hB hS1 _ => by obtain ⟨rfl, h1, h2⟩ := hB; exact kk H1 locs1 ⟨h1, h2, hS1⟩)
end XMW
