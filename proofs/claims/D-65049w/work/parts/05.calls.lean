/-! New arrays, references in arrays, casts; contracts, calls, returns. -/
section XA
variable {p : Program} {l : Launch} {e : Env} {R : Room} {s : State} {m : MethodId} {args : Array Value} {below : List Frame} {meth : Method} {c : Code} {H : Heap} {locs : List Loc} {cells slots : Nat} {Q : State → Prop}
variable {cc : ByteArray} {pc : Nat} {ls : Array Slot} {nL : Nat} {own : String} {G : GG} {A : Nat → Prop} {w : WF} {rest : List Value} {a : Nat}
theorem Hw.push {H1 : Heap} {n : Nat} {e : va_E} (hH : Hw G A s w H locs) (hA : ∀ q, s.heap.size ≤ q → A q) (hn : va_at G.1 classes (H.size, e) H1) (z1 : H1.size = H.size + 1) (o1 : ∀ q : Nat, q < H.size → H1[q]? = H[q]?) : Hw G A s (va_up w n (some (H.size, e))) H1 locs := by
  obtain ⟨hP, hD, hS⟩ := hH
  exact ⟨hP.push rfl hn o1, hD.push hP rfl (hA _ hS.1), Nat.le_trans hS.1 (by omega), fun x h1 h2 => (o1 x (Nat.lt_of_lt_of_le h1 hS.1)).trans (hS.2.1 x h1 h2), hS.2.2⟩
theorem x_newi (C : Cx p s m args meth c cc nL own G A) (hH : Hw G A s w H locs) (hA : ∀ q, s.heap.size ≤ q → A q) (n : Nat) {k : Int32} {N : Nat} (hk : k = nI N) (hN : N ≤ 100000) (hcells : cells + 1 ≤ R.cells) (hslots : slots + N ≤ R.slots) (hdg : decode cc pc = .ok (.newarray .int, 2))
    (kk : ∀ (a : Nat) (H : Heap), Hw G A s (va_up w n (some (a, .inl (G.2.1 0, N, .inl (fun _ => 0))))) H locs → W p l e R s m args below meth c H locs (cells + 1) (slots + N) Q (F0 m (pc + 2) ls (.ref a :: rest))) : W p l e R s m args below meth c H locs cells slots Q (F0 m pc ls (.int k :: rest)) := by
  subst hk
  refine va_newaK C.1 C.2.1 (atype := .int) (C.ts (w := Cond.arrayClass .int) t_146) rfl hdg rfl (nI_pos (by omega)) (nI_clamp (by omega)) (show N * 4 ≤ 536870912 by omega) hcells hslots rfl fun H1 cA e1 z1 o1 hAr hNm => ?_
  have hc : cA = G.2.1 0 := Option.some.inj (hNm.symm.trans (C.K.2 0 _ rfl).2)
  subst hc
  exact kk H.size H1 (hH.push hA e1 z1 o1)
theorem x_newl (C : Cx p s m args meth c cc nL own G A) (hH : Hw G A s w H locs) (hA : ∀ q, s.heap.size ≤ q → A q) (n : Nat) {k : Int32} {N : Nat} (hk : k = nI N) (hN : N ≤ 100000) (hcells : cells + 1 ≤ R.cells) (hslots : slots + N ≤ R.slots) (hdg : decode cc pc = .ok (.newarray .long, 2))
    (kk : ∀ (a : Nat) (H : Heap), Hw G A s (va_up w n (some (a, .inl (G.2.1 2, N, .inr (.inl (fun _ => 0)))))) H locs → W p l e R s m args below meth c H locs (cells + 1) (slots + N) Q (F0 m (pc + 2) ls (.ref a :: rest))) : W p l e R s m args below meth c H locs cells slots Q (F0 m pc ls (.int k :: rest)) := by
  subst hk
  refine va_newaK C.1 C.2.1 (atype := .long) (C.ts (w := Cond.arrayClass .long) t_147) rfl hdg rfl (nI_pos (by omega)) (nI_clamp (by omega)) (show N * 8 ≤ 536870912 by omega) hcells hslots rfl fun H1 cA e1 z1 o1 hAr hNm => ?_
  have hc : cA = G.2.1 2 := Option.some.inj (hNm.symm.trans (C.K.2 2 _ rfl).2)
  subst hc
  exact kk H.size H1 (hH.push hA e1 z1 o1)
theorem x_newz (C : Cx p s m args meth c cc nL own G A) (hH : Hw G A s w H locs) (hA : ∀ q, s.heap.size ≤ q → A q) (n : Nat) {k : Int32} {N : Nat} (hk : k = nI N) (hN : N ≤ 100000) (hcells : cells + 1 ≤ R.cells) (hslots : slots + N ≤ R.slots) (hdg : decode cc pc = .ok (.newarray .boolean, 2))
    (kk : ∀ (a : Nat) (H : Heap), Hw G A s (va_up w n (some (a, .inl (G.2.1 1, N, .inl (fun _ => 0))))) H locs → W p l e R s m args below meth c H locs (cells + 1) (slots + N) Q (F0 m (pc + 2) ls (.ref a :: rest))) : W p l e R s m args below meth c H locs cells slots Q (F0 m pc ls (.int k :: rest)) := by
  subst hk
  refine va_newaK C.1 C.2.1 (atype := .boolean) (C.ts (w := Cond.arrayClass .boolean) t_742) rfl hdg rfl (nI_pos (by omega)) (nI_clamp (by omega)) (show N * 1 ≤ 536870912 by omega) hcells hslots rfl fun H1 cA e1 z1 o1 hAr hNm => ?_
  have hc : cA = G.2.1 1 := Option.some.inj (hNm.symm.trans (C.K.2 1 _ rfl).2)
  subst hc
  exact kk H.size H1 (hH.push hA e1 z1 o1)
theorem x_newq (C : Cx p s m args meth c cc nL own G A) (hH : Hw G A s w H locs) (hA : ∀ q, s.heap.size ≤ q → A q) (n : Nat) {k : Int32} {N index : Nat} (hk : k = nI N) (hN : N ≤ 100000) (hcl : Cond.classLink own index "java/lang/Object" ∈ wt) (hcells : cells + 1 ≤ R.cells) (hslots : slots + N ≤ R.slots) (hdg : decode cc pc = .ok (.anewarray index, 3))
    (kk : ∀ (a : Nat) (H : Heap), Hw G A s (va_up w n (some (a, .inl (G.2.1 3, N, .inr (.inr (.inr (.inr (fun _ => none)))))))) H locs → W p l e R s m args below meth c H locs (cells + 1) (slots + N) Q (F0 m (pc + 3) ls (.ref a :: rest))) : W p l e R s m args below meth c H locs cells slots Q (F0 m pc ls (.int k :: rest)) := by
  subst hk
  refine W.anew C.1 C.2.1 C.2.2.2.1 (C.ts hcl) (C.ts (w := Cond.arrayOver (.object "java/lang/Object")) t_105) rfl hdg rfl (nI_pos (by omega)) (by rw [nI_clamp (by omega)]; omega) hcells (by rw [nI_clamp (by omega)]; exact hslots) fun cA kA comp f1 f2 f3 f4 => ?_
  rw [nI_clamp (by omega)]
  obtain ⟨-, kA2, comp2, g1, g2, g3, g4⟩ := C.K.2 3 _ rfl
  have hc : cA = G.2.1 3 := Option.some.inj (f1.symm.trans g4)
  subst hc
  refine kk H.size _ (hH.push hA ?_ (by rw [Array.size_push]) (fun q hq => by rw [Array.getElem?_push, if_neg (Nat.ne_of_lt hq)]))
  show (H.push _)[H.size]? = some (vp_cell _ _)
  rw [Array.getElem?_push_size, vp_cell_q, arrV_new]
  rfl
theorem x_qst (C : Cx p s m args meth c cc nL own G A) (hH : Hw G A s w H locs) (n nv : Nat) {N v ci : Nat} {f : Nat → Option Nat} {vs : List Value} {q : vw_C} (he : w n = some (a, .inl (G.2.1 3, N, .inr (.inr (.inr (.inr f)))))) (hv : w nv = some (v, .inr (ci, vs))) (hc : classes[ci]? = some q) (hca : Cond.castable q.1 "java/lang/Object" ∈ wt)
    {i : Int32} {j : Nat} (hi : i = nI j) (hj : j < N) (hN : N < 2 ^ 31) (hdg : decode cc pc = .ok (.aastore, 1))
    (kk : ∀ (H : Heap) (locs : List Loc), Hw G A s (va_up w n (some (a, .inl (G.2.1 3, N, .inr (.inr (.inr (.inr (va_up f j (some v))))))))) H locs → W p l e R s m args below meth c H locs cells slots Q (F0 m (pc + 1) ls rest)) : W p l e R s m args below meth c H locs cells slots Q (F0 m pc ls (.ref v :: .int i :: .ref a :: rest)) := by
  subst hi
  obtain ⟨hP, hD, hS⟩ := hH
  have hK := C.K
  obtain ⟨r', hr', cellV, g1, g2, g3, -⟩ := hP nv _ hv
  have hcls := (hK.1 ci q hc).2
  obtain ⟨kA, comp, k1, k2, k3, -⟩ := (hK.2 3 _ rfl).2
  obtain ⟨kE, hkE, -⟩ := Vm.findClass_spec k3
  obtain ⟨c0, t1, f1, f2, f3⟩ := Cond.castable_spec (C.ts hca)
  cases hcls.1.symm.trans f1
  cases k3.symm.trans f2
  obtain ⟨kC, hkC, -⟩ := hcls.2
  refine W.aast C.1 C.2.1 (hP n _ he) (fun q h => by cases h) (fun h => by cases h) k1 k2 rfl hkE ⟨nI_pos (by omega), by show _ < (arrV _ _ _).slots.size; rw [arrV_size, nI_clamp (by omega)]; exact hj⟩ g1 (fun q h => by rw [g3] at h; cases h) (by rw [g2]; exact hkC) (by rw [g2]; exact f3) rfl rfl hdg fun H1 e z oq => ?_
  rw [nI_clamp (by omega)] at e ⊢
  refine kk H1 _ ⟨hP.set hD he ?_ oq, hD.set he, hS.put z oq (hD.2 n _ he)⟩
  show H1[a]? = some (vp_cell _ _)
  rw [e, vp_cell_q, vp_cell_q, arrV_store]
  congr 2
  funext q
  by_cases hq : q = j
  · subst hq
    simp [updV, va_up, va_rf]
  · simp [updV, va_up, hq]
theorem x_qstN (C : Cx p s m args meth c cc nL own G A) (hH : Hw G A s w H locs) (n : Nat) {N : Nat} {f : Nat → Option Nat} (he : w n = some (a, .inl (G.2.1 3, N, .inr (.inr (.inr (.inr f)))))) {i : Int32} {j : Nat} (hi : i = nI j) (hj : j < N) (hN : N < 2 ^ 31) (hdg : decode cc pc = .ok (.aastore, 1))
    (kk : ∀ (H : Heap) (locs : List Loc), Hw G A s (va_up w n (some (a, .inl (G.2.1 3, N, .inr (.inr (.inr (.inr (va_up f j none)))))))) H locs → W p l e R s m args below meth c H locs cells slots Q (F0 m (pc + 1) ls rest)) : W p l e R s m args below meth c H locs cells slots Q (F0 m pc ls (.null :: .int i :: .ref a :: rest)) := by
  subst hi
  obtain ⟨hP, hD, hS⟩ := hH
  refine va_WaastN (C := "java/lang/Object") C.1 C.2.1 (hP n _ he) ((C.K.2 3 _ rfl).1 N (fun j => va_rf (f j))) (fun h => by cases h) (by show ¬ (nI j < 0 ∨ (arrV _ _ _).slots.size ≤ _); rw [arrV_size]; exact vp_in_nI hj hN) rfl rfl hdg fun H1 e z oq => ?_
  rw [nI_clamp (by omega)] at e ⊢
  refine kk H1 _ ⟨hP.set hD he ?_ oq, hD.set he, hS.put z oq (hD.2 n _ he)⟩
  show H1[a]? = some (vp_cell _ _)
  rw [e, vp_cell_q, vp_cell_q, arrV_store]
  congr 2
  funext q
  by_cases hq : q = j
  · subst hq
    simp [updV, va_up, va_rf]
  · simp [updV, va_up, hq]
theorem wP.recv {n ci : Nat} {fs : List Value} {q : vw_C} (hK : gK G s) (hP : wP G w H) (he : w n = some (a, .inr (ci, fs))) (hc : classes[ci]? = some q) : ∃ cell : Cell, H[a]? = some cell ∧ cell.vm.isStatics = false ∧ s.vm.findClass q.1 = some cell.cls := va_recv hK (hP.one he) hc (q0 := 0) rfl
theorem x_cast (C : Cx p s m args meth c cc nL own G A) (hP : wP G w H) (n : Nat) {ci : Nat} {fs : List Value} {q : vw_C} (he : w n = some (a, .inr (ci, fs))) (hc : classes[ci]? = some q) {index : Nat} (hlink : Cond.classLink own index q.1 ∈ wt) (hdg : decode cc pc = .ok (.checkcast index, 3))
    (k : W p l e R s m args below meth c H locs cells slots Q (F0 m (pc + 3) ls (.ref a :: rest))) : W p l e R s m args below meth c H locs cells slots Q (F0 m pc ls (.ref a :: rest)) :=
  va_castS C.1 C.2.1 C.2.2.2.1 (C.ts hlink) (C.K.1 ci q hc).2 (hP.recv C.K he hc) hdg k
end XA
-- room is measured by the heap itself
def hTot (H : Heap) : Nat := H.foldl (fun n c => n + c.slots.size) 0
section XW
variable {p : Program} {l : Launch} {e : Env} {R : Room} {s : State} {m : MethodId} {args : Array Value} {below : List Frame} {meth : Method} {c : Code} {H : Heap} {locs : List Loc} {cells slots : Nat} {Q : State → Prop} {g : JFrame}
theorem used_tot {T : State} (h : T.slotsTrue = true) : T.slotsUsed = hTot T.heap := by
  simpa [State.slotsTrue, hTot] using h
theorem stand_room0 {T : State} (X : Stand p l e R s m args below meth c T locs cells slots) : s.slotsUsed = hTot s.heap := by
  have h := X.room
  simp only [State.hasRoom, Bool.and_eq_true] at h
  exact used_tot h.2
theorem W.know (k : H.size ≤ s.heap.size + cells → hTot H ≤ hTot s.heap + slots → s.heap.size ≤ H.size → hTot s.heap ≤ hTot H → W p l e R s m args below meth c H locs cells slots Q g) : W p l e R s m args below meth c H locs cells slots Q g := by
  intro T hT X
  have h1 := X.heapSize
  have h2 := X.used
  have h3 := stand_room0 X
  have h4 := used_tot X.book
  have h5 : s.heap.size ≤ T.heap.size := X.same.2.1
  have h6 : T.slotsUsed = s.slotsUsed + _ := X.same.2.2.2.1
  rw [hT] at h1 h4 h5
  exact k h1 (by omega) h5 (by omega) T hT X
theorem W.tight {k n : Nat} (h1 : H.size ≤ s.heap.size + k) (h2 : hTot H ≤ hTot s.heap + n) (kk : W p l e R s m args below meth c H locs k n Q g) : W p l e R s m args below meth c H locs cells slots Q g := by
  intro T hT X
  refine kk T hT { X with same := ?_ }
  have h3 := stand_room0 X
  have h4 := used_tot X.book
  rw [hT] at h4
  obtain ⟨q1, q2, q3, q4, q5, q6⟩ := X.same
  have e1 : T.slotsUsed = s.slotsUsed + ((T.heap.toList.drop s.heap.size).map (·.slots.size)).sum := q4
  refine ⟨q1, q2, ?_, q4, ?_, q6⟩
  · show T.heap.size ≤ _
    rw [hT]; exact h1
  · show ((T.heap.toList.drop s.heap.size).map (·.slots.size)).sum ≤ n
    omega
end XW
/-- a contract's start: the world, and what else holds of the heap -/
def Pre (G : GG) (A : Nat → Prop) (w : WF) (E : Heap → Prop) (av : List Value) : Array Value → State → Prop := va_Pc av (fun U => (∀ q, U.heap.size ≤ q → A q) ∧ wP G w U.heap ∧ wD A w ∧ gK G U ∧ gZ G A U U.heap ∧ E U.heap)
/-- the start of a method that reads alone -/
def Pro (G : GG) (w : WF) (av : List Value) : Array Value → State → Prop := va_Pc av (fun U => wP G w U.heap ∧ gK G U ∧ gZ G (fun _ => False) U U.heap)
/-- the end of a method that reads alone, with the answer v -/
def Qro (v : Value) : Array Value → State → Outcome → State → Prop := fun _ st oc t => oc = .returned (some v) ∧ t.heap = st.heap
def Qrv : Array Value → State → Outcome → State → Prop := fun _ st oc t => oc = .returned none ∧ t.heap = st.heap
/-- the end of a method that writes: B of the answer and the heap; outside of A nothing has changed -/
def Qrt (A : Nat → Prop) (B : Option Value → Heap → Prop) : Array Value → State → Outcome → State → Prop := fun _ st oc t => ∃ v, oc = .returned v ∧ va_F A st t ∧ B v t.heap
/-- the world behind a call -/
def Wd (G : GG) (A : Nat → Prop) (w : WF) (H : Heap) : Prop := wP G w H ∧ wD A w
theorem blind_Pre {G : GG} {A : Nat → Prop} {w : WF} {E : Heap → Prop} {av : List Value} : FrameBlind (Pre G A w E av) := fun a U g mk h => by
  obtain ⟨h1, h2, h3, h4, h5, h6, h7⟩ := h
  exact ⟨h1, h2, h3, h4, va_K.moved (u := U) (U := U.calling g mk a) (Vm.Alike.refl U.vm) h5, gZ.call (s := U) (U := U.calling g mk a) h6 va_S.rf (Vm.Alike.refl U.vm) rfl (fun _ z => z), h7⟩
theorem blind_Pro {G : GG} {w : WF} {av : List Value} : FrameBlind (Pro G w av) := fun a U g mk h => by
  obtain ⟨h1, h2, h3, h4⟩ := h
  exact ⟨h1, h2, va_K.moved (u := U) (U := U.calling g mk a) (Vm.Alike.refl U.vm) h3, gZ.call (s := U) (U := U.calling g mk a) h4 va_S.rf (Vm.Alike.refl U.vm) rfl (fun _ z => z)⟩
theorem ok_all {w : Cond} (h : w ∈ wt) : okWord w = true := (List.mem_filter.mp h).2
theorem ok_warm {w : Cond} (h : okWord w = true) {s U : State} {args a' : Array Value} (hW : s.WarmedH U.vm) (hb : w.before args s = true) : w.before a' U = true := by
  unfold okWord at h
  rcases Bool.or_eq_true _ _ ▸ h with h | h
  · exact word_at hW (good_of_word h) hb
  · split at h
    · exact va_Nw.use rfl (va_Nw.warmF hW (va_Nw.of rfl hb))
    · exact va_Nw.use rfl (va_Nw.warmM hW (va_Nw.of rfl hb))
    · exact va_AO.use (va_AO.moved hW.alike (va_AO.of hb))
    · simp only [Bool.and_eq_true] at h
      exact va_tabs h.2 (rfl : (s.setVm U.vm).vm = U.vm) (Cond.faceAtom_setVm hW.alike _ h.1 hb)
theorem gw {x : Cond} {s : State} {args : Array Value} (ht : ∀ w ∈ wt, w.before args s = true) (h : x ∈ wt) : ∀ w ∈ x :: wt, ∀ (a' : Array Value) (U : State), s.WarmedH U.vm → w.before a' U = true := by
  intro w hw a' U hW
  have h1 : w ∈ wt := by
    rcases List.mem_cons.mp hw with rfl | h2
    · exact h
    · exact h2
  exact ok_warm (ok_all h1) hW (ht w h1)
theorem hd_len {y : MethodName} {n : Nat} (h : (parseMethodDescriptor y.desc).map (fun d => d.parameters.length) = some n) : ∀ sig, parseMethodDescriptor y.desc = some sig → n = sig.parameters.length := by
  intro sig h2
  rw [h2] at h
  exact (Option.some.inj h).symm
theorem mkB {R : Room} {s : State} {args : Array Value} {own : String} {index maxL mc ms n : Nat} {y : MethodName} {bytes : ByteArray} {ret : Option FieldType} {rm : Room} (ht : ∀ w ∈ wt, w.before args s = true) (tc : Cond.code y bytes maxL ret ∈ wt) (hrc : rm.cells = mc) (hrs : rm.slots = ms) (ti : Cond.initialized y.cls ∈ wt) (tl : Cond.methodLink own index y ∈ wt)
    (hd : y.cls ≠ "java/lang/invoke/MethodHandle" ∧ y.cls ≠ "java/lang/invoke/VarHandle" ∧ (parseMethodDescriptor y.desc).map (fun d => d.parameters.length) = some n) (hR : rm.frames + 1 ≤ R.frames ∧ 8 + (maxL + 11) + rm.locals ≤ R.locals) : CallB R s args own index y bytes maxL ret (Cond.code y bytes maxL ret :: wt) rm mc ms n :=
  ⟨hrc, hrs, hR.1, hR.2, gw ht tc, List.mem_cons_self, ht _ tc, ht _ ti, ⟨hd.1, hd.2.1⟩, hd_len hd.2.2, ht _ tl⟩
abbrev hdP (y : MethodName) (n : Nat) : Prop := y.cls ≠ "java/lang/invoke/MethodHandle" ∧ y.cls ≠ "java/lang/invoke/VarHandle" ∧ (parseMethodDescriptor y.desc).map (fun d => d.parameters.length) = some n
section XC
variable {p : Program} {l : Launch} {e : Env} {R : Room} {s : State} {m : MethodId} {args : Array Value} {below : List Frame} {meth : Method} {c : Code} {H : Heap} {locs : List Loc} {cells slots : Nat} {Q : State → Prop}
variable {cc : ByteArray} {pc : Nat} {ls : Array Slot} {nL : Nat} {own : String} {G : GG} {A : Nat → Prop} {w : WF} {rest st0 : List Value} {b : Nat}
variable {y : MethodName} {bytes : ByteArray} {maxL mc ms n index : Nat} {ret : Option FieldType} {rm : Room} {Pc : Array Value → State → Prop} {Qc : Array Value → State → Outcome → State → Prop} {free : Addr → Prop} {As : List Value}
theorem pre_mt {E : Heap → Prop} {av : List Value} (C : Cx p s m args meth c cc nL own G A) (hH : Hw G A s w H locs) (hA : ∀ q, s.heap.size ≤ q → A q) (hE : E H) : ∀ U : State, U.heap = H → s.WarmedH U.vm → Pre G A w E av av.toArray U := by
  intro U hU hW
  refine ⟨rfl, fun q hq => hA q (Nat.le_trans hH.2.2.1 (by rw [← hU]; exact hq)), by rw [hU]; exact hH.1, hH.2.1, C.K.moved hW.alike, gZ.call C.Z hH.2.2 hW.alike hU (fun _ z => z), by rw [hU]; exact hE⟩
theorem pre_ro {av : List Value} (C : Cx p s m args meth c cc nL own G A) (hP : wP G w H) (hS : va_S A s.heap H locs) : ∀ U : State, U.heap = H → s.WarmedH U.vm → Pro G w av av.toArray U := by
  intro U hU hW
  exact ⟨rfl, by rw [hU]; exact hP, C.K.moved hW.alike, gZ.call C.Z hS hW.alike hU (fun _ z => z.elim)⟩
theorem x_cS (C : Cx p s m args meth c cc nL own G A) (hM : Met l y (Cond.code y bytes maxL ret :: wt) rm Pc Qc mc ms free) (tc : Cond.code y bytes maxL ret ∈ wt) (ti : Cond.initialized y.cls ∈ wt) (tl : Cond.methodLink own index y ∈ wt) (ts : Cond.static y ∈ wt) (hd : hdP y n) (hbl : FrameBlind Pc) (hpre : ∀ U : State, U.heap = H → s.WarmedH U.vm → Pc As.toArray U)
    (hn : As.length = n) (hls : ls.size = nL) (hst : st0 = As.reverse ++ rest) (hrc : rm.cells = mc) (hrs : rm.slots = ms) (hR : rm.frames + 1 ≤ R.frames ∧ 8 + (maxL + 11) + rm.locals ≤ R.locals) (h8 : (rest.map fun v => v.category).sum ≤ 8) (hf : cells + mc ≤ R.cells ∧ slots + ms ≤ R.slots) (hdg : decode cc pc = .ok (.invokestatic index, 3)) :
    va_Run p l e R s m args below meth c H locs cells slots mc ms (F0 m pc ls st0) rest (Qc As.toArray) free :=
  va_runS C.fix hM ⟨mkB C.2.2.2.2.1 tc hrc hrs ti tl hd hR, C.ts ts⟩ ⟨hbl, hpre⟩ rfl hn hls hst (lv_room h8) hdg hf
theorem x_cSN {host : String} (C : Cx p s m args meth c cc nL own G A) (hM : Met l y (Cond.code y bytes maxL ret :: wt) rm Pc Qc mc ms free) (tc : Cond.code y bytes maxL ret ∈ wt) (ti : Cond.initialized y.cls ∈ wt) (tl : Cond.methodLinkNest own index y host ∈ wt) (ts : Cond.static y ∈ wt) (hd : hdP y n) (hbl : FrameBlind Pc) (hpre : ∀ U : State, U.heap = H → s.WarmedH U.vm → Pc As.toArray U)
    (hn : As.length = n) (hls : ls.size = nL) (hst : st0 = As.reverse ++ rest) (hrc : rm.cells = mc) (hrs : rm.slots = ms) (hR : rm.frames + 1 ≤ R.frames ∧ 8 + (maxL + 11) + rm.locals ≤ R.locals) (h8 : (rest.map fun v => v.category).sum ≤ 8) (hf : cells + mc ≤ R.cells ∧ slots + ms ≤ R.slots) (hdg : decode cc pc = .ok (.invokestatic index, 3)) :
    va_Run p l e R s m args below meth c H locs cells slots mc ms (F0 m pc ls st0) rest (Qc As.toArray) free :=
  va_runSN C.fix hM ⟨⟨⟨hrc, hrs, hR.1, hR.2, gw C.2.2.2.2.1 tc, List.mem_cons_self⟩, C.ts tc, C.ts ti, ⟨hd.1, hd.2.1⟩, hd_len hd.2.2, C.ts tl⟩, C.ts ts, trivial⟩ ⟨hbl, hpre⟩ rfl hn hls hst (lv_room h8) hdg hf
theorem x_cV {ci : Nat} {fs : List Value} {q : vw_C} {nb : Nat} (C : Cx p s m args meth c cc nL own G A) (hP : wP G w H) (he : w nb = some (b, .inr (ci, fs))) (hc : classes[ci]? = some q) (hM : Met l y (Cond.code y bytes maxL ret :: wt) rm Pc Qc mc ms free) (tc : Cond.code y bytes maxL ret ∈ wt) (ti : Cond.initialized y.cls ∈ wt) (tl : Cond.methodLink own index y ∈ wt) (tn : Cond.instanceMethod y ∈ wt) (te : Cond.selects q.1 y y ∈ wt) (hd : hdP y n) (hbl : FrameBlind Pc) (hpre : ∀ U : State, U.heap = H → s.WarmedH U.vm → Pc (Value.ref b :: As).toArray U)
    (hn : As.length = n) (hls : ls.size = nL) (hst : st0 = As.reverse ++ .ref b :: rest) (hrc : rm.cells = mc) (hrs : rm.slots = ms) (hR : rm.frames + 1 ≤ R.frames ∧ 8 + (maxL + 11) + rm.locals ≤ R.locals) (h8 : (rest.map fun v => v.category).sum ≤ 8) (hf : cells + mc ≤ R.cells ∧ slots + ms ≤ R.slots) (hdg : decode cc pc = .ok (.invokevirtual index, 3)) :
    va_Run p l e R s m args below meth c H locs cells slots mc ms (F0 m pc ls st0) rest (Qc (Value.ref b :: As).toArray) free :=
  va_runV (C := q.1) C.fix hM ⟨mkB C.2.2.2.2.1 tc hrc hrs ti tl hd hR, C.ts tn, C.ts te⟩ ⟨hbl, hP.recv C.K he hc, hpre⟩ rfl hn hls hst (lv_room h8) hdg hf
theorem x_cI (C : Cx p s m args meth c cc nL own G A) (hM : Met l y (Cond.code y bytes maxL none :: wt) rm Pc Qc mc ms free) (tc : Cond.code y bytes maxL none ∈ wt) (ti : Cond.initialized y.cls ∈ wt) (tl : Cond.methodLink own index y ∈ wt) (tn : Cond.instanceMethod y ∈ wt) (hy : y.name = "<init>") (hd : hdP y n) (hbl : FrameBlind Pc) (hpre : ∀ U : State, U.heap = H → s.WarmedH U.vm → Pc (Value.ref b :: As).toArray U)
    (hn : As.length = n) (hls : ls.size = nL) (hst : st0 = As.reverse ++ .ref b :: rest) (hrc : rm.cells = mc) (hrs : rm.slots = ms) (hR : rm.frames + 1 ≤ R.frames ∧ 8 + (maxL + 11) + rm.locals ≤ R.locals) (h8 : (rest.map fun v => v.category).sum ≤ 8) (hf : cells + mc ≤ R.cells ∧ slots + ms ≤ R.slots) (hdg : decode cc pc = .ok (.invokespecial index, 3)) :
    va_Run p l e R s m args below meth c H locs cells slots mc ms (F0 m pc ls st0) rest (Qc (Value.ref b :: As).toArray) free :=
  va_runI C.fix hM ⟨mkB C.2.2.2.2.1 tc hrc hrs ti tl hd hR, hy, C.ts tn⟩ ⟨hbl, hpre⟩ rfl hn hls hst (lv_room h8) hdg hf
/-- behind a call that reads alone -/
theorem x_ro {v : Value} {a : Array Value} (hr : va_Run p l e R s m args below meth c H locs cells slots 0 0 (F0 m pc ls st0) rest (Qro v a) (fun _ => False)) (kk : W p l e R s m args below meth c H locs cells slots Q (F0 m (pc + 3) ls (v :: rest))) : W p l e R s m args below meth c H locs cells slots Q (F0 m pc ls st0) := by
  intro T hT X
  obtain ⟨v1, st₀, t, T', L, h0, X', hL, e1, e2, ⟨hv, hh⟩, st⟩ := hr T hT X
  cases hv
  have hL0 : L = [] := by
    cases L with
    | nil => rfl
    | cons q r => exact (hL q List.mem_cons_self).elim
  subst hL0
  rw [List.append_nil] at X'
  obtain ⟨t2, a1, b1⟩ := kk T' (by rw [e1, hh, h0]) X'
  exact ⟨t2, st t2 a1, b1⟩
theorem x_rv {a : Array Value} (hr : va_Run p l e R s m args below meth c H locs cells slots 0 0 (F0 m pc ls st0) rest (Qrv a) (fun _ => False)) (kk : W p l e R s m args below meth c H locs cells slots Q (F0 m (pc + 3) ls rest)) : W p l e R s m args below meth c H locs cells slots Q (F0 m pc ls st0) := by
  intro T hT X
  obtain ⟨v1, st₀, t, T', L, h0, X', hL, e1, e2, ⟨hv, hh⟩, st⟩ := hr T hT X
  cases hv
  have hL0 : L = [] := by
    cases L with
    | nil => rfl
    | cons q r => exact (hL q List.mem_cons_self).elim
  subst hL0
  rw [List.append_nil] at X'
  obtain ⟨t2, a1, b1⟩ := kk T' (by rw [e1, hh, h0]) X'
  exact ⟨t2, st t2 a1, b1⟩
/-- behind a call that writes -/
theorem x_mt {B : Option Value → Heap → Prop} {a : Array Value} (hr : va_Run p l e R s m args below meth c H locs cells slots mc ms (F0 m pc ls st0) rest (Qrt A B a) A) (hS : va_S A s.heap H locs)
    (kk : ∀ (v : Option Value) (H1 : Heap) (locs1 : List Loc), B v H1 → va_S A s.heap H1 locs1 → H.size ≤ H1.size → W p l e R s m args below meth c H1 locs1 (cells + mc) (slots + ms) Q (F0 m (pc + 3) ls (v.toList ++ rest))) : W p l e R s m args below meth c H locs cells slots Q (F0 m pc ls st0) := by
  intro T hT X
  obtain ⟨v, st₀, t, T', L, h0, X', hL, e1, e2, ⟨v2, hv, ⟨hz, hk⟩, hb⟩, st⟩ := hr T hT X
  cases hv
  rw [h0] at hz hk
  rw [← e1] at hz hk hb
  obtain ⟨t2, a1, b1⟩ := kk v T'.heap (locs ++ L) hb ⟨Nat.le_trans hS.1 hz, fun q h1 h2 => (hk q (Nat.lt_of_lt_of_le h1 hS.1) h2).trans (hS.2.1 q h1 h2), fun q hq => by
      rcases List.mem_append.mp hq with h | h
      · exact hS.2.2 q h
      · exact hL q h⟩ hz T' rfl X'
  exact ⟨t2, st t2 a1, b1⟩
-- returns
theorem x_iro {v r : Int32} (C : Cx p s m args meth c cc nL own G A) (hr : meth.sig.returnType = some .int) (hv : v = r) (hdg : decode cc pc = .ok (.ireturn, 1)) : W p l e R s m args below meth c s.heap [] 0 0 (MQ below (Qro (.int r)) args s 0 0 free) (F0 m pc ls [.int v]) := by
  subst hv
  exact W.iret C.1 C.2.1 hr (fun t ht _ => ⟨rfl, ht⟩) (fun _ h => by cases h) hdg C.lk
theorem x_zro {v r : Int32} (C : Cx p s m args meth c cc nL own G A) (hr : meth.sig.returnType = some .boolean) (hn : narrow .boolean (.int v) = .int v) (hv : v = r) (hdg : decode cc pc = .ok (.ireturn, 1)) : W p l e R s m args below meth c s.heap [] 0 0 (MQ below (Qro (.int r)) args s 0 0 free) (F0 m pc ls [.int v]) := by
  subst hv
  exact W.zret C.1 C.2.1 hr hn (fun t ht _ => ⟨rfl, ht⟩) (fun _ h => by cases h) hdg C.lk
theorem x_vro (C : Cx p s m args meth c cc nL own G A) (hr : meth.sig.returnType = none) (hdg : decode cc pc = .ok (.return_, 1)) : W p l e R s m args below meth c s.heap [] 0 0 (MQ below Qrv args s 0 0 free) (F0 m pc ls []) :=
  W.vret C.1 C.2.1 hr (fun t ht _ => ⟨rfl, ht⟩) (fun _ h => by cases h) hdg C.lk
theorem x_aro {v r : Value} {rt : FieldType} (C : Cx p s m args meth c cc nL own G A) (hr : meth.sig.returnType = some rt) (hrt : (∃ n, rt = .object n) ∨ ∃ t, rt = .array t) (hv : v = .null ∨ ∃ a, v = .ref a) (he : v = r) (hdg : decode cc pc = .ok (.areturn, 1)) : W p l e R s m args below meth c s.heap [] 0 0 (MQ below (Qro r) args s 0 0 free) (F0 m pc ls [v]) := by
  subst he
  exact W.aret C.1 C.2.1 hr hrt hv (fun t ht _ => ⟨rfl, ht⟩) (fun _ h => by cases h) hdg C.lk
theorem x_irt {v : Int32} {B : Option Value → Heap → Prop} (C : Cx p s m args meth c cc nL own G A) (hr : meth.sig.returnType = some .int) (hS : va_S A s.heap H locs) (hB : B (some (.int v)) H) (h1 : cells ≤ mc) (h2 : slots ≤ ms) (hdg : decode cc pc = .ok (.ireturn, 1)) : W p l e R s m args below meth c H locs cells slots (MQ below (Qrt A B) args s mc ms A) (F0 m pc ls [.int v]) :=
  W.widen h1 h2 (W.iret C.1 C.2.1 hr (fun t ht _ => ⟨_, rfl, hS.F ht, by rw [ht]; exact hB⟩) hS.2.2 hdg C.lk)
theorem x_zrt {v : Int32} {B : Option Value → Heap → Prop} (C : Cx p s m args meth c cc nL own G A) (hr : meth.sig.returnType = some .boolean) (hn : narrow .boolean (.int v) = .int v) (hS : va_S A s.heap H locs) (hB : B (some (.int v)) H) (h1 : cells ≤ mc) (h2 : slots ≤ ms) (hdg : decode cc pc = .ok (.ireturn, 1)) : W p l e R s m args below meth c H locs cells slots (MQ below (Qrt A B) args s mc ms A) (F0 m pc ls [.int v]) :=
  W.widen h1 h2 (W.zret C.1 C.2.1 hr hn (fun t ht _ => ⟨_, rfl, hS.F ht, by rw [ht]; exact hB⟩) hS.2.2 hdg C.lk)
theorem x_vrt {B : Option Value → Heap → Prop} (C : Cx p s m args meth c cc nL own G A) (hr : meth.sig.returnType = none) (hS : va_S A s.heap H locs) (hB : B none H) (h1 : cells ≤ mc) (h2 : slots ≤ ms) (hdg : decode cc pc = .ok (.return_, 1)) : W p l e R s m args below meth c H locs cells slots (MQ below (Qrt A B) args s mc ms A) (F0 m pc ls []) :=
  W.widen h1 h2 (W.vret C.1 C.2.1 hr (fun t ht _ => ⟨_, rfl, hS.F ht, by rw [ht]; exact hB⟩) hS.2.2 hdg C.lk)
theorem x_art {v : Value} {rt : FieldType} {B : Option Value → Heap → Prop} (C : Cx p s m args meth c cc nL own G A) (hr : meth.sig.returnType = some rt) (hrt : (∃ n, rt = .object n) ∨ ∃ t, rt = .array t) (hv : v = .null ∨ ∃ a, v = .ref a) (hS : va_S A s.heap H locs) (hB : B (some v) H) (h1 : cells ≤ mc) (h2 : slots ≤ ms) (hdg : decode cc pc = .ok (.areturn, 1)) : W p l e R s m args below meth c H locs cells slots (MQ below (Qrt A B) args s mc ms A) (F0 m pc ls [v]) :=
  W.widen h1 h2 (W.aret C.1 C.2.1 hr hrt hv (fun t ht _ => ⟨_, rfl, hS.F ht, by rw [ht]; exact hB⟩) hS.2.2 hdg C.lk)
end XC
section XE
variable {l : Launch} {y : MethodName} {rm : Room} {cc : ByteArray} {maxL mc ms : Nat} {ret : Option FieldType} {Qc : Array Value → State → Outcome → State → Prop} {free : Addr → Prop}
/-- a reading method's contract out of its walk -/
theorem ro_of {G : GG} {w : WF} {av : List Value} (hy : plainName y.cls = true) (hlen : (lg_sl av).length ≤ maxL)
    (body : ∀ p e s m below meth c (ls : Array Slot), Cx p s m av.toArray meth c cc maxL y.cls G (fun _ => False) → wP G w s.heap → meth.sig.returnType = ret → lv_has ls maxL (lv_args 0 av) →
      W p l e rm s m av.toArray below meth c s.heap [] 0 0 (MQ below Qc av.toArray s mc ms free) (F0 m 0 ls [])) : Met l y (Cond.code y cc maxL ret :: wt) rm (Pro G w av) Qc mc ms free := by
  refine Met.ofW (cc := cc) (maxL := maxL) (ret := ret) hy rfl ?_
  intro p e s m args below meth c s₁ B hml hv
  obtain ⟨rfl, hP, hK, hZ⟩ := hv
  have hts := atoms_spec (ws := Cond.code y cc maxL ret :: wt) B.pre
  have hl := lv_entry av (n := maxL) hlen
  rw [lg_entry_eq]
  generalize (lg_sl av ++ List.replicate (maxL - (lg_sl av).length) Slot.unset).toArray = ls at hl ⊢
  exact body p e s m below meth c ls ⟨B.exec, B.bytes, hml, findClass_of_methodNamed B.named, fun w h => hts w (List.mem_cons_of_mem _ h), hK, hZ, B.notSynchronized⟩ hP B.returns hl
/-- a writing method's contract out of its walk -/
theorem mt_of {G : GG} {A : Nat → Prop} {w : WF} {E : Heap → Prop} {av : List Value} (hy : plainName y.cls = true) (hlen : (lg_sl av).length ≤ maxL)
    (body : ∀ p e s m below meth c (ls : Array Slot), Cx p s m av.toArray meth c cc maxL y.cls G A → Hw G A s w s.heap [] → (∀ q, s.heap.size ≤ q → A q) → E s.heap → meth.sig.returnType = ret → meth.name = y.name → lv_has ls maxL (lv_args 0 av) →
      W p l e rm s m av.toArray below meth c s.heap [] 0 0 (MQ below Qc av.toArray s mc ms free) (F0 m 0 ls [])) : Met l y (Cond.code y cc maxL ret :: wt) rm (Pre G A w E av) Qc mc ms free := by
  refine Met.ofW (cc := cc) (maxL := maxL) (ret := ret) hy rfl ?_
  intro p e s m args below meth c s₁ B hml hv
  obtain ⟨rfl, hA, hP, hD, hK, hZ, hE⟩ := hv
  have hts := atoms_spec (ws := Cond.code y cc maxL ret :: wt) B.pre
  have hl := lv_entry av (n := maxL) hlen
  rw [lg_entry_eq]
  generalize (lg_sl av ++ List.replicate (maxL - (lg_sl av).length) Slot.unset).toArray = ls at hl ⊢
  exact body p e s m below meth c ls ⟨B.exec, B.bytes, hml, findClass_of_methodNamed B.named, fun w h => hts w (List.mem_cons_of_mem _ h), hK, hZ, B.notSynchronized⟩ ⟨hP, hD, va_S.rf⟩ hA hE B.returns (name_of_methodNamed B.named B.method).1 hl
end XE
