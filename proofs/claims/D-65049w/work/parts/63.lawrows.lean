/-! Methods that catch: their contract, calls of them; the world of the law. -/
section XCW
variable {l : Launch} {y : MethodName} {rm : Room} {cc : ByteArray} {maxL mc ms : Nat} {ret : Option FieldType} {Qc : Array Value → State → Outcome → State → Prop} {free : Addr → Prop} {hh : List (Nat × Nat × Nat × Nat)}
/-- a catching method's contract out of its walk -/
theorem mtW_of {G : GG} {A : Nat → Prop} {w : WF} {E : Heap → Prop} {av : List Value} (hy : plainName y.cls = true) (hlen : (lg_sl av).length ≤ maxL)
    (body : ∀ p e s m below meth c (ls : Array Slot), Cx p s m av.toArray meth c cc maxL y.cls G A → Hw G A s w s.heap [] → (∀ q, s.heap.size ≤ q → A q) → E s.heap → meth.sig.returnType = ret → c.exceptionTable.toList.map (fun h => (h.startPc, h.endPc, h.handlerPc, h.catchType)) = hh → lv_has ls maxL (lv_args 0 av) →
      W p l e rm s m av.toArray below meth c s.heap [] 0 0 (MQ below Qc av.toArray s mc ms free) (F0 m 0 ls [])) : Met l y (Cond.codeWith y cc maxL ret hh :: wt) rm (Pre G A w E av) Qc mc ms free := by
  refine va_MetW (cc := cc) (maxL := maxL) (ret := ret) (hh := hh) hy rfl ?_
  intro p e s m args below meth c s₁ B hml hv
  obtain ⟨rfl, hA, hP, hD, hK, hZ, hE⟩ := hv
  have hts := atoms_spec (ws := Cond.codeWith y cc maxL ret hh :: wt) B.pre
  have htab : c.exceptionTable.toList.map (fun h => (h.startPc, h.endPc, h.handlerPc, h.catchType)) = hh := by
    obtain ⟨m9, meth9, c9, hn9, h1, h2, -, -, h5, -⟩ := Cond.codeWith_spec (hts _ List.mem_cons_self)
    cases B.named.symm.trans hn9
    cases B.method.symm.trans h1
    cases (Stand.of_body B).code.symm.trans h2
    exact h5
  have hl := lv_entry av (n := maxL) hlen
  rw [lg_entry_eq]
  generalize (lg_sl av ++ List.replicate (maxL - (lg_sl av).length) Slot.unset).toArray = ls at hl ⊢
  exact body p e s m below meth c ls ⟨B.exec, B.bytes, hml, findClass_of_methodNamed B.named, fun w h => hts w (List.mem_cons_of_mem _ h), hK, hZ, B.notSynchronized⟩ ⟨hP, hD, va_S.rf⟩ hA hE B.returns htab hl
end XCW
section XSW
variable {p : Program} {l : Launch} {e : Env} {R : Room} {s : State} {m : MethodId} {args : Array Value} {below : List Frame} {meth : Method} {c : Code} {H : Heap} {locs : List Loc} {cells slots : Nat} {Q : State → Prop}
variable {cc : ByteArray} {pc : Nat} {ls : Array Slot} {nL : Nat} {own : String} {G : GG} {A : Nat → Prop} {w : WF} {rest st0 : List Value}
variable {y : MethodName} {bytes : ByteArray} {maxL mc ms n index : Nat} {ret : Option FieldType} {rm : Room} {Pc : Array Value → State → Prop} {Qc : Array Value → State → Outcome → State → Prop} {free : Addr → Prop} {As : List Value} {hh : List (Nat × Nat × Nat × Nat)}
/-- a call of a static method that catches -/
theorem x_cSW (C : Cx p s m args meth c cc nL own G A) (hM : Met l y (Cond.codeWith y bytes maxL ret hh :: wt) rm Pc Qc mc ms free) (tc : Cond.codeWith y bytes maxL ret hh ∈ wt) (ti : Cond.initialized y.cls ∈ wt) (tl : Cond.methodLink own index y ∈ wt) (ts : Cond.static y ∈ wt) (hd : hdP y n) (hbl : FrameBlind Pc) (hpre : ∀ U : State, U.heap = H → s.WarmedH U.vm → Pc As.toArray U)
    (hn : As.length = n) (hls : ls.size = nL) (hst : st0 = As.reverse ++ rest) (hrc : rm.cells = mc) (hrs : rm.slots = ms) (hR : rm.frames + 1 ≤ R.frames ∧ 8 + (maxL + 11) + rm.locals ≤ R.locals) (h8 : (rest.map fun v => v.category).sum ≤ 8) (hf : cells + mc ≤ R.cells ∧ slots + ms ≤ R.slots) (hdg : decode cc pc = .ok (.invokestatic index, 3)) :
    va_Run p l e R s m args below meth c H locs cells slots mc ms (F0 m pc ls st0) rest (Qc As.toArray) free := by
  have hK : Back l R p e below s args y 3 8 (PreOf R mc ms Pc) (PostOf Qc mc ms free) := va_backW (hh := hh) (bytes := bytes) (maxL := maxL) (ret := ret) hM hbl hrc hrs hR.1 hR.2 (gw C.2.2.2.2.1 tc) List.mem_cons_self (fun a' U hW => gw C.2.2.2.2.1 tc _ (List.mem_cons_of_mem _ ti) a' U hW)
  intro T hT X
  obtain ⟨mk, methM, cM, hnamed, hmethM, -, -, -, -, -, -, hsigM⟩ := Cond.codeWith_spec (C.ts tc)
  have hstatic : methM.isStatic = true := Cond.static_spec hnamed hmethM (C.ts ts)
  obtain ⟨kP, hkP, -⟩ := className_of_methodNamed hnamed
  have hinitP : kP.init = .initialized := Cond.initialized_spec (findClass_of_methodNamed hnamed) hkP (C.ts ti)
  have hb := C.2.1
  obtain ⟨vm₁, X₁, hstep₁⟩ := X.invokestatic C.1 C.2.2.2.1 (C.ts tl) hnamed hmethM hstatic hkP hinitP ⟨hd.1, hd.2.1⟩ (g := F0 m pc ls st0) rfl (argsL := As) (rest := rest) (hn.trans (hd_len hd.2.2 _ hsigM)) hst (by rw [hb]; exact hdg)
  obtain ⟨v, ⟨U', l2, c2, s2⟩, X', ⟨g', mk', t, L, e1, e2, hq, h1, hL, h2, h3⟩, st⟩ := hK m meth c ⟨T.setVm vm₁, locs, cells, slots⟩ (F0 m pc ls rest) (.invokestatic index) mk As.toArray X₁ rfl (by show ls.size = _; rw [C.2.2.1]; exact hls) (by rw [hb]; exact hdg) (lv_room h8) (X₁.named hnamed) ⟨hf.1, hf.2, hpre (T.setVm vm₁) hT X₁.warmed⟩
  dsimp only [Pt.U, Pt.locs, Pt.cells, Pt.slots] at X' e1 e2 h1 h2 h3 st
  subst h1; subst h2; subst h3
  exact ⟨v, (T.setVm vm₁).calling g' mk' As.toArray, t, U', L, hT, X', hL, e1, e2, hq, fun target h => hstep₁ _ fun acts => by rw [doInvoke_state]; exact st.trans h⟩
end XSW
theorem Hw.keep {G : GG} {A : Nat → Prop} {s : State} {w : WF} {H H1 : Heap} {locs : List Loc} (h : Hw G A s w H locs) (hz : H.size ≤ H1.size) (hk : ∀ q : Nat, q < H.size → H1[q]? = H[q]?) : Hw G A s w H1 locs :=
  ⟨h.1.kept hk, h.2.1, Nat.le_trans h.2.2.1 hz, fun x h1 h2 => (hk x (Nat.lt_of_lt_of_le h1 h.2.2.1)).trans (h.2.2.2.1 x h1 h2), h.2.2.2.2⟩
/-- what a call that has thrown leaves to the handler -/
theorem QtE.in {cls : String} {a : Array Value} {s st t : State} {x : Addr} {G : GG} {A : Nat → Prop} {w : WF} {H : Heap} {locs : List Loc} (h : QtE cls a st x t) (hst : st.heap = H) (hW : s.WarmedH st.vm) (hH : Hw G A s w H locs) :
    ∃ ce : Cell, Hw G A s w t.heap locs ∧ t.heap[x]? = some ce ∧ (∀ k, ce.vm ≠ .statics k) ∧ s.vm.findClass cls = some ce.cls := by
  obtain ⟨h1, h2, ce, h3, h4, h5⟩ := h
  rw [hst] at h1 h2
  exact ⟨ce, hH.keep h1 h2, h3, h4, (hW.alike.findClass cls none).symm.trans h5⟩
section XLW
variable {G : GG} {rb n : Nat} {md : Int32} {rd sd : Nat → Nat} {ms : Nat → Int32} {fl mn : Nat → Nat} {sc : Nat → Int32} {ar : Nat → Nat → Int32} {b : Bt} {w0 : WF} {ad : Nat → Nat} {sc2 : Nat → Int32} {ar2 : Nat → Nat → Int32}
theorem cW_hi {m : Nat} (hm : 300 ≤ m) (hn : n ≤ 3) (hrb : rb ≤ 200) : cW G rb n md rd sd ms fl mn sc ar b w0 m = w0 m := by
  rw [cW, rW_0 (by omega) hn, sp_w (by omega) hn]
/-- spW and rW on top of other bases -/
theorem rW_bas2 {w1 w2 : WF} {m : Nat} (h : w1 m = w2 m) : rW G rb n md rd sd w1 sc ar b m = rW G rb n md rd sd w2 sc ar b m := by
  unfold rW; rw [h]
theorem spW_bas2 {w1 w2 : WF} {m : Nat} {rv : Value} (h : w1 m = w2 m) : spW G sd rv n ms fl mn sc ar w1 m = spW G sd rv n ms fl mn sc ar w2 m := by
  unfold spW; simp only [h]
theorem cW_bas2 {w1 w2 : WF} {m : Nat} (h : w1 m = w2 m) : cW G rb n md rd sd ms fl mn sc ar b w1 m = cW G rb n md rd sd ms fl mn sc ar b w2 m := rW_bas2 (spW_bas2 h)
theorem cW_up {m : Nat} {c : Option (Nat × va_E)} (hm : 300 ≤ m) (hn : n ≤ 3) (hrb : rb ≤ 200) : va_up (cW G rb n md rd sd ms fl mn sc ar b w0) m c = cW G rb n md rd sd ms fl mn sc ar b (va_up w0 m c) := by
  funext k
  by_cases e : k = m
  · subst e; rw [up_s, cW_hi hm hn hrb, up_s]
  · rw [up_n _ _ e]; exact cW_bas2 (up_n _ _ e).symm
/-- the twin's cells and the component's lie apart -/
theorem mc_swap (hn : n ≤ 3) (hrb : rb ≤ 200) : mW G ad (cW G rb n md rd sd ms fl mn sc ar b w0) sc2 ar2 = cW G rb n md rd sd ms fl mn sc ar b (mW G ad w0 sc2 ar2) := by
  funext k
  by_cases e : 1000 ≤ k ∧ k < 1021
  · rw [cW_hi (by omega) hn hrb]
    unfold mW
    by_cases e0 : k = 1000
    · rw [if_pos e0, if_pos e0]
    rw [if_neg e0, if_neg e0]
    by_cases e1 : k = 1001
    · rw [if_pos e1, if_pos e1]
    rw [if_neg e1, if_neg e1, if_pos (by omega), if_pos (by omega)]
  · rw [mW_w (by omega)]
    exact cW_bas2 (mW_w (by omega)).symm
theorem mW_up {m : Nat} {c : Option (Nat × va_E)} (hm : m < 1000) : va_up (mW G ad w0 sc2 ar2) m c = mW G ad (va_up w0 m c) sc2 ar2 := by
  funext k
  by_cases e : k = m
  · subst e; rw [up_s, mW_w (Or.inl hm), up_s]
  · rw [up_n _ _ e]
    unfold mW
    rw [up_n _ _ e]
end XLW
/-- the one long that the law keeps, at oa -/
def oW (G : GG) (oa : Nat) (f : Nat → Int64) : WF := fun m => if m = 500 then some (oa, .inl (G.2.1 2, 1, .inr (.inl f))) else none
theorem oW_o {G : GG} {oa : Nat} {f : Nat → Int64} : oW G oa f 500 = some (oa, .inl (G.2.1 2, 1, .inr (.inl f))) := by unfold oW; rw [if_pos rfl]
theorem oW_n {G : GG} {oa : Nat} {f : Nat → Int64} {m : Nat} (h : m ≠ 500) : oW G oa f m = none := by unfold oW; rw [if_neg h]
theorem oW_up {G : GG} {oa : Nat} {f g : Nat → Int64} : va_up (oW G oa f) 500 (some (oa, .inl (G.2.1 2, 1, .inr (.inl g)))) = oW G oa g := by
  funext k
  by_cases e : k = 500
  · subst e; rw [up_s, oW_o]
  · rw [up_n _ _ e, oW_n e, oW_n e]
/-- the law's world: the component over the twin over the long -/
def lwW (G : GG) (oa : Nat) (f : Nat → Int64) (ad : Nat → Nat) (sc : Nat → Int32) (ar : Nat → Nat → Int32) : WF := mW G ad (oW G oa f) sc ar
theorem lwW_n {G : GG} {oa : Nat} {f : Nat → Int64} {ad : Nat → Nat} {sc : Nat → Int32} {ar : Nat → Nat → Int32} {m : Nat} (h : m < 500) : lwW G oa f ad sc ar m = none := by
  unfold lwW; rw [mW_w (by omega), oW_n (by omega)]
theorem lwW_o {G : GG} {oa : Nat} {f : Nat → Int64} {ad : Nat → Nat} {sc : Nat → Int32} {ar : Nat → Nat → Int32} : lwW G oa f ad sc ar 500 = some (oa, .inl (G.2.1 2, 1, .inr (.inl f))) := by
  unfold lwW; rw [mW_w (by omega), oW_o]
theorem lwW_up {G : GG} {oa : Nat} {f g : Nat → Int64} {ad : Nat → Nat} {sc : Nat → Int32} {ar : Nat → Nat → Int32} : va_up (lwW G oa f ad sc ar) 500 (some (oa, .inl (G.2.1 2, 1, .inr (.inl g)))) = lwW G oa g ad sc ar := by
  unfold lwW; rw [mW_up (by decide), oW_up]
