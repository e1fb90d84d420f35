/-! Methods that throw: their contract, calls of them, catching. -/
def FEt (st t : State) (L : List Loc) (k n : Nat) : Prop := st.WarmedH t.vm ∧ st.sameButNew ({ t with vm := st.vm } : State) L k n
/-- the contract of a method that throws -/
def MetT (l : Launch) (y : MethodName) (ws : List Cond) (rm : Room) (Pc : Array Value → State → Prop) (Qt : Array Value → State → Addr → State → Prop) (mc ms : Nat) : Prop :=
  MetFree l y (headSpec ws rm) Pc (fun _ _ _ _ _ => True) (fun a st o t => ∃ x, o = .threw x ∧ Qt a st x t ∧ FEt st t [] mc ms)
def MQT (below : List Frame) (Qt : Array Value → State → Addr → State → Prop) (a : Array Value) (s : State) (mc ms : Nat) : State → Prop := fun t =>
  ∃ x, t.status = .running ∧ Ended t below (.threw x) ∧ Qt a s x t ∧ FEt s t [] mc ms
theorem MetT.ofW {l : Launch} {y : MethodName} {ws ws' : List Cond} {rm : Room} {Pc : Array Value → State → Prop} {Qt : Array Value → State → Addr → State → Prop} {mc ms : Nat} {cc : ByteArray} {maxL : Nat} {ret : Option FieldType}
    (hy : plainName y.cls = true) (hw : ws = Cond.code y cc maxL ret :: ws')
    (body : ∀ p e s m args below meth c s₁, BodyLoose p l y (headSpec ws rm) cc maxL ret e s m args below meth c s₁ → c.maxLocals = maxL → c.exceptionTable.isEmpty = true → Pc args s →
      W p l e (headSpec ws rm).room s m args below meth c s.heap [] 0 0 (MQT below Qt args s mc ms) (entryFrame m args maxL)) : MetT l y ws rm Pc Qt mc ms := by
  refine MetFree.of_bodyS (code := cc) (maxLocals := maxL) (ret := ret) hy ?_ ?_
  · intro args s m h hn
    obtain ⟨meth, c, h1, h2, h3, h4, h5, h6, -, -⟩ := Cond.code_spec hn (atoms_spec (ws := ws) h _ (by rw [hw]; exact List.mem_cons_self))
    exact ⟨meth, c, h1, h2, h3, h4, h5, h6⟩
  · intro p e s m args below meth c s₁ B hml hP _
    have hh0 : s₁.heap = s.heap := by rw [B.state]; rfl
    have hno : c.exceptionTable.isEmpty = true := BodyLoose.noHandlers B (atoms_spec (ws := ws) B.pre _ (by rw [hw]; exact List.mem_cons_self))
    obtain ⟨t, a1, x, b1, b2, b3, b4⟩ := body p e s m args below meth c s₁ B hml hno hP s₁ hh0 (Stand.of_body B)
    exact ⟨t, .threw x, a1, b1, b2, ⟨x, rfl, b3, b4⟩⟩
/-- the thrown object lies over the frame g -/
def WX (p : Program) (l : Launch) (e : Env) (R : Room) (s : State) (m : MethodId) (args : Array Value) (below : List Frame) (meth : Method) (c : Code) (H : Heap) (locs : List Loc) (cells slots : Nat) (Q : State → Prop) (g : JFrame) (x : Addr) : Prop :=
  ∀ T : State, T.heap = H → Stand p l e R s m args below meth c T locs cells slots → ∃ t, Steps p.tables e below ((T.setTop g).pushFrame (.throwing x)) t ∧ Q t
section XT
variable {p : Program} {l : Launch} {e : Env} {R : Room} {s : State} {m : MethodId} {args : Array Value} {below : List Frame} {meth : Method} {c : Code} {H : Heap} {locs : List Loc} {cells slots : Nat} {Q : State → Prop}
variable {cc : ByteArray} {pc : Nat} {ls : Array Slot} {nL : Nat} {own : String} {G : GG} {A : Nat → Prop} {w : WF} {rest st0 : List Value} {b : Nat}
variable {y : MethodName} {bytes : ByteArray} {maxL mc ms n index : Nat} {ret : Option FieldType} {rm : Room} {Pc : Array Value → State → Prop} {Qt : Array Value → State → Addr → State → Prop} {As : List Value}
theorem backT {ws : List Cond} {U : State} {g : JFrame} {ig : Instr} {mk : MethodId} {a : Array Value} (hM : MetT l y ws rm Pc Qt mc ms) (X : Stand p l e R s m args below meth c U locs cells slots) (hg : g.method = m) (hsize : g.locals.size = c.maxLocals) (hdg : decode c.code g.pc = .ok (ig, 3))
    (hW : 2 * g.monitorRoom + (g.stack.map fun v => v.category).sum ≤ 8) (hn : U.methodNamed? y = some mk) (h1 : ∀ w ∈ ws, w.before a U = true) (h2 : (Cond.code y bytes maxL ret).before a U = true) (h3 : (Cond.initialized y.cls).before a U = true) (hrc : rm.cells = mc) (hrs : rm.slots = ms) (h4 : cells + mc ≤ R.cells) (h5 : slots + ms ≤ R.slots)
    (hframes : rm.frames + 1 ≤ R.frames) (hlocals : 8 + (maxL + 11) + rm.locals ≤ R.locals) (hbl : FrameBlind Pc) (hP : Pc a U) :
    ∃ (x : Addr) (t T' : State), Stand p l e R s m args below meth c T' locs (cells + mc) (slots + ms) ∧ T'.heap = t.heap ∧ Qt a (U.calling g mk a) x t ∧
      Steps p.tables e below (doInvoke e (U.setTop g) [] mk a).1 ((T'.setTop g).pushFrame (.throwing x)) := by
  obtain ⟨methY, cY, hmY, hcY, -, hlY, -, -, -, -⟩ := Cond.code_spec hn h2
  obtain ⟨kY, hkY, -⟩ := className_of_methodNamed hn
  have hinitY : kY.init = .initialized := Cond.initialized_spec (findClass_of_methodNamed hn) hkY h3
  have h : At U g.method c below := by rw [hg]; exact X.here
  have happ : (headSpec ws rm).appliesLoose y e.platform (U.calling g mk a) = true :=
    Spec.appliesLoose_calling (g := g) h hdg hn hkY hinitY
      (X.room_calling (g := g) (R' := (headSpec ws rm).room) hsize hmY hcY hframes (by rw [hlY]; show _ + _ + rm.locals ≤ _; omega) (by show cells + rm.cells ≤ _; omega) (by show slots + rm.slots ≤ _; omega)) (atoms_intro h1)
  obtain ⟨mid, hmid⟩ := h.above
  have hfr : (U.setTop g).frames = (.java g :: mid) ++ below := by rw [State.frames_setTop' g h.top, hmid]; rfl
  obtain ⟨o, s₂, hsteps, -, hend, hq⟩ := Steps.callFree hM p X.admits X.cas X.clock (acts := []) hfr happ (hbl _ _ _ _ hP) trivial
  obtain ⟨x, rfl, hq1, hW2, hsame⟩ := hq
  rw [State.frames_setTop' g h.top, X.tail] at hend
  obtain ⟨T', X', -, hsb, ht⟩ := X.outOfThrown hg hend hW2 hsame
  rw [List.append_nil] at X'
  refine ⟨x, s₂, T', X', ?_, hq1, ?_⟩
  · rw [ht, Stand.throwing_heap]
  · rw [← ht]; exact hsteps
/-- a call of a static method that throws -/
theorem t_S (C : Cx p s m args meth c cc nL own G A) (hM : MetT l y (Cond.code y bytes maxL ret :: wt) rm Pc Qt mc ms) (tc : Cond.code y bytes maxL ret ∈ wt) (ti : Cond.initialized y.cls ∈ wt) (tl : Cond.methodLink own index y ∈ wt) (ts : Cond.static y ∈ wt) (hd : hdP y n) (hbl : FrameBlind Pc) (hpre : ∀ U : State, U.heap = H → s.WarmedH U.vm → Pc As.toArray U)
    (hn : As.length = n) (hls : ls.size = nL) (hst : st0 = As.reverse ++ rest) (hrc : rm.cells = mc) (hrs : rm.slots = ms) (hR : rm.frames + 1 ≤ R.frames ∧ 8 + (maxL + 11) + rm.locals ≤ R.locals) (h8 : (rest.map fun v => v.category).sum ≤ 8) (hf : cells + mc ≤ R.cells ∧ slots + ms ≤ R.slots) (hdg : decode cc pc = .ok (.invokestatic index, 3))
    (kk : ∀ (x : Addr) (st t : State), st.heap = H → s.WarmedH st.vm → Qt As.toArray st x t → WX p l e R s m args below meth c t.heap locs (cells + mc) (slots + ms) Q (F0 m pc ls rest) x) : W p l e R s m args below meth c H locs cells slots Q (F0 m pc ls st0) := by
  intro T hT X
  have hcode := C.ts tc
  obtain ⟨mk, hnamed⟩ := Cond.code_named hcode
  obtain ⟨methM, cM, hmethM, -, -, -, -, -, -, hsigM⟩ := Cond.code_spec hnamed hcode
  have hstatic : methM.isStatic = true := Cond.static_spec hnamed hmethM (C.ts ts)
  obtain ⟨kP, hkP, -⟩ := className_of_methodNamed hnamed
  have hinitP : kP.init = .initialized := Cond.initialized_spec (findClass_of_methodNamed hnamed) hkP (C.ts ti)
  have hb := C.2.1
  obtain ⟨vm₁, X₁, hstep₁⟩ := X.invokestatic C.1 C.2.2.2.1 (C.ts tl) hnamed hmethM hstatic hkP hinitP ⟨hd.1, hd.2.1⟩ (g := F0 m pc ls st0) rfl (argsL := As) (rest := rest) (hn.trans (hd_len hd.2.2 _ hsigM)) hst (by rw [hb]; exact hdg)
  have hT1 : (T.setVm vm₁).heap = H := hT
  obtain ⟨x, t, T', X', e1, hq, st⟩ := backT (g := F0 m pc ls rest) (ig := .invokestatic index) hM X₁ rfl (by show ls.size = _; rw [C.2.2.1]; exact hls) (by rw [hb]; exact hdg) (lv_room h8) (X₁.named hnamed) (fun w hw => gw C.2.2.2.2.1 tc w hw _ _ X₁.warmed) (gw C.2.2.2.2.1 tc _ List.mem_cons_self _ _ X₁.warmed) (gw C.2.2.2.2.1 tc _ (List.mem_cons_of_mem _ ti) _ _ X₁.warmed) hrc hrs hf.1 hf.2 hR.1 hR.2 hbl (hpre _ hT1 X₁.warmed)
  obtain ⟨t2, a1, b1⟩ := kk x _ t (show ((T.setVm vm₁).calling (F0 m pc ls rest) mk As.toArray).heap = H from hT) X₁.warmed hq T' e1 X'
  exact ⟨t2, hstep₁ _ fun acts => by rw [doInvoke_state]; exact st.trans a1, b1⟩
/-- a call of a method of an object that throws -/
theorem t_V {ci : Nat} {fs : List Value} {q : vw_C} {nb : Nat} (C : Cx p s m args meth c cc nL own G A) (hP : wP G w H) (he : w nb = some (b, .inr (ci, fs))) (hc : classes[ci]? = some q) (hM : MetT l y (Cond.code y bytes maxL ret :: wt) rm Pc Qt mc ms) (tc : Cond.code y bytes maxL ret ∈ wt) (ti : Cond.initialized y.cls ∈ wt) (tl : Cond.methodLink own index y ∈ wt) (tn : Cond.instanceMethod y ∈ wt) (te : Cond.selects q.1 y y ∈ wt) (hd : hdP y n) (hbl : FrameBlind Pc) (hpre : ∀ U : State, U.heap = H → s.WarmedH U.vm → Pc (Value.ref b :: As).toArray U)
    (hn : As.length = n) (hls : ls.size = nL) (hst : st0 = As.reverse ++ .ref b :: rest) (hrc : rm.cells = mc) (hrs : rm.slots = ms) (hR : rm.frames + 1 ≤ R.frames ∧ 8 + (maxL + 11) + rm.locals ≤ R.locals) (h8 : (rest.map fun v => v.category).sum ≤ 8) (hf : cells + mc ≤ R.cells ∧ slots + ms ≤ R.slots) (hdg : decode cc pc = .ok (.invokevirtual index, 3))
    (kk : ∀ (x : Addr) (st t : State), st.heap = H → s.WarmedH st.vm → Qt (Value.ref b :: As).toArray st x t → WX p l e R s m args below meth c t.heap locs (cells + mc) (slots + ms) Q (F0 m pc ls rest) x) : W p l e R s m args below meth c H locs cells slots Q (F0 m pc ls st0) := by
  intro T hT X
  have hcode := C.ts tc
  obtain ⟨cellB, hcB, hoB, hclB⟩ := hP.recv C.K he hc
  obtain ⟨mk, hnamed⟩ := Cond.code_named hcode
  obtain ⟨methM, cM, hmethM, -, -, -, -, -, -, hsigM⟩ := Cond.code_spec hnamed hcode
  obtain ⟨mk2, methM2, hnamed2, hmethM2, hst2, habM⟩ := Cond.instanceMethod_spec (C.ts tn)
  cases hnamed.symm.trans hnamed2
  cases hmethM.symm.trans hmethM2
  obtain ⟨c2, r2, m2, q1, q2, q3, q4, kP, hkP, hkPi⟩ := Cond.selects_spec (C.ts te)
  cases hclB.symm.trans q1
  cases (State.methodFound?_of_named hnamed ⟨hd.1, hd.2.1⟩).symm.trans q2
  cases hnamed.symm.trans q3
  have hselP : selectMethod e.platform s.vm cellB.cls mk = .method mk := by rw [Launch.admits_selectMethod X.admits]; exact q4
  have hb := C.2.1
  obtain ⟨vm₁, X₁, hstep₁⟩ := X.invokevirtual C.1 C.2.2.2.1 (C.ts tl) hnamed hmethM hst2 hkP hkPi ⟨hd.1, hd.2.1⟩ (a := b) (cell := cellB) (by rw [hT]; exact hcB)
    (fun z h => by rw [h] at hoB; cases hoB) hselP hmethM habM hkP hkPi (g := F0 m pc ls st0) rfl (argsL := As) (rest := rest) (hn.trans (hd_len hd.2.2 _ hsigM)) hst (by rw [hb]; exact hdg)
  have hT1 : (T.setVm vm₁).heap = H := hT
  obtain ⟨x, t, T', X', e1, hq, st⟩ := backT (g := F0 m pc ls rest) (ig := .invokevirtual index) hM X₁ rfl (by show ls.size = _; rw [C.2.2.1]; exact hls) (by rw [hb]; exact hdg) (lv_room h8) (X₁.named hnamed) (fun w hw => gw C.2.2.2.2.1 tc w hw _ _ X₁.warmed) (gw C.2.2.2.2.1 tc _ List.mem_cons_self _ _ X₁.warmed) (gw C.2.2.2.2.1 tc _ (List.mem_cons_of_mem _ ti) _ _ X₁.warmed) hrc hrs hf.1 hf.2 hR.1 hR.2 hbl (hpre _ hT1 X₁.warmed)
  obtain ⟨t2, a1, b1⟩ := kk x _ t (show ((T.setVm vm₁).calling (F0 m pc ls rest) mk (Value.ref b :: As).toArray).heap = H from hT) X₁.warmed hq T' e1 X'
  exact ⟨t2, hstep₁ _ fun acts => by rw [doInvoke_state]; exact st.trans a1, b1⟩
/-- out of a method that catches nothing -/
theorem t_out {x : Addr} {H : Heap} (C : Cx p s m args meth c cc nL own G A) (hno : c.exceptionTable.isEmpty = true) (hq : ∀ t : State, t.heap = H → Qt args s x t) : WX p l e R s m args below meth c H [] cells slots (MQT below Qt args s cells slots) (F0 m pc ls rest) x := by
  intro T hT X
  have hlk := C.lk
  obtain ⟨h1, h2, h3, h4, h5⟩ := X.leaveThrown x (g := F0 m pc ls rest) rfl rfl rfl (fun y hy => by
    have : c.exceptionTable.toList = [] := by simpa using hno
    rw [this] at hy; cases hy) hlk
  exact ⟨_, h1, x, h2, h3, hq _ hT, h4, h5⟩
theorem MQT.widen {Qt : Array Value → State → Addr → State → Prop} {a : Array Value} {k n k' n' : Nat} {t : State} (h1 : k ≤ k') (h2 : n ≤ n') (h : MQT below Qt a s k n t) : MQT below Qt a s k' n' t := by
  obtain ⟨x, q1, q2, q3, q4, q5⟩ := h
  exact ⟨x, q1, q2, q3, q4, q5.weaken (fun _ h _ => h) h1 h2⟩
end XT
/-- nothing that was there has changed, and the thrown object is of the class -/
def QtE (cls : String) : Array Value → State → Addr → State → Prop := fun _ st x t => st.heap.size ≤ t.heap.size ∧ (∀ q : Nat, q < st.heap.size → t.heap[q]? = st.heap[q]?) ∧ ∃ ce : Cell, t.heap[x]? = some ce ∧ (∀ k, ce.vm ≠ .statics k) ∧ st.vm.findClass cls = some ce.cls
theorem same_kept {s t : State} {cells slots : Nat} (h : s.sameButNew t [] cells slots) {q : Nat} (hq : q < s.heap.size) : t.heap[q]? = s.heap[q]? := by
  obtain ⟨-, -, -, -, -, h6⟩ := h
  obtain ⟨c', h1, h2, h3, h4⟩ := h6 q s.heap[q] (by rw [Array.getElem?_eq_getElem hq])
  rw [h1, Array.getElem?_eq_getElem hq]
  congr 1
  rw [h2]
  have : c'.slots = s.heap[q].slots := by
    apply Array.ext_getElem?
    intro i
    exact h4 i (by simp)
  rw [this]
