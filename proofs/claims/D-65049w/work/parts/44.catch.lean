/-! Catching, where the catch types may be cold. -/
section FT
variable {e : Env} {s : State} {f : JFrame} {a : Addr} {Q : Handler → _root_.Jvm.Pre} {E : CtlPost} {d : Bool} {acts : List Action}
theorem ft_class {x : ExceptionTableEntry} {t : List ExceptionTableEntry} {c : ClassId} {cell : Cell} {k1 k2 : Class} (hx : covers x f.pc = true) (h0 : x.catchType ≠ 0)
    (hl : s.vm.ClassLinks e.platform f.method.cls x.catchType c) (hcell : s.heap[a]? = some cell) (hobj : ∀ k, cell.vm ≠ .statics k) (hk1 : s.vm.classes[cell.cls]? = some k1) (hk2 : s.vm.classes[c]? = some k2) :
    wp (findHandler.go f a (x :: t)) Q E e d acts s ↔ if s.vm.assignable cell.cls c = true then Q (.found x.handlerPc) d acts (s.setVm (s.vm.noted f.method.cls x.catchType (.cls c))) else wp (findHandler.go f a t) Q E e d acts (s.setVm (s.vm.noted f.method.cls x.catchType (.cls c))) := by
  simp only [covers] at hx
  obtain ⟨ha, ht⟩ := (resolveClass_links e.toSetting hl).op (op := VmOp.resolveClass f.method.cls x.catchType) rfl
  have hal : s.vm.Alike (s.vm.noted f.method.cls x.catchType (.cls c)) := (Vm.Alike.refl s.vm).noted _ _ _
  obtain ⟨k1', hk1', -⟩ := hal.2.2 _ _ hk1
  obtain ⟨k2', hk2', -⟩ := hal.2.2 _ _ hk2
  have has := hal.assignable cell.cls c
  cases hfit : s.vm.assignable cell.cls c <;>
    (rw [hfit] at has
     simp [findHandler.go, hx, h0, ha, ht, hcell, hobj, hk1', hk2', has, VmOp.dirties, VmOp.acts])
/-- caught; the tables have become warmer -/
theorem caughtV {tb : Tables} {target : State} {g : JFrame} {c : Code} {below : List Frame} (h : At s g.method c below) {pc : Nat} {vm' : Vm}
    (hfind : ∀ (Q : Handler → _root_.Jvm.Pre) (E : CtlPost) (d : Bool) (acts : List Action), wp (findHandler g a) Q E e d acts ((s.setTop g).pushFrame (.throwing a)) ↔ Q (.found pc) d acts (((s.setTop g).pushFrame (.throwing a)).setVm vm'))
    (hrest : Steps tb e below ((s.setVm vm').setTop { g with pc := pc, stack := [.ref a] }) target) : Steps tb e below ((s.setTop g).pushFrame (.throwing a)) target := by
  obtain ⟨hgo, hw⟩ := h.throwing a
  refine Steps.head hgo hw ?_
  have key : ∀ r : List Frame, (stepThrowing e ((s.setTop g).pushFrame (.throwing a)) a (.java g :: r)).Is ((((s.setTop g).pushFrame (.throwing a)).setVm vm').setFrames (.java { g with pc := pc, stack := [.ref a] } :: r)) [] := by
    intro r
    simp only [stepThrowing, searchFrame, vmDo]
    generalize hr : Sem.go _ e false [] _ = res
    obtain ⟨as, rfl, ha⟩ := Sem.eq_ok_of hr (a := Handler.found pc) (s' := ((s.setTop g).pushFrame (.throwing a)).setVm vm') (acts' := []) (by simp [hfind _ _ _ _])
    exact ⟨rfl, ha⟩
  rw [stepThread_throwing (frames_entered h.top _), (key _).1]
  obtain ⟨g₀, hg⟩ := Option.isSome_iff_exists.mp h.top
  obtain ⟨r, hr⟩ := State.topJava?_eq_some.mp hg
  have hr' : (s.setVm vm').frames = .java g₀ :: r := hr
  have sw : ∀ (u : State) (F F' : List Frame), ((u.setFrames F).setVm vm').setFrames F' = (u.setVm vm').setFrames F' := by
    intro u F F'
    have h1 : (u.setFrames F).setVm vm' = (u.setVm vm').setFrames F := rfl
    rw [h1, State.setFrames_setFrames]
  rw [State.setTop_of_frames _ hr'] at hrest
  rw [hr, List.tail_cons, State.pushFrame, sw, State.setTop_of_frames _ hr, sw]
  exact hrest
end FT
section XC2
variable {p : Program} {l : Launch} {e : Env} {R : Room} {s : State} {m : MethodId} {args : Array Value} {below : List Frame} {meth : Method} {c : Code} {H : Heap} {locs : List Loc} {cells slots : Nat} {Q : State → Prop}
variable {cc : ByteArray} {pc : Nat} {ls : Array Slot} {nL : Nat} {own : String} {G : GG} {A : Nat → Prop} {w : WF} {rest : List Value} {x : Addr} {ce : Cell}
/-- a catch type of the walked method, in whatever tables the walk has -/
theorem link_at (C : Cx p s m args meth c cc nL own G A) {i : Nat} {X : String} (hlink : Cond.classLink own i X ∈ wt) {vm' : Vm} (hpl : e.platform.magicAccessors = ({} : Platform).magicAccessors) (hW : s.WarmedH vm') :
    ∃ cT, s.vm.findClass X = some cT ∧ vm'.ClassLinks e.platform m.cls i cT ∧ s.WarmedH (vm'.noted m.cls i (.cls cT)) ∧ ∃ k, vm'.classes[cT]? = some k := by
  obtain ⟨c', hc', hcl⟩ := Cond.classLink_spec C.2.2.2.1 (C.ts hlink) e.platform hpl
  obtain ⟨dk, _, _, kt, hd, _, _, _, _, hkt, _, hopen⟩ := hcl.here
  obtain ⟨kt', hkt', -⟩ := hW.alike.2.2 _ _ hkt
  exact ⟨c', hc', hW.classLinks hcl, hW.noted hd hopen (State.rightAt_cls hcl), kt', hkt'⟩
/-- caught by the first entry -/
theorem t_catch1 {X : String} {s1 e1 h1 k1 : Nat} {hh : List (Nat × Nat × Nat × Nat)} (C : Cx p s m args meth c cc nL own G A) (htab : c.exceptionTable.toList.map (fun h => (h.startPc, h.endPc, h.handlerPc, h.catchType)) = (s1, e1, h1, k1) :: hh) (hcov : s1 ≤ pc ∧ pc < e1) (hk0 : k1 ≠ 0)
    (hlink : Cond.classLink own k1 X ∈ wt) (hcast : Cond.castable X X ∈ wt) (hcls : s.vm.findClass X = some ce.cls) (hcell : H[x]? = some ce) (hobj : ∀ k, ce.vm ≠ .statics k)
    (kk : W p l e R s m args below meth c H locs cells slots Q (F0 m h1 ls [.ref x])) : WX p l e R s m args below meth c H locs cells slots Q (F0 m pc ls rest) x := by
  intro T hT S
  have hpl : e.platform.magicAccessors = ({} : Platform).magicAccessors := by rw [S.admits.platform]
  obtain ⟨cT, q1, q2, q3, k, hk⟩ := link_at C hlink hpl S.warmed
  cases hcls.symm.trans q1
  obtain ⟨c3, c4, f1, f2, f3⟩ := Cond.castable_spec (C.ts hcast)
  cases hcls.symm.trans f1
  cases hcls.symm.trans f2
  have hfit : T.vm.assignable ce.cls ce.cls = true := by rw [S.warmed.alike.assignable]; exact f3
  cases hl : c.exceptionTable.toList with
  | nil => rw [hl] at htab; simp at htab
  | cons y ys =>
    rw [hl] at htab
    simp only [List.map_cons, List.cons.injEq, Prod.mk.injEq] at htab
    obtain ⟨⟨a1, a2, a3, a4⟩, -⟩ := htab
    obtain ⟨t, b1, b2⟩ := kk (T.setVm (T.vm.noted m.cls k1 (.cls ce.cls))) hT (S.noted q3)
    refine ⟨t, caughtV (s := T) (g := F0 m pc ls rest) (vm' := T.vm.noted m.cls k1 (.cls ce.cls)) (pc := h1) S.here ?_ b1, b2⟩
    intro Q E d acts
    rw [W.findHandler_eq (f := F0 m pc ls rest) (s := (T.setTop (F0 m pc ls rest)).pushFrame (.throwing x)) (meth := meth) (code := c) S.method' S.code, hl, ft_class (s := (T.setTop (F0 m pc ls rest)).pushFrame (.throwing x)) (c := ce.cls) (cell := ce) (k1 := k) (k2 := k) (by simp only [covers]; show (decide (y.startPc ≤ pc) && decide (pc < y.endPc)) = true; rw [a1, a2]; simp [hcov.1, hcov.2]) (by rw [a4]; exact hk0) (by rw [a4, Stand.throwing_vm]; exact q2) (by rw [Stand.throwing_heap, hT]; exact hcell) hobj (by rw [Stand.throwing_vm]; exact hk) (by rw [Stand.throwing_vm]; exact hk)]
    rw [Stand.throwing_vm, if_pos hfit, a3, a4]
/-- caught by the second of two, the first being of another class -/
theorem t_catch2 {X Y : String} {s1 e1 h1 k1 s2 e2 h2 k2 : Nat} {hh : List (Nat × Nat × Nat × Nat)} (C : Cx p s m args meth c cc nL own G A) (htab : c.exceptionTable.toList.map (fun h => (h.startPc, h.endPc, h.handlerPc, h.catchType)) = (s1, e1, h1, k1) :: (s2, e2, h2, k2) :: hh) (hcov : s1 ≤ pc ∧ pc < e1) (hcov2 : s2 ≤ pc ∧ pc < e2) (hk0 : k1 ≠ 0) (hk2 : k2 ≠ 0)
    (hlink : Cond.classLink own k1 Y ∈ wt) (hlink2 : Cond.classLink own k2 X ∈ wt) (hno : ∀ c1, s.vm.findClass Y = some c1 → s.vm.assignable ce.cls c1 = false) (hcast : Cond.castable X X ∈ wt) (hcls : s.vm.findClass X = some ce.cls) (hcell : H[x]? = some ce) (hobj : ∀ k, ce.vm ≠ .statics k)
    (kk : W p l e R s m args below meth c H locs cells slots Q (F0 m h2 ls [.ref x])) : WX p l e R s m args below meth c H locs cells slots Q (F0 m pc ls rest) x := by
  intro T hT S
  have hpl : e.platform.magicAccessors = ({} : Platform).magicAccessors := by rw [S.admits.platform]
  obtain ⟨cY, p1, p2, p3, kY, hkY⟩ := link_at C hlink hpl S.warmed
  obtain ⟨cT, q1, q2, q3, k, hk⟩ := link_at C hlink2 hpl p3
  cases hcls.symm.trans q1
  obtain ⟨c3, c4, f1, f2, f3⟩ := Cond.castable_spec (C.ts hcast)
  cases hcls.symm.trans f1
  cases hcls.symm.trans f2
  have hfit : (T.vm.noted m.cls k1 (.cls cY)).assignable ce.cls ce.cls = true := by rw [p3.alike.assignable]; exact f3
  have hnf : ¬ T.vm.assignable ce.cls cY = true := by rw [S.warmed.alike.assignable, hno cY p1]; decide
  have hal : T.vm.Alike (T.vm.noted m.cls k1 (.cls cY)) := (Vm.Alike.refl T.vm).noted _ _ _
  obtain ⟨k0, hk0'⟩ : ∃ k0, T.vm.classes[ce.cls]? = some k0 := by
    have hlt : ce.cls < T.vm.classes.size := by rw [← hal.2.1]; exact (Array.getElem?_eq_some_iff.mp hk).1
    exact ⟨_, Array.getElem?_eq_getElem hlt⟩
  cases hl : c.exceptionTable.toList with
  | nil => rw [hl] at htab; simp at htab
  | cons y ys =>
    cases ys with
    | nil => rw [hl] at htab; simp at htab
    | cons z zs =>
      rw [hl] at htab
      simp only [List.map_cons, List.cons.injEq, Prod.mk.injEq] at htab
      obtain ⟨⟨a1, a2, a3, a4⟩, ⟨b1, b2, b3, b4⟩, -⟩ := htab
      obtain ⟨t, d1, d2⟩ := kk (T.setVm ((T.vm.noted m.cls k1 (.cls cY)).noted m.cls k2 (.cls ce.cls))) hT (S.noted q3)
      refine ⟨t, caughtV (s := T) (g := F0 m pc ls rest) (vm' := (T.vm.noted m.cls k1 (.cls cY)).noted m.cls k2 (.cls ce.cls)) (pc := h2) S.here ?_ d1, d2⟩
      intro Q E d acts
      rw [W.findHandler_eq (f := F0 m pc ls rest) (s := (T.setTop (F0 m pc ls rest)).pushFrame (.throwing x)) (meth := meth) (code := c) S.method' S.code, hl, ft_class (s := (T.setTop (F0 m pc ls rest)).pushFrame (.throwing x)) (c := cY) (cell := ce) (k1 := k0) (k2 := kY) (by simp only [covers]; show (decide (y.startPc ≤ pc) && decide (pc < y.endPc)) = true; rw [a1, a2]; simp [hcov.1, hcov.2]) (by rw [a4]; exact hk0) (by rw [a4, Stand.throwing_vm]; exact p2) (by rw [Stand.throwing_heap, hT]; exact hcell) hobj (by rw [Stand.throwing_vm]; exact hk0') (by rw [Stand.throwing_vm]; exact hkY)]
      rw [Stand.throwing_vm, if_neg hnf, a4]
      rw [ft_class (s := ((T.setTop (F0 m pc ls rest)).pushFrame (.throwing x)).setVm (T.vm.noted m.cls k1 (.cls cY))) (c := ce.cls) (cell := ce) (k1 := k) (k2 := k) (by simp only [covers]; show (decide (z.startPc ≤ pc) && decide (pc < z.endPc)) = true; rw [b1, b2]; simp [hcov2.1, hcov2.2]) (by rw [b4]; exact hk2) (by rw [b4]; exact q2) (by show ((T.setTop (F0 m pc ls rest)).pushFrame (.throwing x)).heap[x]? = _; rw [Stand.throwing_heap, hT]; exact hcell) hobj hk hk]
      rw [State.vm_setVm, if_pos hfit, b3, b4]
      exact Iff.rfl
end XC2
