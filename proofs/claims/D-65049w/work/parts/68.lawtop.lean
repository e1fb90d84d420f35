/-! THE CLAIM OUT OF ONE WALK OF THE LAW'S BODY. Your part is whole_start (and what it stands on); all else here is the same for every law, but numbers. -/
def R_law : String := "SweptPathsLaw"
def lw_P (b : Addr) (xs : List Int32) (args : Array Value) (s : State) : Prop := args = #[.ref b] ∧ s.IntsAt b xs ∧ xs.length ≤ 384 ∧ (Jvm.Cond.and given_1 narrow_1).before args s = true
def lw_Q (_ : Array Value) (s : State) (o : Outcome) (t : State) : Prop := o = .returned (some (.int 1)) ∧ Framed s o t [] 601024 7293034
def lw_Z (below : List Frame) (a : Array Value) (s : State) : State → Prop := fun t => ∃ o, t.status = .running ∧ Ended t below o ∧ lw_Q a s o t
/-- the law's own end, with 1 on the stack, nothing written that was there before, its room as the claim has it -/
theorem lw_ret {p : Program} {l : Launch} {e : Env} {s : State} {m : MethodId} {below : List Frame} {meth : Method} {c : Code} {b : Nat} (hx : p.tables.exec = Jvm.exec) (hb : c.code = code) (hr : meth.sig.returnType = ret) (hlocks : meth.locks = false) {pc : Nat} {H : Heap} {ls : Array Slot} (hdg : decode code pc = .ok (.ireturn, 1)) : W p l e room_1 s m #[Value.ref b] below meth c H [] 601024 7293034 (lw_Z below #[Value.ref b] s) (F0 m pc ls [.int 1]) := by
  intro T hT X
  obtain ⟨fs, hret, hrun, hended, hW, hframe⟩ := X.leave (v := some (.int 1)) (hlocks := hlocks) (fun h => by rw [hr] at h; cases h)
  have hmeth' : T.vm.method? m = some meth := X.method'
  refine ⟨T.setFrames fs, ?_, .returned (some (.int 1)), hrun, hended, rfl, ⟨_, rfl⟩, hW, hframe⟩
  jvm_step X.here [X.here.top, hx, hb, hdg, hmeth', hr, ret, narrow_b1]
  (try refine ⟨rfl, ?_⟩); (try refine ⟨rfl, ?_⟩)
  first | (intro acts; rw [hret _ acts rfl rfl rfl]) | rw [hret _ _ rfl rfl rfl]
  exact Steps.refl _
/-- what holds at the law's entry: the machine, the code, the tables' words (any of lw_tbl by 'hts w (by decide +kernel)'), the script of L ints xs at the cell b, what the Statement gives of the start (any of its parts by flat_of_before) -/
def lw_At (p : Program) (s : State) (m : MethodId) (meth : Method) (c : Code) (b L : Nat) (xs : Nat → Int32) : Prop :=
  p.tables.exec = Jvm.exec ∧ c.code = code ∧ meth.sig.returnType = ret ∧ c.maxLocals = 7 ∧ s.vm.findClass R_law = some m.cls ∧ (∀ w ∈ lw_tbl, w.before #[Value.ref b] s = true) ∧ va_X b L xs s s.heap ∧ b < s.heap.size ∧ meth.locks = false ∧ (Jvm.Cond.and given_1 narrow_1).before #[Value.ref b] s = true
/-! What holds at the law's entry, in the words of the walks. -/
theorem zL_of {C n d : String} {A : Nat → Prop} {s : State} {args : Array Value} (hl : (Cond.laysStatic C n d).before args s = true) (h : (Cond.isRef (.static C n d)).before args s = true) (hA : ∀ a : Nat, a < s.heap.size → ¬ A a) : zL C n d A s s.heap := by
  obtain ⟨c, k, i, f, a, cell, hc, hi, hst, ha, hcell, hs, hcls, hlt, hty⟩ := Cond.laysStatic_spec hl
  cases hv : (Term.static C n d).eval args s none [] s with
  | none => simp [Cond.before, Cond.holds, Cond.value, hv] at h
  | some w =>
    obtain ⟨hst', a', cell', ha', hcell', -, hslot⟩ := Term.static_spec hi hv
    cases ha.symm.trans ha'
    cases hcell.symm.trans hcell'
    refine ⟨c, k, i, f, a, cell, w, hc, hi, hst, ha, hcell, hs, hcls, hlt, hty, hslot, ?_, hA a (Array.getElem?_eq_some_iff.mp hcell).1⟩
    simp only [Cond.before, Cond.holds, Cond.value, hv] at h
    cases w with
    | null => exact Or.inl rfl
    | ref t => exact Or.inr ⟨t, rfl⟩
    | _ => simp at h
theorem start_G {s : State} {args : Array Value} (hts : ∀ w ∈ lw_tbl, w.before args s = true) (hgv : (Jvm.Cond.and given_1 narrow_1).before args s = true) : ∃ G : GG, gK G s ∧ gZ G (fun q => s.heap.size ≤ q) s s.heap := by
  have htw : ∀ w ∈ wt, w.before args s = true := fun w h => hts w (List.mem_filter.mp h).1
  have hs := flat_of_before _ hgv
  have hA : ∀ a : Nat, a < s.heap.size → ¬ (fun q : Nat => s.heap.size ≤ q) a := fun a h => Nat.not_le.mpr h
  obtain ⟨c0, s0, k0⟩ := u_known htw i_SP (htw _ t_25)
  obtain ⟨c1, s1, k1⟩ := u_known htw i_Shape (htw _ t_451)
  obtain ⟨c2, s2, k2⟩ := u_known htw i_Body (htw _ t_153)
  obtain ⟨c3, s3, k3⟩ := u_known htw i_Part (htw _ t_589)
  obtain ⟨c4, s4, k4⟩ := u_known htw i_Run (htw _ t_116)
  obtain ⟨c5, s5, k5⟩ := u_known htw i_Mo (htw _ t_637)
  obtain ⟨c6, s6, k6⟩ := u_known htw i_AL (htw _ t_33)
  obtain ⟨c7, s7, k7⟩ := u_known htw i_BS (htw _ t_124)
  obtain ⟨a0, m0, e0, p0, q0, r0⟩ := Cond.arrayClass_spec (htw (Cond.arrayClass .int) t_146)
  obtain ⟨a1, m1, e1, p1, q1, r1⟩ := Cond.arrayClass_spec (htw (Cond.arrayClass .boolean) t_742)
  obtain ⟨a2, m2, e2, p2, q2, r2⟩ := Cond.arrayClass_spec (htw (Cond.arrayClass .long) t_147)
  obtain ⟨e3, a3, m3, o3, -, q3, r3, p3⟩ := Cond.arrayOver_spec (htw (Cond.arrayOver (.object "java/lang/Object")) t_105)
  have hel : ∀ j : Nat, j < 17 → (Term.elem (.static "SweptPaths" "COSINES" "[I") (.int (Int32.ofNat j))).eval args s none [] s = some (.int (cosT j)) := by
    intro j hj
    refine va_eqt ?_
    rcases (show j = 0 ∨ j = 1 ∨ j = 2 ∨ j = 3 ∨ j = 4 ∨ j = 5 ∨ j = 6 ∨ j = 7 ∨ j = 8 ∨ j = 9 ∨ j = 10 ∨ j = 11 ∨ j = 12 ∨ j = 13 ∨ j = 14 ∨ j = 15 ∨ j = 16 by omega) with h | h | h | h | h | h | h | h | h | h | h | h | h | h | h | h | h <;> (subst h; exact hs _ (by decide +kernel))
  obtain ⟨tc, htc, hTc⟩ := va_Tof (f := fun j => .int (cosT j)) (A := fun q => s.heap.size ≤ q) (N := 17) (by decide) (hs (Cond.arrayOf (.static "SweptPaths" "COSINES" "[I") .int) (by decide +kernel)) (va_eqt (hs (Cond.eq (.length (.static "SweptPaths" "COSINES" "[I")) (.int 17)) (by decide +kernel))) hel hA
  obtain ⟨te, hte, hTe⟩ := va_Tof (f := fun _ => Value.null) (A := fun q => s.heap.size ≤ q) (N := 0) (by decide) (hs (Cond.arrayOf (.static "java/util/ArrayList" "DEFAULTCAPACITY_EMPTY_ELEMENTDATA" "[Ljava/lang/Object;") (.object "java/lang/Object")) (by decide +kernel)) (va_eqt (hs (Cond.eq (.length (.static "java/util/ArrayList" "DEFAULTCAPACITY_EMPTY_ELEMENTDATA" "[Ljava/lang/Object;")) (.int 0)) (by decide +kernel))) (fun j hj => absurd hj (Nat.not_lt_zero _)) hA
  have l45 : (Cond.laysStatic "java/util/ArrayList" "DEFAULTCAPACITY_EMPTY_ELEMENTDATA" "[Ljava/lang/Object;").before args s = true := hts _ (List.mem_of_getElem? (i := 71) (by decide +kernel))
  have l212 : (Cond.laysStatic "SweptPaths" "COSINES" "[I").before args s = true := hts _ (List.mem_of_getElem? (i := 238) (by decide +kernel))
  have l264 : (Cond.laysStatic "java/util/BitSet" "$assertionsDisabled" "Z").before args s = true := hts _ (List.mem_of_getElem? (i := 290) (by decide +kernel))
  have l396 : (Cond.laysStatic "java/lang/Throwable" "UNASSIGNED_STACK" "[Ljava/lang/StackTraceElement;").before args s = true := hts _ (List.mem_of_getElem? (i := 422) (by decide +kernel))
  have l398 : (Cond.laysStatic "java/lang/Throwable" "SUPPRESSED_SENTINEL" "Ljava/util/List;").before args s = true := hts _ (List.mem_of_getElem? (i := 424) (by decide +kernel))
  refine ⟨((fun c => match c with | 0 => c0 | 1 => c1 | 2 => c2 | 3 => c3 | 4 => c4 | 5 => c5 | 6 => c6 | _ => c7, fun c => match c with | 0 => s0 | 1 => s1 | 2 => s2 | 3 => s3 | 4 => s4 | 5 => s5 | 6 => s6 | _ => s7), fun k => match k with | 0 => a0 | 1 => a1 | 2 => a2 | _ => a3, fun k => match k with | 0 => tc | _ => te), ⟨fun c q hq => ?_, fun k q hk => ?_⟩, ?_⟩
  · match c, hq with
    | 0, h => obtain rfl := Option.some.inj h; exact k0
    | 1, h => obtain rfl := Option.some.inj h; exact k1
    | 2, h => obtain rfl := Option.some.inj h; exact k2
    | 3, h => obtain rfl := Option.some.inj h; exact k3
    | 4, h => obtain rfl := Option.some.inj h; exact k4
    | 5, h => obtain rfl := Option.some.inj h; exact k5
    | 6, h => obtain rfl := Option.some.inj h; exact k6
    | 7, h => obtain rfl := Option.some.inj h; exact k7
    | n + 8, h => cases h
  · match k, hk with
    | 0, h => obtain rfl := Option.some.inj h; exact ⟨fun n z => ⟨fun k h => (by cases h), m0, q0, e0, r0⟩, p0⟩
    | 1, h => obtain rfl := Option.some.inj h; exact ⟨fun n z => ⟨fun k h => (by cases h), m1, q1, e1, r1⟩, p1⟩
    | 2, h => obtain rfl := Option.some.inj h; exact ⟨fun n z => ⟨fun k h => (by cases h), m2, q2, e2, r2⟩, p2⟩
    | 3, h => obtain rfl := Option.some.inj h; exact ⟨fun n z => ⟨fun k h => (by cases h), m3, q3, e3, r3⟩, m3, e3, q3, r3, o3, p3⟩
    | n + 4, h => cases h
  · refine ⟨va_Zof l212 (htw _ t_1) htc hA, hTc, va_Zof l264 (htw _ t_10) (va_eqt (hs (Cond.eq (.static "java/util/BitSet" "$assertionsDisabled" "Z") (.int 1)) (by decide +kernel))) hA, va_Zof l45 (htw _ t_4) hte hA, hTe, zL_of l396 (hs (Cond.isRef (.static "java/lang/Throwable" "UNASSIGNED_STACK" "[Ljava/lang/StackTraceElement;")) (by decide +kernel)) hA, zL_of l398 (hs (Cond.isRef (.static "java/lang/Throwable" "SUPPRESSED_SENTINEL" "Ljava/util/List;")) (by decide +kernel)) hA, ?_⟩
    intro c1 c2 h1 h2
    have h := hs (Cond.not (Cond.castable "java/lang/IllegalStateException" "java/lang/IllegalArgumentException")) (by decide +kernel)
    simpa [Cond.before, Cond.holds, Cond.value, h1, h2] using h
section XDR
variable {G : GG} {rb n : Nat} {md : Int32} {rd sd : Nat → Nat} {ms : Nat → Int32} {fl mn : Nat → Nat} {sc : Nat → Int32} {ar : Nat → Nat → Int32} {b : Bt} {w0 : WF} {ad : Nat → Nat} {sc2 : Nat → Int32} {ar2 : Nat → Nat → Int32}
theorem cW_drop {c : Option (Nat × va_E)} (hn : n ≤ 3) (hrb : 100 ≤ rb) : cW G rb n md rd sd ms fl mn sc ar b (va_up w0 0 c) = cW G rb n md rd sd ms fl mn sc ar b w0 := by
  funext k
  by_cases e : k = 0
  · subst e
    rw [cW, rW_0 (Or.inl (by omega)) hn, sp_0, cW, rW_0 (Or.inl (by omega)) hn, sp_0]
  · exact cW_bas2 (up_n _ _ e)
theorem mW_drop {c : Option (Nat × va_E)} : mW G ad (va_up w0 1000 c) sc2 ar2 = mW G ad w0 sc2 ar2 := mW_w0 _ (fun n h => up_n _ _ (by omega))
theorem oW_new {oa : Nat} {f : Nat → Int64} : va_up (fun _ => none) 500 (some (oa, .inl (G.2.1 2, 1, .inr (.inl f)))) = oW G oa f := by
  funext k
  by_cases e : k = 500
  · subst e; rw [up_s, oW_o]
  · rw [up_n _ _ e, oW_n e]
end XDR
