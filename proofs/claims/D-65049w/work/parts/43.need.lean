/-! need and may: they hold, or they throw. -/
section XN
variable {p : Program} {l : Launch} {e : Env} {R : Room} {s : State} {m : MethodId} {args : Array Value} {below : List Frame} {meth : Method} {c : Code} {cc : ByteArray} {pc : Nat} {ls : Array Slot} {nL : Nat} {own : String} {G : GG} {A : Nat → Prop} {rest : List Value}
theorem tr_off {l : Launch} {e : Env} (hf : l.flags = pinnedFlags ++ [noTraceFlag]) (ha : l.admits e) : e.platform.stackTraces = false := by
  have h5 := ha.2.2.2.2.1
  rw [h5]
  show l.stackTraces = false
  unfold Launch.stackTraces
  rw [hf]
  decide
theorem own_IAE (C : Cx p s m args meth c cc nL own G A) : ∀ a ∈ Bundle.ownAtoms0 "SweptPaths" 52 "java/lang/IllegalArgumentException" ["java/lang/RuntimeException", "java/lang/Exception"], a.before args s = true := by
  refine List.forall_mem_cons.mpr ⟨C.ts t_15, ?_⟩
  refine List.forall_mem_cons.mpr ⟨C.ts t_391, ?_⟩
  refine List.forall_mem_cons.mpr ⟨C.ts t_400, ?_⟩
  refine List.forall_mem_cons.mpr ⟨C.ts t_403, ?_⟩
  refine List.forall_mem_cons.mpr ⟨C.ts t_406, ?_⟩
  refine List.forall_mem_cons.mpr ⟨C.ts t_408, ?_⟩
  refine List.forall_mem_cons.mpr ⟨C.ts t_392, ?_⟩
  refine List.forall_mem_cons.mpr ⟨C.ts t_393, ?_⟩
  refine List.forall_mem_cons.mpr ⟨C.ts t_30, ?_⟩
  refine List.forall_mem_cons.mpr ⟨C.ts t_31, ?_⟩
  refine List.forall_mem_cons.mpr ⟨C.ts t_394, ?_⟩
  refine List.forall_mem_cons.mpr ⟨C.ts t_399, ?_⟩
  refine List.forall_mem_cons.mpr ⟨C.ts t_404, ?_⟩
  refine List.forall_mem_cons.mpr ⟨C.ts t_420, ?_⟩
  refine List.forall_mem_cons.mpr ⟨C.ts t_381, ?_⟩
  refine List.forall_mem_cons.mpr ⟨C.ts t_421, ?_⟩
  refine List.forall_mem_cons.mpr ⟨C.ts t_383, ?_⟩
  refine List.forall_mem_cons.mpr ⟨C.ts t_422, ?_⟩
  refine List.forall_mem_cons.mpr ⟨C.ts t_385, ?_⟩
  refine List.forall_mem_cons.mpr ⟨C.ts t_395, ?_⟩
  refine List.forall_mem_cons.mpr ⟨C.Z.2.2.2.2.2.1.lays, ?_⟩
  refine List.forall_mem_cons.mpr ⟨C.ts t_397, ?_⟩
  refine List.forall_mem_cons.mpr ⟨C.Z.2.2.2.2.2.2.1.lays, ?_⟩
  refine List.forall_mem_cons.mpr ⟨C.ts t_387, ?_⟩
  refine List.forall_mem_cons.mpr ⟨C.ts t_410, ?_⟩
  refine List.forall_mem_cons.mpr ⟨C.ts t_411, ?_⟩
  refine List.forall_mem_cons.mpr ⟨C.ts t_412, ?_⟩
  refine List.forall_mem_cons.mpr ⟨C.ts t_413, ?_⟩
  refine List.forall_mem_cons.mpr ⟨C.ts t_372, ?_⟩
  refine List.forall_mem_cons.mpr ⟨C.ts t_413, ?_⟩
  refine List.forall_mem_cons.mpr ⟨C.ts t_414, ?_⟩
  refine List.forall_mem_cons.mpr ⟨C.ts t_415, ?_⟩
  refine List.forall_mem_cons.mpr ⟨C.ts t_416, ?_⟩
  refine List.forall_mem_cons.mpr ⟨C.ts t_374, ?_⟩
  refine List.forall_mem_cons.mpr ⟨C.ts t_416, ?_⟩
  refine List.forall_mem_cons.mpr ⟨C.ts t_417, ?_⟩
  refine List.forall_mem_cons.mpr ⟨C.ts t_418, ?_⟩
  refine List.forall_mem_cons.mpr ⟨C.ts t_392, ?_⟩
  refine List.forall_mem_cons.mpr ⟨C.ts t_376, ?_⟩
  refine List.forall_mem_cons.mpr ⟨C.ts t_409, ?_⟩
  refine List.forall_mem_cons.mpr ⟨C.ts t_370, ?_⟩
  refine List.forall_mem_cons.mpr ⟨C.ts t_371, ?_⟩
  refine List.forall_mem_cons.mpr ⟨C.ts t_378, ?_⟩
  refine List.forall_mem_cons.mpr ⟨C.ts t_379, ?_⟩
  refine List.forall_mem_cons.mpr ⟨C.ts t_380, ?_⟩
  refine List.forall_mem_cons.mpr ⟨C.ts t_382, ?_⟩
  refine List.forall_mem_cons.mpr ⟨C.ts t_384, ?_⟩
  refine List.forall_mem_cons.mpr ⟨C.ts t_386, ?_⟩
  refine List.forall_mem_cons.mpr ⟨C.Z.2.2.2.2.2.1.isRef, ?_⟩
  refine List.forall_mem_cons.mpr ⟨C.Z.2.2.2.2.2.2.1.isRef, ?_⟩
  refine List.forall_mem_cons.mpr ⟨C.ts t_390, ?_⟩
  refine List.forall_mem_cons.mpr ⟨C.ts t_389, ?_⟩
  refine List.forall_mem_cons.mpr ⟨C.ts t_388, ?_⟩
  exact fun _ h => by cases h
theorem own_ISE (C : Cx p s m args meth c cc nL own G A) : ∀ a ∈ Bundle.ownAtoms0 "SweptPaths" 55 "java/lang/IllegalStateException" ["java/lang/RuntimeException", "java/lang/Exception"], a.before args s = true := by
  refine List.forall_mem_cons.mpr ⟨C.ts t_15, ?_⟩
  refine List.forall_mem_cons.mpr ⟨C.ts t_391, ?_⟩
  refine List.forall_mem_cons.mpr ⟨C.ts t_400, ?_⟩
  refine List.forall_mem_cons.mpr ⟨C.ts t_403, ?_⟩
  refine List.forall_mem_cons.mpr ⟨C.ts t_406, ?_⟩
  refine List.forall_mem_cons.mpr ⟨C.ts t_408, ?_⟩
  refine List.forall_mem_cons.mpr ⟨C.ts t_392, ?_⟩
  refine List.forall_mem_cons.mpr ⟨C.ts t_393, ?_⟩
  refine List.forall_mem_cons.mpr ⟨C.ts t_30, ?_⟩
  refine List.forall_mem_cons.mpr ⟨C.ts t_31, ?_⟩
  refine List.forall_mem_cons.mpr ⟨C.ts t_394, ?_⟩
  refine List.forall_mem_cons.mpr ⟨C.ts t_399, ?_⟩
  refine List.forall_mem_cons.mpr ⟨C.ts t_404, ?_⟩
  refine List.forall_mem_cons.mpr ⟨C.ts t_420, ?_⟩
  refine List.forall_mem_cons.mpr ⟨C.ts t_381, ?_⟩
  refine List.forall_mem_cons.mpr ⟨C.ts t_421, ?_⟩
  refine List.forall_mem_cons.mpr ⟨C.ts t_383, ?_⟩
  refine List.forall_mem_cons.mpr ⟨C.ts t_422, ?_⟩
  refine List.forall_mem_cons.mpr ⟨C.ts t_385, ?_⟩
  refine List.forall_mem_cons.mpr ⟨C.ts t_395, ?_⟩
  refine List.forall_mem_cons.mpr ⟨C.Z.2.2.2.2.2.1.lays, ?_⟩
  refine List.forall_mem_cons.mpr ⟨C.ts t_397, ?_⟩
  refine List.forall_mem_cons.mpr ⟨C.Z.2.2.2.2.2.2.1.lays, ?_⟩
  refine List.forall_mem_cons.mpr ⟨C.ts t_387, ?_⟩
  refine List.forall_mem_cons.mpr ⟨C.ts t_445, ?_⟩
  refine List.forall_mem_cons.mpr ⟨C.ts t_446, ?_⟩
  refine List.forall_mem_cons.mpr ⟨C.ts t_447, ?_⟩
  refine List.forall_mem_cons.mpr ⟨C.ts t_413, ?_⟩
  refine List.forall_mem_cons.mpr ⟨C.ts t_372, ?_⟩
  refine List.forall_mem_cons.mpr ⟨C.ts t_413, ?_⟩
  refine List.forall_mem_cons.mpr ⟨C.ts t_414, ?_⟩
  refine List.forall_mem_cons.mpr ⟨C.ts t_415, ?_⟩
  refine List.forall_mem_cons.mpr ⟨C.ts t_416, ?_⟩
  refine List.forall_mem_cons.mpr ⟨C.ts t_374, ?_⟩
  refine List.forall_mem_cons.mpr ⟨C.ts t_416, ?_⟩
  refine List.forall_mem_cons.mpr ⟨C.ts t_417, ?_⟩
  refine List.forall_mem_cons.mpr ⟨C.ts t_418, ?_⟩
  refine List.forall_mem_cons.mpr ⟨C.ts t_392, ?_⟩
  refine List.forall_mem_cons.mpr ⟨C.ts t_376, ?_⟩
  refine List.forall_mem_cons.mpr ⟨C.ts t_444, ?_⟩
  refine List.forall_mem_cons.mpr ⟨C.ts t_436, ?_⟩
  refine List.forall_mem_cons.mpr ⟨C.ts t_437, ?_⟩
  refine List.forall_mem_cons.mpr ⟨C.ts t_438, ?_⟩
  refine List.forall_mem_cons.mpr ⟨C.ts t_402, ?_⟩
  refine List.forall_mem_cons.mpr ⟨C.ts t_439, ?_⟩
  refine List.forall_mem_cons.mpr ⟨C.ts t_440, ?_⟩
  refine List.forall_mem_cons.mpr ⟨C.ts t_441, ?_⟩
  refine List.forall_mem_cons.mpr ⟨C.ts t_442, ?_⟩
  refine List.forall_mem_cons.mpr ⟨C.Z.2.2.2.2.2.1.isRef, ?_⟩
  refine List.forall_mem_cons.mpr ⟨C.Z.2.2.2.2.2.2.1.isRef, ?_⟩
  refine List.forall_mem_cons.mpr ⟨C.ts t_390, ?_⟩
  refine List.forall_mem_cons.mpr ⟨C.ts t_389, ?_⟩
  refine List.forall_mem_cons.mpr ⟨C.ts t_443, ?_⟩
  exact fun _ h => by cases h
/-- 'throw new X()', in a method that has written nothing and catches nothing -/
theorem t_new {X : String} {ix ic : Nat} (C : Cx p s m args meth c cc nL "SweptPaths" G A) (hfl : l.flags = pinnedFlags ++ [noTraceFlag]) (hno : c.exceptionTable.isEmpty = true) (hX : Bundle.fit X = true) (hat : ∀ a ∈ Bundle.ownAtoms0 "SweptPaths" ic X ["java/lang/RuntimeException", "java/lang/Exception"], a.before args s = true)
    (hcl : Cond.classLink "SweptPaths" ix X ∈ wt) (hinst : Cond.instantiable X 6 ∈ wt) (hini : Cond.initialized X ∈ wt) (hls : ls.size = nL) (hc1 : 1 ≤ R.cells) (hs6 : 6 ≤ R.slots) (hfr : 5 < R.frames) (hlo : 81 ≤ R.locals)
    (d0 : decode cc pc = .ok (.new ix, 3)) (d1 : decode cc (pc + 3) = .ok (.dup, 1)) (d2 : decode cc (pc + 4) = .ok (.invokespecial ic, 3)) (d3 : decode cc (pc + 7) = .ok (.athrow, 1)) :
    W p l e R s m args below meth c s.heap [] 0 0 (MQT below (QtE X) args s 1 6) (F0 m pc ls []) := by
  obtain ⟨cX, kX0, f1, f2, -⟩ := Cond.instantiable_spec (C.ts hinst)
  refine W.newcK C.1 C.2.1 C.2.2.2.1 (C.ts hcl) (C.ts hinst) (C.ts hini) rfl d0 (by omega) (by omega) f1 rfl fun H1 kX hkX e1 z1 o1 => ?_
  refine lv_dup C.1 C.2.1 d1 (va := .ref s.heap.size) rfl ?_
  intro T hT S
  have hlk := C.lk
  have hb := C.2.1
  obtain ⟨U, st, hrun, hend, hW, hsame, ce, hce, hown⟩ := S.ctorThrow0 C.1 (tr_off hfl S.admits) C.2.2.2.1 hX (by intro n hn; simp at hn; rcases hn with rfl | rfl <;> decide) hat (fun x hx => by cases hx) f1 hkX (a := s.heap.size) (by rw [hT]; exact e1) (Nat.le_refl _) (g := F0 m (pc + 3 + 1) ls [.ref s.heap.size, .ref s.heap.size]) rfl (by show ls.size = _; rw [C.2.2.1]; exact hls) rfl rfl (rest := []) rfl (by rw [hb]; exact d2) (by rw [hb]; exact d3)
    (fun y hy => by
      have : c.exceptionTable.toList = [] := by simpa using hno
      rw [this] at hy; cases hy) (by show 2 + 3 < _; omega) (by show 2 * 0 + 1 + (13 * (2 + 1) + 41) ≤ _; omega) hlk
  have hz : ({ U with vm := s.vm } : State).heap = U.heap := rfl
  refine ⟨U, st, s.heap.size, hrun, hend, ⟨hsame.2.1, fun q hq => same_kept hsame hq, ce, hce, (fun k => by rw [hown.vm]; intro z; cases z), hown.cls⟩, hW, hsame⟩
end XN
/-- a throwing method's contract out of its walk -/
theorem th_of {l : Launch} {y : MethodName} {rm : Room} {cc : ByteArray} {maxL mc ms : Nat} {ret : Option FieldType} {Qt : Array Value → State → Addr → State → Prop} {G : GG} {w : WF} {av : List Value} (hy : plainName y.cls = true) (hlen : (lg_sl av).length ≤ maxL)
    (body : ∀ p e s m below meth c (ls : Array Slot), Cx p s m av.toArray meth c cc maxL y.cls G (fun _ => False) → wP G w s.heap → c.exceptionTable.isEmpty = true → lv_has ls maxL (lv_args 0 av) →
      W p l e rm s m av.toArray below meth c s.heap [] 0 0 (MQT below Qt av.toArray s mc ms) (F0 m 0 ls [])) : MetT l y (Cond.code y cc maxL ret :: wt) rm (Pro G w av) Qt mc ms := by
  refine MetT.ofW (cc := cc) (maxL := maxL) (ret := ret) hy rfl ?_
  intro p e s m args below meth c s₁ B hml hno hv
  obtain ⟨rfl, hP, hK, hZ⟩ := hv
  have hts := atoms_spec (ws := Cond.code y cc maxL ret :: wt) B.pre
  have hl := lv_entry av (n := maxL) hlen
  rw [lg_entry_eq]
  generalize (lg_sl av ++ List.replicate (maxL - (lg_sl av).length) Slot.unset).toArray = ls at hl ⊢
  exact body p e s m below meth c ls ⟨B.exec, B.bytes, hml, findClass_of_methodNamed B.named, fun w h => hts w (List.mem_cons_of_mem _ h), hK, hZ, B.notSynchronized⟩ hP hno hl
theorem b_SP_need_0_1 : decs prog_1_method_4_code [(.iload_n 0, 1)] 0 1 = true := by decide +kernel
theorem d_SP_need_1 : decode prog_1_method_4_code 1 = .ok (.ifCond .ne 11, 3) := by decide +kernel
theorem d_SP_need_12 : decode prog_1_method_4_code 12 = .ok (.return_, 1) := by decide +kernel
set_option maxRecDepth 100000 in
theorem c_SP_need (l : Launch) (G : GG) (w : WF)  : Met l y_SP_need (Cond.code y_SP_need prog_1_method_4_code 1 none :: wt) { frames := 0, cells := 0, slots := 0, locals := 0 } (Pro G w [.int 1]) (Qrv) 0 0 (fun _ => False) := by
  refine ro_of (by decide +kernel) (Nat.le_of_ble_eq_true rfl) ?_
  intro p e s m below meth c ls C hP hr hl
  have hl : lv_has ls 1 [(0, .int 1)] := hl
  refine x_sx C b_SP_need_0_1 hl (L' := [(0, .int 1)]) (st' := [.int 1]) rfl (fun ls hl => ?_)
  refine lv_if_ne (tgt := 12) C.1 C.2.1 d_SP_need_1 (by decide) (fun _ => ?_) (fun h => absurd h (show ¬ (1 : Int32) = 0 by decide))
  exact x_vro C hr d_SP_need_12
theorem hd_SP_need : hdP y_SP_need 1 := ⟨by decide +kernel, by decide +kernel, by decide +kernel⟩
theorem d_SP_need_4 : decode prog_1_method_4_code 4 = .ok (.new 50, 3) := by decide +kernel
theorem d_SP_need_7 : decode prog_1_method_4_code 7 = .ok (.dup, 1) := by decide +kernel
theorem d_SP_need_8 : decode prog_1_method_4_code 8 = .ok (.invokespecial 52, 3) := by decide +kernel
theorem d_SP_need_11 : decode prog_1_method_4_code 11 = .ok (.athrow, 1) := by decide +kernel
set_option maxRecDepth 100000 in
theorem c_SP_need_t (l : Launch) (G : GG) (w : WF) (hfl : l.flags = pinnedFlags ++ [noTraceFlag]) : MetT l y_SP_need (Cond.code y_SP_need prog_1_method_4_code 1 none :: wt) { frames := 6, cells := 1, slots := 6, locals := 90 } (Pro G w [.int 0]) (QtE "java/lang/IllegalArgumentException") 1 6 := by
  refine th_of (by decide +kernel) (Nat.le_of_ble_eq_true rfl) ?_
  intro p e s m below meth c ls C hP hno hl
  have hl : lv_has ls 1 [(0, .int 0)] := hl
  refine x_sx C b_SP_need_0_1 hl (L' := [(0, .int 0)]) (st' := [.int 0]) rfl (fun ls hl => ?_)
  refine lv_if_ne (tgt := 12) C.1 C.2.1 d_SP_need_1 (by decide) (fun h => absurd (show (0 : Int32) = 0 from rfl) h) (fun _ => ?_)
  exact t_new C hfl hno (by decide) (own_IAE C) t_369 t_370 t_18 hl.1 (Nat.le_of_ble_eq_true rfl) (Nat.le_of_ble_eq_true rfl) (Nat.le_of_ble_eq_true rfl) (Nat.le_of_ble_eq_true rfl) d_SP_need_4 d_SP_need_7 d_SP_need_8 d_SP_need_11
theorem b_SP_may_0_1 : decs prog_1_method_5_code [(.iload_n 0, 1)] 0 1 = true := by decide +kernel
theorem d_SP_may_1 : decode prog_1_method_5_code 1 = .ok (.ifCond .ne 11, 3) := by decide +kernel
theorem d_SP_may_12 : decode prog_1_method_5_code 12 = .ok (.return_, 1) := by decide +kernel
set_option maxRecDepth 100000 in
theorem c_SP_may (l : Launch) (G : GG) (w : WF)  : Met l y_SP_may (Cond.code y_SP_may prog_1_method_5_code 1 none :: wt) { frames := 0, cells := 0, slots := 0, locals := 0 } (Pro G w [.int 1]) (Qrv) 0 0 (fun _ => False) := by
  refine ro_of (by decide +kernel) (Nat.le_of_ble_eq_true rfl) ?_
  intro p e s m below meth c ls C hP hr hl
  have hl : lv_has ls 1 [(0, .int 1)] := hl
  refine x_sx C b_SP_may_0_1 hl (L' := [(0, .int 1)]) (st' := [.int 1]) rfl (fun ls hl => ?_)
  refine lv_if_ne (tgt := 12) C.1 C.2.1 d_SP_may_1 (by decide) (fun _ => ?_) (fun h => absurd h (show ¬ (1 : Int32) = 0 by decide))
  exact x_vro C hr d_SP_may_12
theorem hd_SP_may : hdP y_SP_may 1 := ⟨by decide +kernel, by decide +kernel, by decide +kernel⟩
theorem d_SP_may_4 : decode prog_1_method_5_code 4 = .ok (.new 53, 3) := by decide +kernel
theorem d_SP_may_7 : decode prog_1_method_5_code 7 = .ok (.dup, 1) := by decide +kernel
theorem d_SP_may_8 : decode prog_1_method_5_code 8 = .ok (.invokespecial 55, 3) := by decide +kernel
theorem d_SP_may_11 : decode prog_1_method_5_code 11 = .ok (.athrow, 1) := by decide +kernel
set_option maxRecDepth 100000 in
theorem c_SP_may_t (l : Launch) (G : GG) (w : WF) (hfl : l.flags = pinnedFlags ++ [noTraceFlag]) : MetT l y_SP_may (Cond.code y_SP_may prog_1_method_5_code 1 none :: wt) { frames := 6, cells := 1, slots := 6, locals := 90 } (Pro G w [.int 0]) (QtE "java/lang/IllegalStateException") 1 6 := by
  refine th_of (by decide +kernel) (Nat.le_of_ble_eq_true rfl) ?_
  intro p e s m below meth c ls C hP hno hl
  have hl : lv_has ls 1 [(0, .int 0)] := hl
  refine x_sx C b_SP_may_0_1 hl (L' := [(0, .int 0)]) (st' := [.int 0]) rfl (fun ls hl => ?_)
  refine lv_if_ne (tgt := 12) C.1 C.2.1 d_SP_may_1 (by decide) (fun h => absurd (show (0 : Int32) = 0 from rfl) h) (fun _ => ?_)
  exact t_new C hfl hno (by decide) (own_ISE C) t_435 t_436 t_19 hl.1 (Nat.le_of_ble_eq_true rfl) (Nat.le_of_ble_eq_true rfl) (Nat.le_of_ble_eq_true rfl) (Nat.le_of_ble_eq_true rfl) d_SP_may_4 d_SP_may_7 d_SP_may_8 d_SP_may_11
