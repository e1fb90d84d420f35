/-! The JDK's methods that read alone. -/
/-- the same for a member of a class some of whose members the machine has entries for -/
theorem ro_ofF {l : Launch} {y : MethodName} {rm : Room} {cc : ByteArray} {maxL mc ms : Nat} {ret : Option FieldType} {Qc : Array Value → State → Outcome → State → Prop} {free : Addr → Prop} {G : GG} {w : WF} {av : List Value} (hy : plainFor y = true) (hlen : (lg_sl av).length ≤ maxL)
    (body : ∀ p e s m below meth c (ls : Array Slot), Cx p s m av.toArray meth c cc maxL y.cls G (fun _ => False) → wP G w s.heap → meth.sig.returnType = ret → lv_has ls maxL (lv_args 0 av) →
      W p l e rm s m av.toArray below meth c s.heap [] 0 0 (MQ below Qc av.toArray s mc ms free) (F0 m 0 ls [])) : Met l y (Cond.code y cc maxL ret :: wt) rm (Pro G w av) Qc mc ms free := by
  refine va_MetF (cc := cc) (maxL := maxL) (ret := ret) hy rfl ?_
  intro p e s m args below meth c s₁ B hml hv
  obtain ⟨rfl, hP, hK, hZ⟩ := hv
  have hts := atoms_spec (ws := Cond.code y cc maxL ret :: wt) B.pre
  have hl := lv_entry av (n := maxL) hlen
  rw [lg_entry_eq]
  generalize (lg_sl av ++ List.replicate (maxL - (lg_sl av).length) Slot.unset).toArray = ls at hl ⊢
  exact body p e s m below meth c ls ⟨B.exec, B.bytes, hml, findClass_of_methodNamed B.named, fun w h => hts w (List.mem_cons_of_mem _ h), hK, hZ, B.notSynchronized⟩ hP B.returns hl
def p_max (a b : Int32) : Int32 := if a < b then b else a
def p_min (a b : Int32) : Int32 := if b < a then b else a
def p_abs (a : Int32) : Int32 := if 0 ≤ a then a else -a
def p_fd (a b : Int32) : Int32 := if a ^^^ b < 0 ∧ ¬ a / b * b = a then a / b - 1 else a / b
def bc1 (x : Int64) : Int64 := x - ((x.toUInt64 >>> ((1 : Int32).toInt64.toUInt64 &&& Int64.toUInt64 63)).toInt64 &&& 6148914691236517205)
def bc2 (x : Int64) : Int64 := (x &&& 3689348814741910323) + ((x.toUInt64 >>> ((2 : Int32).toInt64.toUInt64 &&& Int64.toUInt64 63)).toInt64 &&& 3689348814741910323)
def bc3 (x : Int64) : Int64 := (x + (x.toUInt64 >>> ((4 : Int32).toInt64.toUInt64 &&& Int64.toUInt64 63)).toInt64) &&& 1085102592571150095
def bc4 (x : Int64) : Int64 := x + (x.toUInt64 >>> ((8 : Int32).toInt64.toUInt64 &&& Int64.toUInt64 63)).toInt64
def bc5 (x : Int64) : Int64 := x + (x.toUInt64 >>> ((16 : Int32).toInt64.toUInt64 &&& Int64.toUInt64 63)).toInt64
def bc6 (x : Int64) : Int64 := x + (x.toUInt64 >>> ((32 : Int32).toInt64.toUInt64 &&& Int64.toUInt64 63)).toInt64
/-- how many bits are set, as Long.bitCount reckons it -/
def p_bc (x : Int64) : Int32 := (bc6 (bc5 (bc4 (bc3 (bc2 (bc1 x)))))).toInt32 &&& 127
theorem shr6 {t : Nat} (h : t < 2 ^ 31) : nI t >>> ((6 : Int32) &&& 31) = nI (t / 64) := pk_shrN h _ 6 (by decide)
theorem b_Math_max_0_2 : decs prog_15_method_65_code [(.iload_n 0, 1), (.iload_n 1, 1)] 0 2 = true := by decide +kernel
theorem d_Math_max_2 : decode prog_15_method_65_code 2 = .ok (.if_icmp .lt 7, 3) := by decide +kernel
theorem b_Math_max_9_10 : decs prog_15_method_65_code [(.iload_n 1, 1)] 9 10 = true := by decide +kernel
theorem d_Math_max_10 : decode prog_15_method_65_code 10 = .ok (.ireturn, 1) := by decide +kernel
theorem b_Math_max_5_6 : decs prog_15_method_65_code [(.iload_n 0, 1)] 5 6 = true := by decide +kernel
theorem d_Math_max_6 : decode prog_15_method_65_code 6 = .ok (.goto 4, 3) := by decide +kernel
set_option maxRecDepth 100000 in
theorem c_Math_max (l : Launch) (G : GG) (w : WF) (a b : Int32) : Met l y_Math_max (Cond.code y_Math_max prog_15_method_65_code 2 (some FieldType.int) :: wt) { frames := 0, cells := 0, slots := 0, locals := 0 } (Pro G w [.int a, .int b]) (Qro (.int (p_max a b))) 0 0 (fun _ => False) := by
  refine ro_ofF (by decide +kernel) (Nat.le_of_ble_eq_true rfl) ?_
  intro p e s m below meth c ls C hP hr hl
  have hl : lv_has ls 2 [(0, .int a), (1, .int b)] := hl
  refine x_sx C b_Math_max_0_2 hl (L' := [(0, .int a), (1, .int b)]) (st' := [.int b, .int a]) rfl (fun ls hl => ?_)
  refine lv_icmp_lt (tgt := 9) C.1 C.2.1 d_Math_max_2 (by decide) (fun h1 => ?_) (fun h1 => ?_)
  · refine x_sx C b_Math_max_9_10 hl (L' := [(0, .int a), (1, .int b)]) (st' := [.int b]) rfl (fun ls hl => ?_)
    exact x_iro C hr (by unfold p_max; simp [h1]) d_Math_max_10
  · refine x_sx C b_Math_max_5_6 hl (L' := [(0, .int a), (1, .int b)]) (st' := [.int a]) rfl (fun ls hl => ?_)
    refine x_goto (tgt := 10) C d_Math_max_6 (by decide) ?_
    exact x_iro C hr (by unfold p_max; simp [h1]) d_Math_max_10
theorem hd_Math_max : hdP y_Math_max 2 := ⟨by decide +kernel, by decide +kernel, by decide +kernel⟩
theorem b_Math_min_0_2 : decs prog_15_method_69_code [(.iload_n 0, 1), (.iload_n 1, 1)] 0 2 = true := by decide +kernel
theorem d_Math_min_2 : decode prog_15_method_69_code 2 = .ok (.if_icmp .gt 7, 3) := by decide +kernel
theorem b_Math_min_9_10 : decs prog_15_method_69_code [(.iload_n 1, 1)] 9 10 = true := by decide +kernel
theorem d_Math_min_10 : decode prog_15_method_69_code 10 = .ok (.ireturn, 1) := by decide +kernel
theorem b_Math_min_5_6 : decs prog_15_method_69_code [(.iload_n 0, 1)] 5 6 = true := by decide +kernel
theorem d_Math_min_6 : decode prog_15_method_69_code 6 = .ok (.goto 4, 3) := by decide +kernel
set_option maxRecDepth 100000 in
theorem c_Math_min (l : Launch) (G : GG) (w : WF) (a b : Int32) : Met l y_Math_min (Cond.code y_Math_min prog_15_method_69_code 2 (some FieldType.int) :: wt) { frames := 0, cells := 0, slots := 0, locals := 0 } (Pro G w [.int a, .int b]) (Qro (.int (p_min a b))) 0 0 (fun _ => False) := by
  refine ro_ofF (by decide +kernel) (Nat.le_of_ble_eq_true rfl) ?_
  intro p e s m below meth c ls C hP hr hl
  have hl : lv_has ls 2 [(0, .int a), (1, .int b)] := hl
  refine x_sx C b_Math_min_0_2 hl (L' := [(0, .int a), (1, .int b)]) (st' := [.int b, .int a]) rfl (fun ls hl => ?_)
  refine lv_icmp_gt (tgt := 9) C.1 C.2.1 d_Math_min_2 (by decide) (fun h1 => ?_) (fun h1 => ?_)
  · refine x_sx C b_Math_min_9_10 hl (L' := [(0, .int a), (1, .int b)]) (st' := [.int b]) rfl (fun ls hl => ?_)
    exact x_iro C hr (by unfold p_min; simp [h1]) d_Math_min_10
  · refine x_sx C b_Math_min_5_6 hl (L' := [(0, .int a), (1, .int b)]) (st' := [.int a]) rfl (fun ls hl => ?_)
    refine x_goto (tgt := 10) C d_Math_min_6 (by decide) ?_
    exact x_iro C hr (by unfold p_min; simp [h1]) d_Math_min_10
theorem hd_Math_min : hdP y_Math_min 2 := ⟨by decide +kernel, by decide +kernel, by decide +kernel⟩
theorem b_Math_abs_0_1 : decs prog_15_method_59_code [(.iload_n 0, 1)] 0 1 = true := by decide +kernel
theorem d_Math_abs_1 : decode prog_15_method_59_code 1 = .ok (.ifCond .ge 8, 3) := by decide +kernel
theorem b_Math_abs_9_10 : decs prog_15_method_59_code [(.iload_n 0, 1)] 9 10 = true := by decide +kernel
theorem d_Math_abs_10 : decode prog_15_method_59_code 10 = .ok (.ireturn, 1) := by decide +kernel
theorem b_Math_abs_4_6 : decs prog_15_method_59_code [(.iload_n 0, 1), (.ineg, 1)] 4 6 = true := by decide +kernel
theorem d_Math_abs_6 : decode prog_15_method_59_code 6 = .ok (.goto 4, 3) := by decide +kernel
set_option maxRecDepth 100000 in
theorem c_Math_abs (l : Launch) (G : GG) (w : WF) (a : Int32) : Met l y_Math_abs (Cond.code y_Math_abs prog_15_method_59_code 1 (some FieldType.int) :: wt) { frames := 0, cells := 0, slots := 0, locals := 0 } (Pro G w [.int a]) (Qro (.int (p_abs a))) 0 0 (fun _ => False) := by
  refine ro_ofF (by decide +kernel) (Nat.le_of_ble_eq_true rfl) ?_
  intro p e s m below meth c ls C hP hr hl
  have hl : lv_has ls 1 [(0, .int a)] := hl
  refine x_sx C b_Math_abs_0_1 hl (L' := [(0, .int a)]) (st' := [.int a]) rfl (fun ls hl => ?_)
  refine lv_if_ge (tgt := 9) C.1 C.2.1 d_Math_abs_1 (by decide) (fun h1 => ?_) (fun h1 => ?_)
  · refine x_sx C b_Math_abs_9_10 hl (L' := [(0, .int a)]) (st' := [.int a]) rfl (fun ls hl => ?_)
    exact x_iro C hr (by unfold p_abs; simp [h1]) d_Math_abs_10
  · refine x_sx C b_Math_abs_4_6 hl (L' := [(0, .int a)]) (st' := [.int (-a)]) rfl (fun ls hl => ?_)
    refine x_goto (tgt := 10) C d_Math_abs_6 (by decide) ?_
    exact x_iro C hr (by unfold p_abs; simp [h1]) d_Math_abs_10
theorem hd_Math_abs : hdP y_Math_abs 1 := ⟨by decide +kernel, by decide +kernel, by decide +kernel⟩
theorem b_Math_floorDiv_0_2 : decs prog_15_method_47_code [(.iload_n 0, 1), (.iload_n 1, 1)] 0 2 = true := by decide +kernel
theorem d_Math_floorDiv_2 : decode prog_15_method_47_code 2 = .ok (.idiv, 1) := by decide +kernel
theorem b_Math_floorDiv_3_7 : decs prog_15_method_47_code [(.istore_n 2, 1), (.iload_n 0, 1), (.iload_n 1, 1), (.ixor, 1)] 3 7 = true := by decide +kernel
theorem d_Math_floorDiv_7 : decode prog_15_method_47_code 7 = .ok (.ifCond .ge 14, 3) := by decide +kernel
theorem b_Math_floorDiv_21_22 : decs prog_15_method_47_code [(.iload_n 2, 1)] 21 22 = true := by decide +kernel
theorem d_Math_floorDiv_22 : decode prog_15_method_47_code 22 = .ok (.ireturn, 1) := by decide +kernel
theorem b_Math_floorDiv_10_14 : decs prog_15_method_47_code [(.iload_n 2, 1), (.iload_n 1, 1), (.imul, 1), (.iload_n 0, 1)] 10 14 = true := by decide +kernel
theorem d_Math_floorDiv_14 : decode prog_15_method_47_code 14 = .ok (.if_icmp .eq 7, 3) := by decide +kernel
theorem b_Math_floorDiv_17_20 : decs prog_15_method_47_code [(.iload_n 2, 1), (.iconst 1, 1), (.isub, 1)] 17 20 = true := by decide +kernel
theorem d_Math_floorDiv_20 : decode prog_15_method_47_code 20 = .ok (.ireturn, 1) := by decide +kernel
set_option maxRecDepth 100000 in
theorem c_Math_floorDiv (l : Launch) (G : GG) (w : WF) (a b : Int32) (hb : ¬ b = 0) : Met l y_Math_floorDiv (Cond.code y_Math_floorDiv prog_15_method_47_code 3 (some FieldType.int) :: wt) { frames := 0, cells := 0, slots := 0, locals := 0 } (Pro G w [.int a, .int b]) (Qro (.int (p_fd a b))) 0 0 (fun _ => False) := by
  refine ro_ofF (by decide +kernel) (Nat.le_of_ble_eq_true rfl) ?_
  intro p e s m below meth c ls C hP hr hl
  have hl : lv_has ls 3 [(0, .int a), (1, .int b)] := hl
  refine x_sx C b_Math_floorDiv_0_2 hl (L' := [(0, .int a), (1, .int b)]) (st' := [.int b, .int a]) rfl (fun ls hl => ?_)
  refine lv_idiv C.1 C.2.1 d_Math_floorDiv_2 hb ?_
  refine x_sx C b_Math_floorDiv_3_7 hl (L' := [(2, .int (a / b)), (0, .int a), (1, .int b)]) (st' := [.int (a ^^^ b)]) rfl (fun ls hl => ?_)
  refine lv_if_ge (tgt := 21) C.1 C.2.1 d_Math_floorDiv_7 (by decide) (fun h1 => ?_) (fun h1 => ?_)
  · refine x_sx C b_Math_floorDiv_21_22 hl (L' := [(2, .int (a / b)), (0, .int a), (1, .int b)]) (st' := [.int (a / b)]) rfl (fun ls hl => ?_)
    exact x_iro C hr (if_neg (fun y => absurd y.1 (Int32.not_lt.mpr h1))).symm d_Math_floorDiv_22
  · refine x_sx C b_Math_floorDiv_10_14 hl (L' := [(2, .int (a / b)), (0, .int a), (1, .int b)]) (st' := [.int a, .int ((a / b) * b)]) rfl (fun ls hl => ?_)
    refine lv_icmp_eq (tgt := 21) C.1 C.2.1 d_Math_floorDiv_14 (by decide) (fun h2 => ?_) (fun h2 => ?_)
    · refine x_sx C b_Math_floorDiv_21_22 hl (L' := [(2, .int (a / b)), (0, .int a), (1, .int b)]) (st' := [.int (a / b)]) rfl (fun ls hl => ?_)
      exact x_iro C hr (if_neg (fun y => y.2 h2)).symm d_Math_floorDiv_22
    · refine x_sx C b_Math_floorDiv_17_20 hl (L' := [(2, .int (a / b)), (0, .int a), (1, .int b)]) (st' := [.int ((a / b) - 1)]) rfl (fun ls hl => ?_)
      exact x_iro C hr (if_pos ⟨Int32.not_le.mp h1, h2⟩).symm d_Math_floorDiv_20
theorem hd_Math_floorDiv : hdP y_Math_floorDiv 2 := ⟨by decide +kernel, by decide +kernel, by decide +kernel⟩
theorem b_Long_bitCount_0_4 : decs prog_14_method_50_code [(.lload_n 0, 1), (.lload_n 0, 1), (.iconst 1, 1), (.lushr, 1)] 0 4 = true := by decide +kernel
theorem d_Long_bitCount_4 : decode prog_14_method_50_code 4 = .ok (.ldc2_w 314, 3) := by decide +kernel
theorem b_Long_bitCount_7_11 : decs prog_14_method_50_code [(.land, 1), (.lsub, 1), (.lstore_n 0, 1), (.lload_n 0, 1)] 7 11 = true := by decide +kernel
theorem d_Long_bitCount_11 : decode prog_14_method_50_code 11 = .ok (.ldc2_w 316, 3) := by decide +kernel
theorem b_Long_bitCount_14_18 : decs prog_14_method_50_code [(.land, 1), (.lload_n 0, 1), (.iconst 2, 1), (.lushr, 1)] 14 18 = true := by decide +kernel
theorem d_Long_bitCount_18 : decode prog_14_method_50_code 18 = .ok (.ldc2_w 316, 3) := by decide +kernel
theorem b_Long_bitCount_21_29 : decs prog_14_method_50_code [(.land, 1), (.ladd, 1), (.lstore_n 0, 1), (.lload_n 0, 1), (.lload_n 0, 1), (.iconst 4, 1), (.lushr, 1), (.ladd, 1)] 21 29 = true := by decide +kernel
theorem d_Long_bitCount_29 : decode prog_14_method_50_code 29 = .ok (.ldc2_w 318, 3) := by decide +kernel
theorem b_Long_bitCount_32_60 : decs prog_14_method_50_code [(.land, 1), (.lstore_n 0, 1), (.lload_n 0, 1), (.lload_n 0, 1), (.bipush 8, 2), (.lushr, 1), (.ladd, 1), (.lstore_n 0, 1), (.lload_n 0, 1), (.lload_n 0, 1), (.bipush 16, 2), (.lushr, 1), (.ladd, 1), (.lstore_n 0, 1), (.lload_n 0, 1), (.lload_n 0, 1), (.bipush 32, 2), (.lushr, 1), (.ladd, 1), (.lstore_n 0, 1), (.lload_n 0, 1), (.l2i, 1), (.bipush 127, 2), (.iand, 1)] 32 60 = true := by decide +kernel
theorem d_Long_bitCount_60 : decode prog_14_method_50_code 60 = .ok (.ireturn, 1) := by decide +kernel
set_option maxRecDepth 100000 in
theorem c_Long_bitCount (l : Launch) (G : GG) (w : WF) (x : Int64) : Met l y_Long_bitCount (Cond.code y_Long_bitCount prog_14_method_50_code 2 (some FieldType.int) :: wt) { frames := 0, cells := 0, slots := 0, locals := 0 } (Pro G w [.long x]) (Qro (.int (p_bc x))) 0 0 (fun _ => False) := by
  refine ro_of (by decide +kernel) (Nat.le_of_ble_eq_true rfl) ?_
  intro p e s m below meth c ls C hP hr hl
  have hl : lv_has ls 2 [(0, .long x)] := hl
  refine x_sx C b_Long_bitCount_0_4 hl (L' := [(0, .long x)]) (st' := [.long (x.toUInt64 >>> ((1 : Int32).toInt64.toUInt64 &&& Int64.toUInt64 63)).toInt64, .long x]) rfl (fun ls hl => ?_)
  refine lv_ldc2 C.1 C.2.1 C.2.2.2.1 (C.ts t_347) d_Long_bitCount_4 ?_
  refine x_sx C b_Long_bitCount_7_11 hl (L' := [(0, .long (x - ((x.toUInt64 >>> ((1 : Int32).toInt64.toUInt64 &&& Int64.toUInt64 63)).toInt64 &&& 6148914691236517205)))]) (st' := [.long (x - ((x.toUInt64 >>> ((1 : Int32).toInt64.toUInt64 &&& Int64.toUInt64 63)).toInt64 &&& 6148914691236517205))]) rfl (fun ls hl => ?_)
  refine lv_ldc2 C.1 C.2.1 C.2.2.2.1 (C.ts t_348) d_Long_bitCount_11 ?_
  refine x_sx C b_Long_bitCount_14_18 hl (L' := [(0, .long (x - ((x.toUInt64 >>> ((1 : Int32).toInt64.toUInt64 &&& Int64.toUInt64 63)).toInt64 &&& 6148914691236517205)))]) (st' := [.long ((x - ((x.toUInt64 >>> ((1 : Int32).toInt64.toUInt64 &&& Int64.toUInt64 63)).toInt64 &&& 6148914691236517205)).toUInt64 >>> ((2 : Int32).toInt64.toUInt64 &&& Int64.toUInt64 63)).toInt64, .long ((x - ((x.toUInt64 >>> ((1 : Int32).toInt64.toUInt64 &&& Int64.toUInt64 63)).toInt64 &&& 6148914691236517205)) &&& 3689348814741910323)]) rfl (fun ls hl => ?_)
  refine lv_ldc2 C.1 C.2.1 C.2.2.2.1 (C.ts t_348) d_Long_bitCount_18 ?_
  refine x_sx C b_Long_bitCount_21_29 hl (L' := [(0, .long (((x - ((x.toUInt64 >>> ((1 : Int32).toInt64.toUInt64 &&& Int64.toUInt64 63)).toInt64 &&& 6148914691236517205)) &&& 3689348814741910323) + (((x - ((x.toUInt64 >>> ((1 : Int32).toInt64.toUInt64 &&& Int64.toUInt64 63)).toInt64 &&& 6148914691236517205)).toUInt64 >>> ((2 : Int32).toInt64.toUInt64 &&& Int64.toUInt64 63)).toInt64 &&& 3689348814741910323)))]) (st' := [.long ((((x - ((x.toUInt64 >>> ((1 : Int32).toInt64.toUInt64 &&& Int64.toUInt64 63)).toInt64 &&& 6148914691236517205)) &&& 3689348814741910323) + (((x - ((x.toUInt64 >>> ((1 : Int32).toInt64.toUInt64 &&& Int64.toUInt64 63)).toInt64 &&& 6148914691236517205)).toUInt64 >>> ((2 : Int32).toInt64.toUInt64 &&& Int64.toUInt64 63)).toInt64 &&& 3689348814741910323)) + ((((x - ((x.toUInt64 >>> ((1 : Int32).toInt64.toUInt64 &&& Int64.toUInt64 63)).toInt64 &&& 6148914691236517205)) &&& 3689348814741910323) + (((x - ((x.toUInt64 >>> ((1 : Int32).toInt64.toUInt64 &&& Int64.toUInt64 63)).toInt64 &&& 6148914691236517205)).toUInt64 >>> ((2 : Int32).toInt64.toUInt64 &&& Int64.toUInt64 63)).toInt64 &&& 3689348814741910323)).toUInt64 >>> ((4 : Int32).toInt64.toUInt64 &&& Int64.toUInt64 63)).toInt64)]) rfl (fun ls hl => ?_)
  refine lv_ldc2 C.1 C.2.1 C.2.2.2.1 (C.ts t_349) d_Long_bitCount_29 ?_
  refine x_sx C b_Long_bitCount_32_60 hl (L' := [(0, .long ((((((((x - ((x.toUInt64 >>> ((1 : Int32).toInt64.toUInt64 &&& Int64.toUInt64 63)).toInt64 &&& 6148914691236517205)) &&& 3689348814741910323) + (((x - ((x.toUInt64 >>> ((1 : Int32).toInt64.toUInt64 &&& Int64.toUInt64 63)).toInt64 &&& 6148914691236517205)).toUInt64 >>> ((2 : Int32).toInt64.toUInt64 &&& Int64.toUInt64 63)).toInt64 &&& 3689348814741910323)) + ((((x - ((x.toUInt64 >>> ((1 : Int32).toInt64.toUInt64 &&& Int64.toUInt64 63)).toInt64 &&& 6148914691236517205)) &&& 3689348814741910323) + (((x - ((x.toUInt64 >>> ((1 : Int32).toInt64.toUInt64 &&& Int64.toUInt64 63)).toInt64 &&& 6148914691236517205)).toUInt64 >>> ((2 : Int32).toInt64.toUInt64 &&& Int64.toUInt64 63)).toInt64 &&& 3689348814741910323)).toUInt64 >>> ((4 : Int32).toInt64.toUInt64 &&& Int64.toUInt64 63)).toInt64) &&& 1085102592571150095) + ((((((x - ((x.toUInt64 >>> ((1 : Int32).toInt64.toUInt64 &&& Int64.toUInt64 63)).toInt64 &&& 6148914691236517205)) &&& 3689348814741910323) + (((x - ((x.toUInt64 >>> ((1 : Int32).toInt64.toUInt64 &&& Int64.toUInt64 63)).toInt64 &&& 6148914691236517205)).toUInt64 >>> ((2 : Int32).toInt64.toUInt64 &&& Int64.toUInt64 63)).toInt64 &&& 3689348814741910323)) + ((((x - ((x.toUInt64 >>> ((1 : Int32).toInt64.toUInt64 &&& Int64.toUInt64 63)).toInt64 &&& 6148914691236517205)) &&& 3689348814741910323) + (((x - ((x.toUInt64 >>> ((1 : Int32).toInt64.toUInt64 &&& Int64.toUInt64 63)).toInt64 &&& 6148914691236517205)).toUInt64 >>> ((2 : Int32).toInt64.toUInt64 &&& Int64.toUInt64 63)).toInt64 &&& 3689348814741910323)).toUInt64 >>> ((4 : Int32).toInt64.toUInt64 &&& Int64.toUInt64 63)).toInt64) &&& 1085102592571150095).toUInt64 >>> ((8 : Int32).toInt64.toUInt64 &&& Int64.toUInt64 63)).toInt64) + (((((((x - ((x.toUInt64 >>> ((1 : Int32).toInt64.toUInt64 &&& Int64.toUInt64 63)).toInt64 &&& 6148914691236517205)) &&& 3689348814741910323) + (((x - ((x.toUInt64 >>> ((1 : Int32).toInt64.toUInt64 &&& Int64.toUInt64 63)).toInt64 &&& 6148914691236517205)).toUInt64 >>> ((2 : Int32).toInt64.toUInt64 &&& Int64.toUInt64 63)).toInt64 &&& 3689348814741910323)) + ((((x - ((x.toUInt64 >>> ((1 : Int32).toInt64.toUInt64 &&& Int64.toUInt64 63)).toInt64 &&& 6148914691236517205)) &&& 3689348814741910323) + (((x - ((x.toUInt64 >>> ((1 : Int32).toInt64.toUInt64 &&& Int64.toUInt64 63)).toInt64 &&& 6148914691236517205)).toUInt64 >>> ((2 : Int32).toInt64.toUInt64 &&& Int64.toUInt64 63)).toInt64 &&& 3689348814741910323)).toUInt64 >>> ((4 : Int32).toInt64.toUInt64 &&& Int64.toUInt64 63)).toInt64) &&& 1085102592571150095) + ((((((x - ((x.toUInt64 >>> ((1 : Int32).toInt64.toUInt64 &&& Int64.toUInt64 63)).toInt64 &&& 6148914691236517205)) &&& 3689348814741910323) + (((x - ((x.toUInt64 >>> ((1 : Int32).toInt64.toUInt64 &&& Int64.toUInt64 63)).toInt64 &&& 6148914691236517205)).toUInt64 >>> ((2 : Int32).toInt64.toUInt64 &&& Int64.toUInt64 63)).toInt64 &&& 3689348814741910323)) + ((((x - ((x.toUInt64 >>> ((1 : Int32).toInt64.toUInt64 &&& Int64.toUInt64 63)).toInt64 &&& 6148914691236517205)) &&& 3689348814741910323) + (((x - ((x.toUInt64 >>> ((1 : Int32).toInt64.toUInt64 &&& Int64.toUInt64 63)).toInt64 &&& 6148914691236517205)).toUInt64 >>> ((2 : Int32).toInt64.toUInt64 &&& Int64.toUInt64 63)).toInt64 &&& 3689348814741910323)).toUInt64 >>> ((4 : Int32).toInt64.toUInt64 &&& Int64.toUInt64 63)).toInt64) &&& 1085102592571150095).toUInt64 >>> ((8 : Int32).toInt64.toUInt64 &&& Int64.toUInt64 63)).toInt64).toUInt64 >>> ((16 : Int32).toInt64.toUInt64 &&& Int64.toUInt64 63)).toInt64) + ((((((((x - ((x.toUInt64 >>> ((1 : Int32).toInt64.toUInt64 &&& Int64.toUInt64 63)).toInt64 &&& 6148914691236517205)) &&& 3689348814741910323) + (((x - ((x.toUInt64 >>> ((1 : Int32).toInt64.toUInt64 &&& Int64.toUInt64 63)).toInt64 &&& 6148914691236517205)).toUInt64 >>> ((2 : Int32).toInt64.toUInt64 &&& Int64.toUInt64 63)).toInt64 &&& 3689348814741910323)) + ((((x - ((x.toUInt64 >>> ((1 : Int32).toInt64.toUInt64 &&& Int64.toUInt64 63)).toInt64 &&& 6148914691236517205)) &&& 3689348814741910323) + (((x - ((x.toUInt64 >>> ((1 : Int32).toInt64.toUInt64 &&& Int64.toUInt64 63)).toInt64 &&& 6148914691236517205)).toUInt64 >>> ((2 : Int32).toInt64.toUInt64 &&& Int64.toUInt64 63)).toInt64 &&& 3689348814741910323)).toUInt64 >>> ((4 : Int32).toInt64.toUInt64 &&& Int64.toUInt64 63)).toInt64) &&& 1085102592571150095) + ((((((x - ((x.toUInt64 >>> ((1 : Int32).toInt64.toUInt64 &&& Int64.toUInt64 63)).toInt64 &&& 6148914691236517205)) &&& 3689348814741910323) + (((x - ((x.toUInt64 >>> ((1 : Int32).toInt64.toUInt64 &&& Int64.toUInt64 63)).toInt64 &&& 6148914691236517205)).toUInt64 >>> ((2 : Int32).toInt64.toUInt64 &&& Int64.toUInt64 63)).toInt64 &&& 3689348814741910323)) + ((((x - ((x.toUInt64 >>> ((1 : Int32).toInt64.toUInt64 &&& Int64.toUInt64 63)).toInt64 &&& 6148914691236517205)) &&& 3689348814741910323) + (((x - ((x.toUInt64 >>> ((1 : Int32).toInt64.toUInt64 &&& Int64.toUInt64 63)).toInt64 &&& 6148914691236517205)).toUInt64 >>> ((2 : Int32).toInt64.toUInt64 &&& Int64.toUInt64 63)).toInt64 &&& 3689348814741910323)).toUInt64 >>> ((4 : Int32).toInt64.toUInt64 &&& Int64.toUInt64 63)).toInt64) &&& 1085102592571150095).toUInt64 >>> ((8 : Int32).toInt64.toUInt64 &&& Int64.toUInt64 63)).toInt64) + (((((((x - ((x.toUInt64 >>> ((1 : Int32).toInt64.toUInt64 &&& Int64.toUInt64 63)).toInt64 &&& 6148914691236517205)) &&& 3689348814741910323) + (((x - ((x.toUInt64 >>> ((1 : Int32).toInt64.toUInt64 &&& Int64.toUInt64 63)).toInt64 &&& 6148914691236517205)).toUInt64 >>> ((2 : Int32).toInt64.toUInt64 &&& Int64.toUInt64 63)).toInt64 &&& 3689348814741910323)) + ((((x - ((x.toUInt64 >>> ((1 : Int32).toInt64.toUInt64 &&& Int64.toUInt64 63)).toInt64 &&& 6148914691236517205)) &&& 3689348814741910323) + (((x - ((x.toUInt64 >>> ((1 : Int32).toInt64.toUInt64 &&& Int64.toUInt64 63)).toInt64 &&& 6148914691236517205)).toUInt64 >>> ((2 : Int32).toInt64.toUInt64 &&& Int64.toUInt64 63)).toInt64 &&& 3689348814741910323)).toUInt64 >>> ((4 : Int32).toInt64.toUInt64 &&& Int64.toUInt64 63)).toInt64) &&& 1085102592571150095) + ((((((x - ((x.toUInt64 >>> ((1 : Int32).toInt64.toUInt64 &&& Int64.toUInt64 63)).toInt64 &&& 6148914691236517205)) &&& 3689348814741910323) + (((x - ((x.toUInt64 >>> ((1 : Int32).toInt64.toUInt64 &&& Int64.toUInt64 63)).toInt64 &&& 6148914691236517205)).toUInt64 >>> ((2 : Int32).toInt64.toUInt64 &&& Int64.toUInt64 63)).toInt64 &&& 3689348814741910323)) + ((((x - ((x.toUInt64 >>> ((1 : Int32).toInt64.toUInt64 &&& Int64.toUInt64 63)).toInt64 &&& 6148914691236517205)) &&& 3689348814741910323) + (((x - ((x.toUInt64 >>> ((1 : Int32).toInt64.toUInt64 &&& Int64.toUInt64 63)).toInt64 &&& 6148914691236517205)).toUInt64 >>> ((2 : Int32).toInt64.toUInt64 &&& Int64.toUInt64 63)).toInt64 &&& 3689348814741910323)).toUInt64 >>> ((4 : Int32).toInt64.toUInt64 &&& Int64.toUInt64 63)).toInt64) &&& 1085102592571150095).toUInt64 >>> ((8 : Int32).toInt64.toUInt64 &&& Int64.toUInt64 63)).toInt64).toUInt64 >>> ((16 : Int32).toInt64.toUInt64 &&& Int64.toUInt64 63)).toInt64).toUInt64 >>> ((32 : Int32).toInt64.toUInt64 &&& Int64.toUInt64 63)).toInt64))]) (st' := [.int (((((((((x - ((x.toUInt64 >>> ((1 : Int32).toInt64.toUInt64 &&& Int64.toUInt64 63)).toInt64 &&& 6148914691236517205)) &&& 3689348814741910323) + (((x - ((x.toUInt64 >>> ((1 : Int32).toInt64.toUInt64 &&& Int64.toUInt64 63)).toInt64 &&& 6148914691236517205)).toUInt64 >>> ((2 : Int32).toInt64.toUInt64 &&& Int64.toUInt64 63)).toInt64 &&& 3689348814741910323)) + ((((x - ((x.toUInt64 >>> ((1 : Int32).toInt64.toUInt64 &&& Int64.toUInt64 63)).toInt64 &&& 6148914691236517205)) &&& 3689348814741910323) + (((x - ((x.toUInt64 >>> ((1 : Int32).toInt64.toUInt64 &&& Int64.toUInt64 63)).toInt64 &&& 6148914691236517205)).toUInt64 >>> ((2 : Int32).toInt64.toUInt64 &&& Int64.toUInt64 63)).toInt64 &&& 3689348814741910323)).toUInt64 >>> ((4 : Int32).toInt64.toUInt64 &&& Int64.toUInt64 63)).toInt64) &&& 1085102592571150095) + ((((((x - ((x.toUInt64 >>> ((1 : Int32).toInt64.toUInt64 &&& Int64.toUInt64 63)).toInt64 &&& 6148914691236517205)) &&& 3689348814741910323) + (((x - ((x.toUInt64 >>> ((1 : Int32).toInt64.toUInt64 &&& Int64.toUInt64 63)).toInt64 &&& 6148914691236517205)).toUInt64 >>> ((2 : Int32).toInt64.toUInt64 &&& Int64.toUInt64 63)).toInt64 &&& 3689348814741910323)) + ((((x - ((x.toUInt64 >>> ((1 : Int32).toInt64.toUInt64 &&& Int64.toUInt64 63)).toInt64 &&& 6148914691236517205)) &&& 3689348814741910323) + (((x - ((x.toUInt64 >>> ((1 : Int32).toInt64.toUInt64 &&& Int64.toUInt64 63)).toInt64 &&& 6148914691236517205)).toUInt64 >>> ((2 : Int32).toInt64.toUInt64 &&& Int64.toUInt64 63)).toInt64 &&& 3689348814741910323)).toUInt64 >>> ((4 : Int32).toInt64.toUInt64 &&& Int64.toUInt64 63)).toInt64) &&& 1085102592571150095).toUInt64 >>> ((8 : Int32).toInt64.toUInt64 &&& Int64.toUInt64 63)).toInt64) + (((((((x - ((x.toUInt64 >>> ((1 : Int32).toInt64.toUInt64 &&& Int64.toUInt64 63)).toInt64 &&& 6148914691236517205)) &&& 3689348814741910323) + (((x - ((x.toUInt64 >>> ((1 : Int32).toInt64.toUInt64 &&& Int64.toUInt64 63)).toInt64 &&& 6148914691236517205)).toUInt64 >>> ((2 : Int32).toInt64.toUInt64 &&& Int64.toUInt64 63)).toInt64 &&& 3689348814741910323)) + ((((x - ((x.toUInt64 >>> ((1 : Int32).toInt64.toUInt64 &&& Int64.toUInt64 63)).toInt64 &&& 6148914691236517205)) &&& 3689348814741910323) + (((x - ((x.toUInt64 >>> ((1 : Int32).toInt64.toUInt64 &&& Int64.toUInt64 63)).toInt64 &&& 6148914691236517205)).toUInt64 >>> ((2 : Int32).toInt64.toUInt64 &&& Int64.toUInt64 63)).toInt64 &&& 3689348814741910323)).toUInt64 >>> ((4 : Int32).toInt64.toUInt64 &&& Int64.toUInt64 63)).toInt64) &&& 1085102592571150095) + ((((((x - ((x.toUInt64 >>> ((1 : Int32).toInt64.toUInt64 &&& Int64.toUInt64 63)).toInt64 &&& 6148914691236517205)) &&& 3689348814741910323) + (((x - ((x.toUInt64 >>> ((1 : Int32).toInt64.toUInt64 &&& Int64.toUInt64 63)).toInt64 &&& 6148914691236517205)).toUInt64 >>> ((2 : Int32).toInt64.toUInt64 &&& Int64.toUInt64 63)).toInt64 &&& 3689348814741910323)) + ((((x - ((x.toUInt64 >>> ((1 : Int32).toInt64.toUInt64 &&& Int64.toUInt64 63)).toInt64 &&& 6148914691236517205)) &&& 3689348814741910323) + (((x - ((x.toUInt64 >>> ((1 : Int32).toInt64.toUInt64 &&& Int64.toUInt64 63)).toInt64 &&& 6148914691236517205)).toUInt64 >>> ((2 : Int32).toInt64.toUInt64 &&& Int64.toUInt64 63)).toInt64 &&& 3689348814741910323)).toUInt64 >>> ((4 : Int32).toInt64.toUInt64 &&& Int64.toUInt64 63)).toInt64) &&& 1085102592571150095).toUInt64 >>> ((8 : Int32).toInt64.toUInt64 &&& Int64.toUInt64 63)).toInt64).toUInt64 >>> ((16 : Int32).toInt64.toUInt64 &&& Int64.toUInt64 63)).toInt64) + ((((((((x - ((x.toUInt64 >>> ((1 : Int32).toInt64.toUInt64 &&& Int64.toUInt64 63)).toInt64 &&& 6148914691236517205)) &&& 3689348814741910323) + (((x - ((x.toUInt64 >>> ((1 : Int32).toInt64.toUInt64 &&& Int64.toUInt64 63)).toInt64 &&& 6148914691236517205)).toUInt64 >>> ((2 : Int32).toInt64.toUInt64 &&& Int64.toUInt64 63)).toInt64 &&& 3689348814741910323)) + ((((x - ((x.toUInt64 >>> ((1 : Int32).toInt64.toUInt64 &&& Int64.toUInt64 63)).toInt64 &&& 6148914691236517205)) &&& 3689348814741910323) + (((x - ((x.toUInt64 >>> ((1 : Int32).toInt64.toUInt64 &&& Int64.toUInt64 63)).toInt64 &&& 6148914691236517205)).toUInt64 >>> ((2 : Int32).toInt64.toUInt64 &&& Int64.toUInt64 63)).toInt64 &&& 3689348814741910323)).toUInt64 >>> ((4 : Int32).toInt64.toUInt64 &&& Int64.toUInt64 63)).toInt64) &&& 1085102592571150095) + ((((((x - ((x.toUInt64 >>> ((1 : Int32).toInt64.toUInt64 &&& Int64.toUInt64 63)).toInt64 &&& 6148914691236517205)) &&& 3689348814741910323) + (((x - ((x.toUInt64 >>> ((1 : Int32).toInt64.toUInt64 &&& Int64.toUInt64 63)).toInt64 &&& 6148914691236517205)).toUInt64 >>> ((2 : Int32).toInt64.toUInt64 &&& Int64.toUInt64 63)).toInt64 &&& 3689348814741910323)) + ((((x - ((x.toUInt64 >>> ((1 : Int32).toInt64.toUInt64 &&& Int64.toUInt64 63)).toInt64 &&& 6148914691236517205)) &&& 3689348814741910323) + (((x - ((x.toUInt64 >>> ((1 : Int32).toInt64.toUInt64 &&& Int64.toUInt64 63)).toInt64 &&& 6148914691236517205)).toUInt64 >>> ((2 : Int32).toInt64.toUInt64 &&& Int64.toUInt64 63)).toInt64 &&& 3689348814741910323)).toUInt64 >>> ((4 : Int32).toInt64.toUInt64 &&& Int64.toUInt64 63)).toInt64) &&& 1085102592571150095).toUInt64 >>> ((8 : Int32).toInt64.toUInt64 &&& Int64.toUInt64 63)).toInt64) + (((((((x - ((x.toUInt64 >>> ((1 : Int32).toInt64.toUInt64 &&& Int64.toUInt64 63)).toInt64 &&& 6148914691236517205)) &&& 3689348814741910323) + (((x - ((x.toUInt64 >>> ((1 : Int32).toInt64.toUInt64 &&& Int64.toUInt64 63)).toInt64 &&& 6148914691236517205)).toUInt64 >>> ((2 : Int32).toInt64.toUInt64 &&& Int64.toUInt64 63)).toInt64 &&& 3689348814741910323)) + ((((x - ((x.toUInt64 >>> ((1 : Int32).toInt64.toUInt64 &&& Int64.toUInt64 63)).toInt64 &&& 6148914691236517205)) &&& 3689348814741910323) + (((x - ((x.toUInt64 >>> ((1 : Int32).toInt64.toUInt64 &&& Int64.toUInt64 63)).toInt64 &&& 6148914691236517205)).toUInt64 >>> ((2 : Int32).toInt64.toUInt64 &&& Int64.toUInt64 63)).toInt64 &&& 3689348814741910323)).toUInt64 >>> ((4 : Int32).toInt64.toUInt64 &&& Int64.toUInt64 63)).toInt64) &&& 1085102592571150095) + ((((((x - ((x.toUInt64 >>> ((1 : Int32).toInt64.toUInt64 &&& Int64.toUInt64 63)).toInt64 &&& 6148914691236517205)) &&& 3689348814741910323) + (((x - ((x.toUInt64 >>> ((1 : Int32).toInt64.toUInt64 &&& Int64.toUInt64 63)).toInt64 &&& 6148914691236517205)).toUInt64 >>> ((2 : Int32).toInt64.toUInt64 &&& Int64.toUInt64 63)).toInt64 &&& 3689348814741910323)) + ((((x - ((x.toUInt64 >>> ((1 : Int32).toInt64.toUInt64 &&& Int64.toUInt64 63)).toInt64 &&& 6148914691236517205)) &&& 3689348814741910323) + (((x - ((x.toUInt64 >>> ((1 : Int32).toInt64.toUInt64 &&& Int64.toUInt64 63)).toInt64 &&& 6148914691236517205)).toUInt64 >>> ((2 : Int32).toInt64.toUInt64 &&& Int64.toUInt64 63)).toInt64 &&& 3689348814741910323)).toUInt64 >>> ((4 : Int32).toInt64.toUInt64 &&& Int64.toUInt64 63)).toInt64) &&& 1085102592571150095).toUInt64 >>> ((8 : Int32).toInt64.toUInt64 &&& Int64.toUInt64 63)).toInt64).toUInt64 >>> ((16 : Int32).toInt64.toUInt64 &&& Int64.toUInt64 63)).toInt64).toUInt64 >>> ((32 : Int32).toInt64.toUInt64 &&& Int64.toUInt64 63)).toInt64).toInt32 &&& 127)]) rfl (fun ls hl => ?_)
  exact x_iro C hr rfl d_Long_bitCount_60
theorem hd_Long_bitCount : hdP y_Long_bitCount 1 := ⟨by decide +kernel, by decide +kernel, by decide +kernel⟩
theorem b_BS_wordIndex_0_3 : decs prog_24_method_1_code [(.iload_n 0, 1), (.bipush 6, 2)] 0 3 = true := by decide +kernel
theorem d_BS_wordIndex_3 : decode prog_24_method_1_code 3 = .ok (.ishr, 1) := by decide +kernel
theorem d_BS_wordIndex_4 : decode prog_24_method_1_code 4 = .ok (.ireturn, 1) := by decide +kernel
set_option maxRecDepth 100000 in
theorem c_BS_wordIndex (l : Launch) (G : GG) (w : WF) (t : Nat) (ht : t < 2 ^ 31) : Met l y_BS_wordIndex (Cond.code y_BS_wordIndex prog_24_method_1_code 1 (some FieldType.int) :: wt) { frames := 0, cells := 0, slots := 0, locals := 0 } (Pro G w [.int (nI t)]) (Qro (.int (nI (t / 64)))) 0 0 (fun _ => False) := by
  refine ro_of (by decide +kernel) (Nat.le_of_ble_eq_true rfl) ?_
  intro p e s m below meth c ls C hP hr hl
  have hl : lv_has ls 1 [(0, .int (nI t))] := hl
  refine x_sx C b_BS_wordIndex_0_3 hl (L' := [(0, .int (nI t))]) (st' := [.int 6, .int (nI t)]) rfl (fun ls hl => ?_)
  refine lv_ishr C.1 C.2.1 d_BS_wordIndex_3 ?_
  exact x_iro C hr (shr6 ht) d_BS_wordIndex_4
theorem hd_BS_wordIndex : hdP y_BS_wordIndex 1 := ⟨by decide +kernel, by decide +kernel, by decide +kernel⟩
theorem b_Prec_checkIndex_0_1 : decs prog_31_method_11_code [(.iload_n 0, 1)] 0 1 = true := by decide +kernel
theorem d_Prec_checkIndex_1 : decode prog_31_method_11_code 1 = .ok (.ifCond .lt 8, 3) := by decide +kernel
theorem b_Prec_checkIndex_4_6 : decs prog_31_method_11_code [(.iload_n 0, 1), (.iload_n 1, 1)] 4 6 = true := by decide +kernel
theorem d_Prec_checkIndex_6 : decode prog_31_method_11_code 6 = .ok (.if_icmp .lt 10, 3) := by decide +kernel
theorem b_Prec_checkIndex_16_17 : decs prog_31_method_11_code [(.iload_n 0, 1)] 16 17 = true := by decide +kernel
theorem d_Prec_checkIndex_17 : decode prog_31_method_11_code 17 = .ok (.ireturn, 1) := by decide +kernel
set_option maxRecDepth 100000 in
theorem c_Prec_checkIndex (l : Launch) (G : GG) (w : WF) (k n : Nat) (hk : k < n) (hn : n < 2 ^ 31) : Met l y_Prec_checkIndex (Cond.code y_Prec_checkIndex prog_31_method_11_code 3 (some FieldType.int) :: wt) { frames := 0, cells := 0, slots := 0, locals := 0 } (Pro G w [.int (nI k), .int (nI n), .null]) (Qro (.int (nI k))) 0 0 (fun _ => False) := by
  refine ro_of (by decide +kernel) (Nat.le_of_ble_eq_true rfl) ?_
  intro p e s m below meth c ls C hP hr hl
  have hl : lv_has ls 3 [(0, .int (nI k)), (1, .int (nI n)), (2, .null)] := hl
  refine x_sx C b_Prec_checkIndex_0_1 hl (L' := [(0, .int (nI k)), (1, .int (nI n)), (2, .null)]) (st' := [.int (nI k)]) rfl (fun ls hl => ?_)
  refine lv_if_lt (tgt := 9) C.1 C.2.1 d_Prec_checkIndex_1 (by decide) (fun h => absurd h (nI_pos (by omega))) (fun _ => ?_)
  refine x_sx C b_Prec_checkIndex_4_6 hl (L' := [(0, .int (nI k)), (1, .int (nI n)), (2, .null)]) (st' := [.int (nI n), .int (nI k)]) rfl (fun ls hl => ?_)
  refine lv_icmp_lt (tgt := 16) C.1 C.2.1 d_Prec_checkIndex_6 (by decide) (fun _ => ?_) (fun h => absurd (nI_lt hk hn) h)
  refine x_sx C b_Prec_checkIndex_16_17 hl (L' := [(0, .int (nI k)), (1, .int (nI n)), (2, .null)]) (st' := [.int (nI k)]) rfl (fun ls hl => ?_)
  exact x_iro C hr rfl d_Prec_checkIndex_17
theorem hd_Prec_checkIndex : hdP y_Prec_checkIndex 3 := ⟨by decide +kernel, by decide +kernel, by decide +kernel⟩
theorem b_Objs_checkIndex_0_3 : decs prog_27_method_17_code [(.iload_n 0, 1), (.iload_n 1, 1), (.aconst_null, 1)] 0 3 = true := by decide +kernel
theorem d_Objs_checkIndex_3 : decode prog_27_method_17_code 3 = .ok (.invokestatic 105, 3) := by decide +kernel
theorem d_Objs_checkIndex_6 : decode prog_27_method_17_code 6 = .ok (.ireturn, 1) := by decide +kernel
set_option maxRecDepth 100000 in
theorem c_Objs_checkIndex (l : Launch) (G : GG) (w : WF) (k n : Nat) (hk : k < n) (hn : n < 2 ^ 31) : Met l y_Objs_checkIndex (Cond.code y_Objs_checkIndex prog_27_method_17_code 2 (some FieldType.int) :: wt) { frames := 1, cells := 0, slots := 0, locals := 22 } (Pro G w [.int (nI k), .int (nI n)]) (Qro (.int (nI k))) 0 0 (fun _ => False) := by
  refine ro_of (by decide +kernel) (Nat.le_of_ble_eq_true rfl) ?_
  intro p e s m below meth c ls C hP hr hl
  have hl : lv_has ls 2 [(0, .int (nI k)), (1, .int (nI n))] := hl
  refine x_sx C b_Objs_checkIndex_0_3 hl (L' := [(0, .int (nI k)), (1, .int (nI n))]) (st' := [.null, .int (nI n), .int (nI k)]) rfl (fun ls hl => ?_)
  refine x_ro (x_cS C (c_Prec_checkIndex l G w k n hk hn) t_163 t_13 t_161 t_162 hd_Prec_checkIndex blind_Pro (pre_ro C hP va_S.rf) (As := [.int (nI k), .int (nI n), .null]) (rest := []) rfl hl.1 rfl rfl rfl ⟨Nat.le_of_ble_eq_true rfl, Nat.le_of_ble_eq_true rfl⟩ (Nat.le_of_ble_eq_true rfl) ⟨Nat.zero_le _, Nat.zero_le _⟩ d_Objs_checkIndex_3) ?_
  exact x_iro C hr rfl d_Objs_checkIndex_6
theorem hd_Objs_checkIndex : hdP y_Objs_checkIndex 2 := ⟨by decide +kernel, by decide +kernel, by decide +kernel⟩
theorem b_AL_size_0_1 : decs prog_22_method_8_code [(.aload_n 0, 1)] 0 1 = true := by decide +kernel
theorem d_AL_size_1 : decode prog_22_method_8_code 1 = .ok (.getfield 48, 3) := by decide +kernel
theorem d_AL_size_4 : decode prog_22_method_8_code 4 = .ok (.ireturn, 1) := by decide +kernel
set_option maxRecDepth 100000 in
theorem c_AL_size (l : Launch) (G : GG) (w : WF) (na a d : Nat) (z md : Int32) (he : w na = some (a, .inr (6, [.ref d, .int z, .int md]))) : Met l y_AL_size (Cond.code y_AL_size prog_22_method_8_code 1 (some FieldType.int) :: wt) { frames := 0, cells := 0, slots := 0, locals := 0 } (Pro G w [.ref a]) (Qro (.int z)) 0 0 (fun _ => False) := by
  refine ro_of (by decide +kernel) (Nat.le_of_ble_eq_true rfl) ?_
  intro p e s m below meth c ls C hP hr hl
  have hl : lv_has ls 1 [(0, .ref a)] := hl
  refine x_sx C b_AL_size_0_1 hl (L' := [(0, .ref a)]) (st' := [.ref a]) rfl (fun ls hl => ?_)
  refine x_get C hP na he 1 (v := .int z) rfl rfl (by decide) t_47 (fun _ z => z) d_AL_size_1 ?_
  exact x_iro C hr rfl d_AL_size_4
theorem hd_AL_size : hdP y_AL_size 0 := ⟨by decide +kernel, by decide +kernel, by decide +kernel⟩
theorem b_AL_isEmpty_0_1 : decs prog_22_method_9_code [(.aload_n 0, 1)] 0 1 = true := by decide +kernel
theorem d_AL_isEmpty_1 : decode prog_22_method_9_code 1 = .ok (.getfield 48, 3) := by decide +kernel
theorem d_AL_isEmpty_4 : decode prog_22_method_9_code 4 = .ok (.ifCond .ne 7, 3) := by decide +kernel
theorem b_AL_isEmpty_11_12 : decs prog_22_method_9_code [(.iconst 0, 1)] 11 12 = true := by decide +kernel
theorem d_AL_isEmpty_12 : decode prog_22_method_9_code 12 = .ok (.ireturn, 1) := by decide +kernel
theorem b_AL_isEmpty_7_8 : decs prog_22_method_9_code [(.iconst 1, 1)] 7 8 = true := by decide +kernel
theorem d_AL_isEmpty_8 : decode prog_22_method_9_code 8 = .ok (.goto 4, 3) := by decide +kernel
set_option maxRecDepth 100000 in
theorem c_AL_isEmpty (l : Launch) (G : GG) (w : WF) (na a d : Nat) (z md : Int32) (he : w na = some (a, .inr (6, [.ref d, .int z, .int md]))) : Met l y_AL_isEmpty (Cond.code y_AL_isEmpty prog_22_method_9_code 1 (some FieldType.boolean) :: wt) { frames := 0, cells := 0, slots := 0, locals := 0 } (Pro G w [.ref a]) (Qro (.int (if z = 0 then 1 else 0))) 0 0 (fun _ => False) := by
  refine ro_of (by decide +kernel) (Nat.le_of_ble_eq_true rfl) ?_
  intro p e s m below meth c ls C hP hr hl
  have hl : lv_has ls 1 [(0, .ref a)] := hl
  refine x_sx C b_AL_isEmpty_0_1 hl (L' := [(0, .ref a)]) (st' := [.ref a]) rfl (fun ls hl => ?_)
  refine x_get C hP na he 1 (v := .int z) rfl rfl (by decide) t_47 (fun _ z => z) d_AL_isEmpty_1 ?_
  refine lv_if_ne (tgt := 11) C.1 C.2.1 d_AL_isEmpty_4 (by decide) (fun h1 => ?_) (fun h1 => ?_)
  · refine x_sx C b_AL_isEmpty_11_12 hl (L' := [(0, .ref a)]) (st' := [.int 0]) rfl (fun ls hl => ?_)
    exact x_zro C hr rfl (by simp [h1]) d_AL_isEmpty_12
  · refine x_sx C b_AL_isEmpty_7_8 hl (L' := [(0, .ref a)]) (st' := [.int 1]) rfl (fun ls hl => ?_)
    refine x_goto (tgt := 12) C d_AL_isEmpty_8 (by decide) ?_
    exact x_zro C hr rfl (by simp [h1]) d_AL_isEmpty_12
theorem hd_AL_isEmpty : hdP y_AL_isEmpty 0 := ⟨by decide +kernel, by decide +kernel, by decide +kernel⟩
theorem b_AL_elementData_0_1 : decs prog_22_method_18_code [(.aload_n 0, 1)] 0 1 = true := by decide +kernel
theorem d_AL_elementData_1 : decode prog_22_method_18_code 1 = .ok (.getfield 9, 3) := by decide +kernel
theorem b_AL_elementData_4_5 : decs prog_22_method_18_code [(.iload_n 1, 1)] 4 5 = true := by decide +kernel
theorem d_AL_elementData_5 : decode prog_22_method_18_code 5 = .ok (.aaload, 1) := by decide +kernel
theorem d_AL_elementData_6 : decode prog_22_method_18_code 6 = .ok (.areturn, 1) := by decide +kernel
set_option maxRecDepth 100000 in
theorem c_AL_elementData (l : Launch) (G : GG) (w : WF) (na nd a d n k v : Nat) (md : Int32) (f : Nat → Option Nat) (he : w na = some (a, .inr (6, [.ref d, .int (nI n), .int md]))) (hd : w nd = some (d, .inl (G.2.1 3, 10, .inr (.inr (.inr (.inr f)))))) (hk : k < n) (hn : n ≤ 10) (hv : f k = some v) : Met l y_AL_elementData (Cond.code y_AL_elementData prog_22_method_18_code 2 (some (FieldType.object "java/lang/Object")) :: wt) { frames := 0, cells := 0, slots := 0, locals := 0 } (Pro G w [.ref a, .int (nI k)]) (Qro (.ref v)) 0 0 (fun _ => False) := by
  refine ro_of (by decide +kernel) (Nat.le_of_ble_eq_true rfl) ?_
  intro p e s m below meth c ls C hP hr hl
  have hl : lv_has ls 2 [(0, .ref a), (1, .int (nI k))] := hl
  refine x_sx C b_AL_elementData_0_1 hl (L' := [(0, .ref a), (1, .int (nI k))]) (st' := [.ref a]) rfl (fun ls hl => ?_)
  refine x_get C hP na he 0 (v := .ref d) rfl rfl (by decide) t_46 (fun _ z => z) d_AL_elementData_1 ?_
  refine x_sx C b_AL_elementData_4_5 hl (L' := [(0, .ref a), (1, .int (nI k))]) (st' := [.int (nI k), .ref d]) rfl (fun ls hl => ?_)
  refine x_qld C hP nd hd (j := k) rfl (by omega) (by decide) d_AL_elementData_5 ?_
  rw [hv]
  exact x_aro C hr (Or.inl ⟨_, rfl⟩) (Or.inr ⟨_, rfl⟩) rfl d_AL_elementData_6
theorem hd_AL_elementData : hdP y_AL_elementData 1 := ⟨by decide +kernel, by decide +kernel, by decide +kernel⟩
theorem b_AL_get_0_2 : decs prog_22_method_20_code [(.iload_n 1, 1), (.aload_n 0, 1)] 0 2 = true := by decide +kernel
theorem d_AL_get_2 : decode prog_22_method_20_code 2 = .ok (.getfield 48, 3) := by decide +kernel
theorem d_AL_get_5 : decode prog_22_method_20_code 5 = .ok (.invokestatic 118, 3) := by decide +kernel
theorem b_AL_get_8_11 : decs prog_22_method_20_code [(.pop, 1), (.aload_n 0, 1), (.iload_n 1, 1)] 8 11 = true := by decide +kernel
theorem d_AL_get_11 : decode prog_22_method_20_code 11 = .ok (.invokevirtual 123, 3) := by decide +kernel
theorem d_AL_get_14 : decode prog_22_method_20_code 14 = .ok (.areturn, 1) := by decide +kernel
set_option maxRecDepth 100000 in
theorem c_AL_get (l : Launch) (G : GG) (w : WF) (na nd a d n k v : Nat) (md : Int32) (f : Nat → Option Nat) (he : w na = some (a, .inr (6, [.ref d, .int (nI n), .int md]))) (hd : w nd = some (d, .inl (G.2.1 3, 10, .inr (.inr (.inr (.inr f)))))) (hk : k < n) (hn : n ≤ 10) (hv : f k = some v) : Met l y_AL_get (Cond.code y_AL_get prog_22_method_20_code 2 (some (FieldType.object "java/lang/Object")) :: wt) { frames := 2, cells := 0, slots := 0, locals := 43 } (Pro G w [.ref a, .int (nI k)]) (Qro (.ref v)) 0 0 (fun _ => False) := by
  refine ro_of (by decide +kernel) (Nat.le_of_ble_eq_true rfl) ?_
  intro p e s m below meth c ls C hP hr hl
  have hl : lv_has ls 2 [(0, .ref a), (1, .int (nI k))] := hl
  refine x_sx C b_AL_get_0_2 hl (L' := [(0, .ref a), (1, .int (nI k))]) (st' := [.ref a, .int (nI k)]) rfl (fun ls hl => ?_)
  refine x_get C hP na he 1 (v := .int (nI n)) rfl rfl (by decide) t_47 (fun _ z => z) d_AL_get_2 ?_
  refine x_ro (x_cS C (c_Objs_checkIndex l G w k n hk (by omega)) t_160 t_12 t_158 t_159 hd_Objs_checkIndex blind_Pro (pre_ro C hP va_S.rf) (As := [.int (nI k), .int (nI n)]) (rest := []) rfl hl.1 rfl rfl rfl ⟨Nat.le_of_ble_eq_true rfl, Nat.le_of_ble_eq_true rfl⟩ (Nat.le_of_ble_eq_true rfl) ⟨Nat.zero_le _, Nat.zero_le _⟩ d_AL_get_5) ?_
  refine x_sx C b_AL_get_8_11 hl (L' := [(0, .ref a), (1, .int (nI k))]) (st' := [.int (nI k), .ref a]) rfl (fun ls hl => ?_)
  refine x_ro (x_cV C hP he rfl (c_AL_elementData l G w na nd a d n k v md f he hd hk hn hv) t_167 t_4 t_164 t_165 t_166 hd_AL_elementData blind_Pro (pre_ro C hP va_S.rf) (As := [.int (nI k)]) (rest := []) rfl hl.1 rfl rfl rfl ⟨Nat.le_of_ble_eq_true rfl, Nat.le_of_ble_eq_true rfl⟩ (Nat.le_of_ble_eq_true rfl) ⟨Nat.zero_le _, Nat.zero_le _⟩ d_AL_get_11) ?_
  exact x_aro C hr (Or.inl ⟨_, rfl⟩) (Or.inr ⟨_, rfl⟩) rfl d_AL_get_14
theorem hd_AL_get : hdP y_AL_get 1 := ⟨by decide +kernel, by decide +kernel, by decide +kernel⟩
theorem d_BS_checkInvariants_0 : decode prog_24_method_2_code 0 = .ok (.getstatic 3, 3) := by decide +kernel
theorem d_BS_checkInvariants_3 : decode prog_24_method_2_code 3 = .ok (.ifCond .ne 34, 3) := by decide +kernel
theorem d_BS_checkInvariants_37 : decode prog_24_method_2_code 37 = .ok (.getstatic 3, 3) := by decide +kernel
theorem d_BS_checkInvariants_40 : decode prog_24_method_2_code 40 = .ok (.ifCond .ne 30, 3) := by decide +kernel
theorem d_BS_checkInvariants_70 : decode prog_24_method_2_code 70 = .ok (.getstatic 3, 3) := by decide +kernel
theorem d_BS_checkInvariants_73 : decode prog_24_method_2_code 73 = .ok (.ifCond .ne 37, 3) := by decide +kernel
theorem d_BS_checkInvariants_110 : decode prog_24_method_2_code 110 = .ok (.return_, 1) := by decide +kernel
set_option maxRecDepth 100000 in
theorem c_BS_checkInvariants (l : Launch) (G : GG) (w : WF) (a : Nat) : Met l y_BS_checkInvariants (Cond.code y_BS_checkInvariants prog_24_method_2_code 1 none :: wt) { frames := 0, cells := 0, slots := 0, locals := 0 } (Pro G w [.ref a]) (Qrv) 0 0 (fun _ => False) := by
  refine ro_of (by decide +kernel) (Nat.le_of_ble_eq_true rfl) ?_
  intro p e s m below meth c ls C hP hr hl
  have hl : lv_has ls 1 [(0, .ref a)] := hl
  refine x_gs C C.Z.2.2.1 va_S.rf t_263 (fun _ z => z) d_BS_checkInvariants_0 ?_
  refine lv_if_ne (tgt := 37) C.1 C.2.1 d_BS_checkInvariants_3 (by decide) (fun _ => ?_) (fun h => absurd h (by decide))
  refine x_gs C C.Z.2.2.1 va_S.rf t_263 (fun _ z => z) d_BS_checkInvariants_37 ?_
  refine lv_if_ne (tgt := 70) C.1 C.2.1 d_BS_checkInvariants_40 (by decide) (fun _ => ?_) (fun h => absurd h (by decide))
  refine x_gs C C.Z.2.2.1 va_S.rf t_263 (fun _ z => z) d_BS_checkInvariants_70 ?_
  refine lv_if_ne (tgt := 110) C.1 C.2.1 d_BS_checkInvariants_73 (by decide) (fun _ => ?_) (fun h => absurd h (by decide))
  exact x_vro C hr d_BS_checkInvariants_110
theorem hd_BS_checkInvariants : hdP y_BS_checkInvariants 0 := ⟨by decide +kernel, by decide +kernel, by decide +kernel⟩
/-- bit t of the words f, u of which are in use -/
def bsB (u : Nat) (f : Nat → Int64) (t : Nat) : Prop := t / 64 < u ∧ ¬ f (t / 64) &&& (1 <<< ((nI t).toInt64 &&& 63)) = 0
theorem lg0 (x : Int64) : lg_cmp x 0 = 0 ↔ x = 0 := by
  unfold lg_cmp
  split
  · rename_i h
    exact ⟨fun z => absurd z (by decide), fun z => by rw [z] at h; exact absurd h (by decide)⟩
  · split
    · rename_i h; exact ⟨fun _ => h, fun _ => rfl⟩
    · rename_i h; exact ⟨fun z => absurd z (by decide), fun z => absurd z h⟩
theorem b_BS_get_0_1 : decs prog_24_method_26_code [(.iload_n 1, 1)] 0 1 = true := by decide +kernel
theorem d_BS_get_1 : decode prog_24_method_26_code 1 = .ok (.ifCond .ge 30, 3) := by decide +kernel
theorem b_BS_get_31_32 : decs prog_24_method_26_code [(.aload_n 0, 1)] 31 32 = true := by decide +kernel
theorem d_BS_get_32 : decode prog_24_method_26_code 32 = .ok (.invokevirtual 56, 3) := by decide +kernel
theorem b_BS_get_35_36 : decs prog_24_method_26_code [(.iload_n 1, 1)] 35 36 = true := by decide +kernel
theorem d_BS_get_36 : decode prog_24_method_26_code 36 = .ok (.invokestatic 52, 3) := by decide +kernel
theorem b_BS_get_39_42 : decs prog_24_method_26_code [(.istore_n 2, 1), (.iload_n 2, 1), (.aload_n 0, 1)] 39 42 = true := by decide +kernel
theorem d_BS_get_42 : decode prog_24_method_26_code 42 = .ok (.getfield 7, 3) := by decide +kernel
theorem d_BS_get_45 : decode prog_24_method_26_code 45 = .ok (.if_icmp .ge 22, 3) := by decide +kernel
theorem b_BS_get_67_68 : decs prog_24_method_26_code [(.iconst 0, 1)] 67 68 = true := by decide +kernel
theorem d_BS_get_68 : decode prog_24_method_26_code 68 = .ok (.ireturn, 1) := by decide +kernel
theorem b_BS_get_48_49 : decs prog_24_method_26_code [(.aload_n 0, 1)] 48 49 = true := by decide +kernel
theorem d_BS_get_49 : decode prog_24_method_26_code 49 = .ok (.getfield 11, 3) := by decide +kernel
theorem b_BS_get_52_53 : decs prog_24_method_26_code [(.iload_n 2, 1)] 52 53 = true := by decide +kernel
theorem d_BS_get_53 : decode prog_24_method_26_code 53 = .ok (.laload, 1) := by decide +kernel
theorem b_BS_get_54_60 : decs prog_24_method_26_code [(.lconst 1, 1), (.iload_n 1, 1), (.lshl, 1), (.land, 1), (.lconst 0, 1), (.lcmp, 1)] 54 60 = true := by decide +kernel
theorem d_BS_get_60 : decode prog_24_method_26_code 60 = .ok (.ifCond .eq 7, 3) := by decide +kernel
theorem b_BS_get_63_64 : decs prog_24_method_26_code [(.iconst 1, 1)] 63 64 = true := by decide +kernel
theorem d_BS_get_64 : decode prog_24_method_26_code 64 = .ok (.goto 4, 3) := by decide +kernel
set_option maxRecDepth 100000 in
theorem c_BS_get (l : Launch) (G : GG) (w : WF) (ns nw a d L u : Nat) (f : Nat → Int64) (t : Nat) (he : w ns = some (a, .inr (7, [.ref d, .int (nI u), .int 0]))) (hd : w nw = some (d, .inl (G.2.1 2, L, .inr (.inl f)))) (hu : u ≤ L) (hL : L ≤ 1000) (ht : t < 4096) : Met l y_BS_get (Cond.code y_BS_get prog_24_method_26_code 3 (some FieldType.boolean) :: wt) { frames := 1, cells := 0, slots := 0, locals := 20 } (Pro G w [.ref a, .int (nI t)]) (Qro (.int (@ite _ (bsB u f t) (Classical.propDecidable _) 1 0))) 0 0 (fun _ => False) := by
  refine ro_of (by decide +kernel) (Nat.le_of_ble_eq_true rfl) ?_
  intro p e s m below meth c ls C hP hr hl
  have hl : lv_has ls 3 [(0, .ref a), (1, .int (nI t))] := hl
  refine x_sx C b_BS_get_0_1 hl (L' := [(0, .ref a), (1, .int (nI t))]) (st' := [.int (nI t)]) rfl (fun ls hl => ?_)
  refine lv_if_ge (tgt := 31) C.1 C.2.1 d_BS_get_1 (by decide) (fun _ => ?_) (fun h => absurd (nI_pos' (by omega)) h)
  refine x_sx C b_BS_get_31_32 hl (L' := [(0, .ref a), (1, .int (nI t))]) (st' := [.ref a]) rfl (fun ls hl => ?_)
  refine x_rv (x_cV C hP he rfl (c_BS_checkInvariants l G w a) t_262 t_10 t_259 t_261 ts_8 hd_BS_checkInvariants blind_Pro (pre_ro C hP va_S.rf) (As := []) (rest := []) rfl hl.1 rfl rfl rfl ⟨Nat.le_of_ble_eq_true rfl, Nat.le_of_ble_eq_true rfl⟩ (Nat.le_of_ble_eq_true rfl) ⟨Nat.zero_le _, Nat.zero_le _⟩ d_BS_get_32) ?_
  refine x_sx C b_BS_get_35_36 hl (L' := [(0, .ref a), (1, .int (nI t))]) (st' := [.int (nI t)]) rfl (fun ls hl => ?_)
  refine x_ro (x_cS C (c_BS_wordIndex l G w t (by omega)) t_135 t_10 t_133 t_134 hd_BS_wordIndex blind_Pro (pre_ro C hP va_S.rf) (As := [.int (nI t)]) (rest := []) rfl hl.1 rfl rfl rfl ⟨Nat.le_of_ble_eq_true rfl, Nat.le_of_ble_eq_true rfl⟩ (Nat.le_of_ble_eq_true rfl) ⟨Nat.zero_le _, Nat.zero_le _⟩ d_BS_get_36) ?_
  refine x_sx C b_BS_get_39_42 hl (L' := [(2, .int (nI (t / 64))), (0, .ref a), (1, .int (nI t))]) (st' := [.ref a, .int (nI (t / 64))]) rfl (fun ls hl => ?_)
  refine x_get C hP ns he 1 (v := .int (nI u)) rfl rfl (by decide) t_137 (fun _ z => z) d_BS_get_42 ?_
  refine lv_icmp_ge (tgt := 67) C.1 C.2.1 d_BS_get_45 (by decide) (fun hq => ?_) (fun hq => ?_)
  · rw [nI_leI (by omega) (by omega)] at hq
    refine x_sx C b_BS_get_67_68 hl (L' := [(2, .int (nI (t / 64))), (0, .ref a), (1, .int (nI t))]) (st' := [.int 0]) rfl (fun ls hl => ?_)
    exact x_zro C hr rfl (if_neg (fun y => absurd y.1 (by omega))).symm d_BS_get_68
  · have hq : t / 64 < u := by rw [nI_leI (by omega) (by omega)] at hq; omega
    refine x_sx C b_BS_get_48_49 hl (L' := [(2, .int (nI (t / 64))), (0, .ref a), (1, .int (nI t))]) (st' := [.ref a]) rfl (fun ls hl => ?_)
    refine x_get C hP ns he 0 (v := .ref d) rfl rfl (by decide) t_136 (fun _ z => z) d_BS_get_49 ?_
    refine x_sx C b_BS_get_52_53 hl (L' := [(2, .int (nI (t / 64))), (0, .ref a), (1, .int (nI t))]) (st' := [.int (nI (t / 64)), .ref d]) rfl (fun ls hl => ?_)
    refine x_lld C hP nw hd (j := (t / 64)) rfl (by omega) (by omega) d_BS_get_53 ?_
    refine x_sx C b_BS_get_54_60 hl (L' := [(2, .int (nI (t / 64))), (0, .ref a), (1, .int (nI t))]) (st' := [.int (lg_cmp ((f (t / 64)) &&& (1 <<< ((nI t).toInt64 &&& 63))) 0)]) rfl (fun ls hl => ?_)
    refine lv_if_eq (tgt := 67) C.1 C.2.1 d_BS_get_60 (by decide) (fun hb => ?_) (fun hb => ?_)
    · have hb := (lg0 _).mp hb
      refine x_sx C b_BS_get_67_68 hl (L' := [(2, .int (nI (t / 64))), (0, .ref a), (1, .int (nI t))]) (st' := [.int 0]) rfl (fun ls hl => ?_)
      exact x_zro C hr rfl (if_neg (fun y => y.2 hb)).symm d_BS_get_68
    · have hb : ¬ f (t / 64) &&& (1 <<< ((nI t).toInt64 &&& 63)) = 0 := fun y => hb ((lg0 _).mpr y)
      refine x_sx C b_BS_get_63_64 hl (L' := [(2, .int (nI (t / 64))), (0, .ref a), (1, .int (nI t))]) (st' := [.int 1]) rfl (fun ls hl => ?_)
      refine x_goto (tgt := 68) C d_BS_get_64 (by decide) ?_
      exact x_zro C hr rfl (if_pos ⟨hq, hb⟩).symm d_BS_get_68
theorem hd_BS_get : hdP y_BS_get 1 := ⟨by decide +kernel, by decide +kernel, by decide +kernel⟩
def bsC (f : Nat → Int64) : Nat → Int32
  | 0 => 0
  | k + 1 => bsC f k + p_bc (f k)
theorem bsC_s (f : Nat → Int64) (k : Nat) : bsC f (k + 1) = bsC f k + p_bc (f k) := by rw [bsC]
theorem b_BS_cardinality_0_4 : decs prog_24_method_35_code [(.iconst 0, 1), (.istore_n 1, 1), (.iconst 0, 1), (.istore_n 2, 1)] 0 4 = true := by decide +kernel
theorem b_BS_cardinality_4_6 : decs prog_24_method_35_code [(.iload_n 2, 1), (.aload_n 0, 1)] 4 6 = true := by decide +kernel
theorem d_BS_cardinality_6 : decode prog_24_method_35_code 6 = .ok (.getfield 7, 3) := by decide +kernel
theorem d_BS_cardinality_9 : decode prog_24_method_35_code 9 = .ok (.if_icmp .ge 21, 3) := by decide +kernel
theorem b_BS_cardinality_30_31 : decs prog_24_method_35_code [(.iload_n 1, 1)] 30 31 = true := by decide +kernel
theorem d_BS_cardinality_31 : decode prog_24_method_35_code 31 = .ok (.ireturn, 1) := by decide +kernel
theorem b_BS_cardinality_12_14 : decs prog_24_method_35_code [(.iload_n 1, 1), (.aload_n 0, 1)] 12 14 = true := by decide +kernel
theorem d_BS_cardinality_14 : decode prog_24_method_35_code 14 = .ok (.getfield 11, 3) := by decide +kernel
theorem b_BS_cardinality_17_18 : decs prog_24_method_35_code [(.iload_n 2, 1)] 17 18 = true := by decide +kernel
theorem d_BS_cardinality_18 : decode prog_24_method_35_code 18 = .ok (.laload, 1) := by decide +kernel
theorem d_BS_cardinality_19 : decode prog_24_method_35_code 19 = .ok (.invokestatic 196, 3) := by decide +kernel
theorem b_BS_cardinality_22_27 : decs prog_24_method_35_code [(.iadd, 1), (.istore_n 1, 1), (.iinc 2 1, 3)] 22 27 = true := by decide +kernel
theorem d_BS_cardinality_27 : decode prog_24_method_35_code 27 = .ok (.goto (-23), 3) := by decide +kernel
set_option maxRecDepth 100000 in
theorem c_BS_cardinality (l : Launch) (G : GG) (w : WF) (ns nw a d L u : Nat) (f : Nat → Int64) (he : w ns = some (a, .inr (7, [.ref d, .int (nI u), .int 0]))) (hd : w nw = some (d, .inl (G.2.1 2, L, .inr (.inl f)))) (hu : u ≤ L) (hL : L ≤ 1000) : Met l y_BS_cardinality (Cond.code y_BS_cardinality prog_24_method_35_code 3 (some FieldType.int) :: wt) { frames := 1, cells := 0, slots := 0, locals := 21 } (Pro G w [.ref a]) (Qro (.int (bsC f u))) 0 0 (fun _ => False) := by
  refine ro_of (by decide +kernel) (Nat.le_of_ble_eq_true rfl) ?_
  intro p e s m below meth c ls C hP hr hl
  have hl : lv_has ls 3 [(0, .ref a)] := hl
  refine x_sx C b_BS_cardinality_0_4 hl (L' := [(2, .int 0), (1, .int 0), (0, .ref a)]) (st' := []) rfl (fun ls hl => ?_)
  refine x_loop (X := Nat) (fun x => u - x) (fun x H locs => x ≤ u ∧ H = s.heap ∧ locs = []) (fun x => [(0, .ref a), (1, .int (bsC f x)), (2, .int (nI x))]) 4 ?_ 0 _ _ _ ⟨Nat.zero_le _, rfl, rfl⟩ (lv_sub hl [2, 1, 0] rfl)
  intro k H locs ls hI hl IH
  obtain ⟨hku, rfl, rfl⟩ := hI
  have hl : lv_has ls 3 [(0, .ref a), (1, .int (bsC f k)), (2, .int (nI k))] := hl
  refine x_sx C b_BS_cardinality_4_6 hl (L' := [(0, .ref a), (1, .int (bsC f k)), (2, .int (nI k))]) (st' := [.ref a, .int (nI k)]) rfl (fun ls hl => ?_)
  refine x_get C hP ns he 1 (v := .int (nI u)) rfl rfl (by decide) t_137 (fun _ z => z) d_BS_cardinality_6 ?_
  refine lv_icmp_ge (tgt := 30) C.1 C.2.1 d_BS_cardinality_9 (by decide) (fun hb => ?_) (fun hb => ?_)
  · have e1 : k = u := by rw [nI_leI (by omega) (by omega)] at hb; omega
    subst e1
    refine x_sx C b_BS_cardinality_30_31 hl (L' := [(0, .ref a), (1, .int (bsC f k)), (2, .int (nI k))]) (st' := [.int (bsC f k)]) rfl (fun ls hl => ?_)
    exact x_iro C hr rfl d_BS_cardinality_31
  · have hk : k < u := by rw [nI_leI (by omega) (by omega)] at hb; omega
    refine x_sx C b_BS_cardinality_12_14 hl (L' := [(0, .ref a), (1, .int (bsC f k)), (2, .int (nI k))]) (st' := [.ref a, .int (bsC f k)]) rfl (fun ls hl => ?_)
    refine x_get C hP ns he 0 (v := .ref d) rfl rfl (by decide) t_136 (fun _ z => z) d_BS_cardinality_14 ?_
    refine x_sx C b_BS_cardinality_17_18 hl (L' := [(0, .ref a), (1, .int (bsC f k)), (2, .int (nI k))]) (st' := [.int (nI k), .ref d, .int (bsC f k)]) rfl (fun ls hl => ?_)
    refine x_lld C hP nw hd (j := k) rfl (by omega) (by omega) d_BS_cardinality_18 ?_
    refine x_ro (x_cS C (c_Long_bitCount l G w (f k)) t_346 t_22 t_344 t_345 hd_Long_bitCount blind_Pro (pre_ro C hP va_S.rf) (As := [.long (f k)]) (rest := [.int (bsC f k)]) rfl hl.1 rfl rfl rfl ⟨Nat.le_of_ble_eq_true rfl, Nat.le_of_ble_eq_true rfl⟩ (Nat.le_of_ble_eq_true rfl) ⟨Nat.zero_le _, Nat.zero_le _⟩ d_BS_cardinality_19) ?_
    refine x_sx C b_BS_cardinality_22_27 hl (L' := [(2, .int ((nI k) + 1)), (1, .int ((bsC f k) + (p_bc (f k)))), (0, .ref a)]) (st' := []) rfl (fun ls hl => ?_)
    refine x_goto (tgt := 4) C d_BS_cardinality_27 (by decide) ?_
    exact IH (k + 1) _ _ _ (by omega) ⟨by omega, rfl, rfl⟩ (by rw [bsC_s, ← nI_1]; exact (lv_sub hl [2, 1, 0] rfl))
theorem hd_BS_cardinality : hdP y_BS_cardinality 0 := ⟨by decide +kernel, by decide +kernel, by decide +kernel⟩
