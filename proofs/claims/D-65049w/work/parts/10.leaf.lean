/-! Leaves: what small static methods answer. -/
def p_in (v a b : Int32) : Int32 := if a ≤ v ∧ v ≤ b then 1 else 0
def p_wr (d : Int32) : Int32 := ((d + 32) &&& 63) - 32
def p_dn (a b : Int32) : Int32 := if a < (a / b) * b then a / b - 1 else a / b
def p_wi (v : Int32) : Int32 := if v < -32 then -32 else if 31 < v then 31 else v
theorem b_Mo_in_0_2 : decs prog_7_method_3_code [(.iload_n 0, 1), (.iload_n 1, 1)] 0 2 = true := by decide +kernel
theorem d_Mo_in_2 : decode prog_7_method_3_code 2 = .ok (.if_icmp .lt 12, 3) := by decide +kernel
theorem b_Mo_in_14_15 : decs prog_7_method_3_code [(.iconst 0, 1)] 14 15 = true := by decide +kernel
theorem d_Mo_in_15 : decode prog_7_method_3_code 15 = .ok (.ireturn, 1) := by decide +kernel
theorem b_Mo_in_5_7 : decs prog_7_method_3_code [(.iload_n 0, 1), (.iload_n 2, 1)] 5 7 = true := by decide +kernel
theorem d_Mo_in_7 : decode prog_7_method_3_code 7 = .ok (.if_icmp .gt 7, 3) := by decide +kernel
theorem b_Mo_in_10_11 : decs prog_7_method_3_code [(.iconst 1, 1)] 10 11 = true := by decide +kernel
theorem d_Mo_in_11 : decode prog_7_method_3_code 11 = .ok (.goto 4, 3) := by decide +kernel
set_option maxRecDepth 100000 in
theorem c_Mo_in (l : Launch) (G : GG) (w : WF) (v a b : Int32) : Met l y_Mo_in (Cond.code y_Mo_in prog_7_method_3_code 3 (some FieldType.boolean) :: wt) { frames := 0, cells := 0, slots := 0, locals := 0 } (Pro G w [.int v, .int a, .int b]) (Qro (.int (p_in v a b))) 0 0 (fun _ => False) := by
  refine ro_of (by decide) (Nat.le_of_ble_eq_true rfl) ?_
  intro p e s m below meth c ls C hP hr hl
  have hl : lv_has ls 3 [(0, .int v), (1, .int a), (2, .int b)] := hl
  refine x_sx C b_Mo_in_0_2 hl (L' := [(0, .int v), (1, .int a), (2, .int b)]) (st' := [.int a, .int v]) rfl (fun ls hl => ?_)
  refine lv_icmp_lt (tgt := 14) C.1 C.2.1 d_Mo_in_2 (by decide) (fun h1 => ?_) (fun h1 => ?_)
  · refine x_sx C b_Mo_in_14_15 hl (L' := [(0, .int v), (1, .int a), (2, .int b)]) (st' := [.int 0]) rfl (fun ls hl => ?_)
    exact x_zro C hr rfl (by have q0 := h1; simp only [Int32.lt_iff_toInt_lt, Int32.le_iff_toInt_le, ← Int32.toInt_inj, Int32.reduceToInt] at q0; simp only [p_in, Int32.lt_iff_toInt_lt, Int32.le_iff_toInt_le, ← Int32.toInt_inj, Int32.reduceToInt]; repeat (first | rfl | omega | split)) d_Mo_in_15
  · refine x_sx C b_Mo_in_5_7 hl (L' := [(0, .int v), (1, .int a), (2, .int b)]) (st' := [.int b, .int v]) rfl (fun ls hl => ?_)
    refine lv_icmp_gt (tgt := 14) C.1 C.2.1 d_Mo_in_7 (by decide) (fun h2 => ?_) (fun h2 => ?_)
    · refine x_sx C b_Mo_in_14_15 hl (L' := [(0, .int v), (1, .int a), (2, .int b)]) (st' := [.int 0]) rfl (fun ls hl => ?_)
      exact x_zro C hr rfl (by have q0 := h1; have q1 := h2; simp only [Int32.lt_iff_toInt_lt, Int32.le_iff_toInt_le, ← Int32.toInt_inj, Int32.reduceToInt] at q0 q1; simp only [p_in, Int32.lt_iff_toInt_lt, Int32.le_iff_toInt_le, ← Int32.toInt_inj, Int32.reduceToInt]; repeat (first | rfl | omega | split)) d_Mo_in_15
    · refine x_sx C b_Mo_in_10_11 hl (L' := [(0, .int v), (1, .int a), (2, .int b)]) (st' := [.int 1]) rfl (fun ls hl => ?_)
      refine x_goto (tgt := 15) C d_Mo_in_11 (by decide) ?_
      exact x_zro C hr rfl (by have q0 := h1; have q1 := h2; simp only [Int32.lt_iff_toInt_lt, Int32.le_iff_toInt_le, ← Int32.toInt_inj, Int32.reduceToInt] at q0 q1; simp only [p_in, Int32.lt_iff_toInt_lt, Int32.le_iff_toInt_le, ← Int32.toInt_inj, Int32.reduceToInt]; repeat (first | rfl | omega | split)) d_Mo_in_15
theorem b_SP_isIn_0_2 : decs prog_1_method_6_code [(.iload_n 0, 1), (.iload_n 1, 1)] 0 2 = true := by decide +kernel
theorem d_SP_isIn_2 : decode prog_1_method_6_code 2 = .ok (.if_icmp .lt 12, 3) := by decide +kernel
theorem b_SP_isIn_14_15 : decs prog_1_method_6_code [(.iconst 0, 1)] 14 15 = true := by decide +kernel
theorem d_SP_isIn_15 : decode prog_1_method_6_code 15 = .ok (.ireturn, 1) := by decide +kernel
theorem b_SP_isIn_5_7 : decs prog_1_method_6_code [(.iload_n 0, 1), (.iload_n 2, 1)] 5 7 = true := by decide +kernel
theorem d_SP_isIn_7 : decode prog_1_method_6_code 7 = .ok (.if_icmp .gt 7, 3) := by decide +kernel
theorem b_SP_isIn_10_11 : decs prog_1_method_6_code [(.iconst 1, 1)] 10 11 = true := by decide +kernel
theorem d_SP_isIn_11 : decode prog_1_method_6_code 11 = .ok (.goto 4, 3) := by decide +kernel
set_option maxRecDepth 100000 in
theorem c_SP_isIn (l : Launch) (G : GG) (w : WF) (v a b : Int32) : Met l y_SP_isIn (Cond.code y_SP_isIn prog_1_method_6_code 3 (some FieldType.boolean) :: wt) { frames := 0, cells := 0, slots := 0, locals := 0 } (Pro G w [.int v, .int a, .int b]) (Qro (.int (p_in v a b))) 0 0 (fun _ => False) := by
  refine ro_of (by decide) (Nat.le_of_ble_eq_true rfl) ?_
  intro p e s m below meth c ls C hP hr hl
  have hl : lv_has ls 3 [(0, .int v), (1, .int a), (2, .int b)] := hl
  refine x_sx C b_SP_isIn_0_2 hl (L' := [(0, .int v), (1, .int a), (2, .int b)]) (st' := [.int a, .int v]) rfl (fun ls hl => ?_)
  refine lv_icmp_lt (tgt := 14) C.1 C.2.1 d_SP_isIn_2 (by decide) (fun h1 => ?_) (fun h1 => ?_)
  · refine x_sx C b_SP_isIn_14_15 hl (L' := [(0, .int v), (1, .int a), (2, .int b)]) (st' := [.int 0]) rfl (fun ls hl => ?_)
    exact x_zro C hr rfl (by have q0 := h1; simp only [Int32.lt_iff_toInt_lt, Int32.le_iff_toInt_le, ← Int32.toInt_inj, Int32.reduceToInt] at q0; simp only [p_in, Int32.lt_iff_toInt_lt, Int32.le_iff_toInt_le, ← Int32.toInt_inj, Int32.reduceToInt]; repeat (first | rfl | omega | split)) d_SP_isIn_15
  · refine x_sx C b_SP_isIn_5_7 hl (L' := [(0, .int v), (1, .int a), (2, .int b)]) (st' := [.int b, .int v]) rfl (fun ls hl => ?_)
    refine lv_icmp_gt (tgt := 14) C.1 C.2.1 d_SP_isIn_7 (by decide) (fun h2 => ?_) (fun h2 => ?_)
    · refine x_sx C b_SP_isIn_14_15 hl (L' := [(0, .int v), (1, .int a), (2, .int b)]) (st' := [.int 0]) rfl (fun ls hl => ?_)
      exact x_zro C hr rfl (by have q0 := h1; have q1 := h2; simp only [Int32.lt_iff_toInt_lt, Int32.le_iff_toInt_le, ← Int32.toInt_inj, Int32.reduceToInt] at q0 q1; simp only [p_in, Int32.lt_iff_toInt_lt, Int32.le_iff_toInt_le, ← Int32.toInt_inj, Int32.reduceToInt]; repeat (first | rfl | omega | split)) d_SP_isIn_15
    · refine x_sx C b_SP_isIn_10_11 hl (L' := [(0, .int v), (1, .int a), (2, .int b)]) (st' := [.int 1]) rfl (fun ls hl => ?_)
      refine x_goto (tgt := 15) C d_SP_isIn_11 (by decide) ?_
      exact x_zro C hr rfl (by have q0 := h1; have q1 := h2; simp only [Int32.lt_iff_toInt_lt, Int32.le_iff_toInt_le, ← Int32.toInt_inj, Int32.reduceToInt] at q0 q1; simp only [p_in, Int32.lt_iff_toInt_lt, Int32.le_iff_toInt_le, ← Int32.toInt_inj, Int32.reduceToInt]; repeat (first | rfl | omega | split)) d_SP_isIn_15
theorem b_Mo_wrapped_0_10 : decs prog_7_method_6_code [(.iload_n 0, 1), (.bipush 32, 2), (.iadd, 1), (.bipush 63, 2), (.iand, 1), (.bipush 32, 2), (.isub, 1)] 0 10 = true := by decide +kernel
theorem d_Mo_wrapped_10 : decode prog_7_method_6_code 10 = .ok (.ireturn, 1) := by decide +kernel
set_option maxRecDepth 100000 in
theorem c_Mo_wrapped (l : Launch) (G : GG) (w : WF) (d : Int32) : Met l y_Mo_wrapped (Cond.code y_Mo_wrapped prog_7_method_6_code 1 (some FieldType.int) :: wt) { frames := 0, cells := 0, slots := 0, locals := 0 } (Pro G w [.int d]) (Qro (.int (p_wr d))) 0 0 (fun _ => False) := by
  refine ro_of (by decide) (Nat.le_of_ble_eq_true rfl) ?_
  intro p e s m below meth c ls C hP hr hl
  have hl : lv_has ls 1 [(0, .int d)] := hl
  refine x_sx C b_Mo_wrapped_0_10 hl (L' := [(0, .int d)]) (st' := [.int (((d + 32) &&& 63) - 32)]) rfl (fun ls hl => ?_)
  exact x_iro C hr rfl d_Mo_wrapped_10
theorem b_Mo_within_0_3 : decs prog_7_method_12_code [(.iload_n 0, 1), (.bipush (-32), 2)] 0 3 = true := by decide +kernel
theorem d_Mo_within_3 : decode prog_7_method_12_code 3 = .ok (.if_icmp .ge 8, 3) := by decide +kernel
theorem b_Mo_within_11_14 : decs prog_7_method_12_code [(.iload_n 0, 1), (.bipush 31, 2)] 11 14 = true := by decide +kernel
theorem d_Mo_within_14 : decode prog_7_method_12_code 14 = .ok (.if_icmp .le 8, 3) := by decide +kernel
theorem b_Mo_within_22_23 : decs prog_7_method_12_code [(.iload_n 0, 1)] 22 23 = true := by decide +kernel
theorem d_Mo_within_23 : decode prog_7_method_12_code 23 = .ok (.ireturn, 1) := by decide +kernel
theorem b_Mo_within_17_19 : decs prog_7_method_12_code [(.bipush 31, 2)] 17 19 = true := by decide +kernel
theorem d_Mo_within_19 : decode prog_7_method_12_code 19 = .ok (.goto 4, 3) := by decide +kernel
theorem b_Mo_within_6_8 : decs prog_7_method_12_code [(.bipush (-32), 2)] 6 8 = true := by decide +kernel
theorem d_Mo_within_8 : decode prog_7_method_12_code 8 = .ok (.goto 15, 3) := by decide +kernel
set_option maxRecDepth 100000 in
theorem c_Mo_within (l : Launch) (G : GG) (w : WF) (v : Int32) : Met l y_Mo_within (Cond.code y_Mo_within prog_7_method_12_code 1 (some FieldType.int) :: wt) { frames := 0, cells := 0, slots := 0, locals := 0 } (Pro G w [.int v]) (Qro (.int (p_wi v))) 0 0 (fun _ => False) := by
  refine ro_of (by decide) (Nat.le_of_ble_eq_true rfl) ?_
  intro p e s m below meth c ls C hP hr hl
  have hl : lv_has ls 1 [(0, .int v)] := hl
  refine x_sx C b_Mo_within_0_3 hl (L' := [(0, .int v)]) (st' := [.int (-32), .int v]) rfl (fun ls hl => ?_)
  refine lv_icmp_ge (tgt := 11) C.1 C.2.1 d_Mo_within_3 (by decide) (fun h1 => ?_) (fun h1 => ?_)
  · refine x_sx C b_Mo_within_11_14 hl (L' := [(0, .int v)]) (st' := [.int 31, .int v]) rfl (fun ls hl => ?_)
    refine lv_icmp_le (tgt := 22) C.1 C.2.1 d_Mo_within_14 (by decide) (fun h2 => ?_) (fun h2 => ?_)
    · refine x_sx C b_Mo_within_22_23 hl (L' := [(0, .int v)]) (st' := [.int v]) rfl (fun ls hl => ?_)
      exact x_iro C hr (by have q0 := h1; have q1 := h2; simp only [Int32.lt_iff_toInt_lt, Int32.le_iff_toInt_le, ← Int32.toInt_inj, Int32.reduceToInt] at q0 q1; simp only [p_wi, Int32.lt_iff_toInt_lt, Int32.le_iff_toInt_le, ← Int32.toInt_inj, Int32.reduceToInt]; repeat (first | rfl | omega | split)) d_Mo_within_23
    · refine x_sx C b_Mo_within_17_19 hl (L' := [(0, .int v)]) (st' := [.int 31]) rfl (fun ls hl => ?_)
      refine x_goto (tgt := 23) C d_Mo_within_19 (by decide) ?_
      exact x_iro C hr (by have q0 := h1; have q1 := h2; simp only [Int32.lt_iff_toInt_lt, Int32.le_iff_toInt_le, ← Int32.toInt_inj, Int32.reduceToInt] at q0 q1; simp only [p_wi, Int32.lt_iff_toInt_lt, Int32.le_iff_toInt_le, ← Int32.toInt_inj, Int32.reduceToInt]; repeat (first | rfl | omega | split)) d_Mo_within_23
  · refine x_sx C b_Mo_within_6_8 hl (L' := [(0, .int v)]) (st' := [.int (-32)]) rfl (fun ls hl => ?_)
    refine x_goto (tgt := 23) C d_Mo_within_8 (by decide) ?_
    exact x_iro C hr (by have q0 := h1; simp only [Int32.lt_iff_toInt_lt, Int32.le_iff_toInt_le, ← Int32.toInt_inj, Int32.reduceToInt] at q0; simp only [p_wi, Int32.lt_iff_toInt_lt, Int32.le_iff_toInt_le, ← Int32.toInt_inj, Int32.reduceToInt]; repeat (first | rfl | omega | split)) d_Mo_within_23
