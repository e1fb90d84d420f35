theorem hd_Mo_in : hdP y_Mo_in 3 := ⟨by decide +kernel, by decide +kernel, by decide +kernel⟩
theorem hd_SP_isIn : hdP y_SP_isIn 3 := ⟨by decide +kernel, by decide +kernel, by decide +kernel⟩
theorem hd_Mo_wrapped : hdP y_Mo_wrapped 1 := ⟨by decide +kernel, by decide +kernel, by decide +kernel⟩
theorem hd_Mo_within : hdP y_Mo_within 1 := ⟨by decide +kernel, by decide +kernel, by decide +kernel⟩
def csN (k : Nat) : Int32 := if k ≤ 16 then cosT k else if k ≤ 32 then -cosT (32 - k) else if k ≤ 48 then -cosT (k - 32) else cosT (64 - k)
/-- 4096 cosines of a direction -/
def p_dx (h : Int32) : Int32 := csN (h &&& 63).toNatClampNeg
def p_dy (h : Int32) : Int32 := p_dx (h + 48)
theorem dxN {h : Int32} {j : Nat} (hj : j < 64) (e : h &&& 63 = nI j) : p_dx h = csN j := by unfold p_dx; rw [e, nI_clamp (by omega)]
theorem and63 (h : Int32) : ∃ j : Nat, j < 64 ∧ h &&& 63 = nI j := pk_andE h 6 (by decide)
def p_ask (hd : Nat → Int32) (k : Nat) : Int32 := if k = 0 then 0 else p_wr (hd (k - 1) - hd k)
/-- is the point (4096ths) in the body's rectangle -/
def p_cov (x0 y0 h fr re ha px py : Int32) : Int32 :=
  if (-re).toInt64 * 16777216 ≤ (px - x0).toInt64 * (p_dx h).toInt64 + (py - y0).toInt64 * (p_dy h).toInt64 ∧
     (px - x0).toInt64 * (p_dx h).toInt64 + (py - y0).toInt64 * (p_dy h).toInt64 ≤ fr.toInt64 * 16777216 ∧
     (-ha).toInt64 * 16777216 ≤ (py - y0).toInt64 * (p_dx h).toInt64 - (px - x0).toInt64 * (p_dy h).toInt64 ∧
     (py - y0).toInt64 * (p_dx h).toInt64 - (px - x0).toInt64 * (p_dy h).toInt64 ≤ ha.toInt64 * 16777216 then 1 else 0
theorem lgl (x y : Int64) : lg_cmp x y < 0 ↔ ¬ y ≤ x := by
  rw [← lg_cmp_ge]; exact Int32.not_le.symm
theorem lgg (x y : Int64) : 0 < lg_cmp x y ↔ ¬ x ≤ y := by
  rw [← lg_cmp_le]; exact Int32.not_le.symm
def p_co (x : Int32) : Int32 := p_dn (p_dn x 4096) 8
theorem b_Mo_down_0_2 : decs prog_7_method_11_code [(.iload_n 0, 1), (.iload_n 1, 1)] 0 2 = true := by decide +kernel
theorem d_Mo_down_2 : decode prog_7_method_11_code 2 = .ok (.idiv, 1) := by decide +kernel
theorem b_Mo_down_3_8 : decs prog_7_method_11_code [(.istore_n 2, 1), (.iload_n 2, 1), (.iload_n 1, 1), (.imul, 1), (.iload_n 0, 1)] 3 8 = true := by decide +kernel
theorem d_Mo_down_8 : decode prog_7_method_11_code 8 = .ok (.if_icmp .le 9, 3) := by decide +kernel
theorem b_Mo_down_17_18 : decs prog_7_method_11_code [(.iload_n 2, 1)] 17 18 = true := by decide +kernel
theorem d_Mo_down_18 : decode prog_7_method_11_code 18 = .ok (.ireturn, 1) := by decide +kernel
theorem b_Mo_down_11_14 : decs prog_7_method_11_code [(.iload_n 2, 1), (.iconst 1, 1), (.isub, 1)] 11 14 = true := by decide +kernel
theorem d_Mo_down_14 : decode prog_7_method_11_code 14 = .ok (.goto 4, 3) := by decide +kernel
set_option maxRecDepth 100000 in
theorem c_Mo_down (l : Launch) (G : GG) (w : WF) (a b : Int32) (hb : ¬ b = 0) : Met l y_Mo_down (Cond.code y_Mo_down prog_7_method_11_code 3 (some FieldType.int) :: wt) { frames := 0, cells := 0, slots := 0, locals := 0 } (Pro G w [.int a, .int b]) (Qro (.int (p_dn a b))) 0 0 (fun _ => False) := by
  refine ro_of (by decide) (Nat.le_of_ble_eq_true rfl) ?_
  intro p e s m below meth c ls C hP hr hl
  have hl : lv_has ls 3 [(0, .int a), (1, .int b)] := hl
  refine x_sx C b_Mo_down_0_2 hl (L' := [(0, .int a), (1, .int b)]) (st' := [.int b, .int a]) rfl (fun ls hl => ?_)
  refine lv_idiv C.1 C.2.1 d_Mo_down_2 hb ?_
  refine x_sx C b_Mo_down_3_8 hl (L' := [(2, .int (a / b)), (0, .int a), (1, .int b)]) (st' := [.int a, .int ((a / b) * b)]) rfl (fun ls hl => ?_)
  refine lv_icmp_le (tgt := 17) C.1 C.2.1 d_Mo_down_8 (by decide) (fun h1 => ?_) (fun h1 => ?_)
  · refine x_sx C b_Mo_down_17_18 hl (L' := [(2, .int (a / b)), (0, .int a), (1, .int b)]) (st' := [.int (a / b)]) rfl (fun ls hl => ?_)
    exact x_iro C hr (by have q0 := h1; simp only [Int32.lt_iff_toInt_lt, Int32.le_iff_toInt_le, ← Int32.toInt_inj, Int32.reduceToInt] at q0; simp only [p_dn, Int32.lt_iff_toInt_lt, Int32.le_iff_toInt_le, ← Int32.toInt_inj, Int32.reduceToInt]; repeat (first | rfl | omega | split)) d_Mo_down_18
  · refine x_sx C b_Mo_down_11_14 hl (L' := [(2, .int (a / b)), (0, .int a), (1, .int b)]) (st' := [.int ((a / b) - 1)]) rfl (fun ls hl => ?_)
    refine x_goto (tgt := 18) C d_Mo_down_14 (by decide) ?_
    exact x_iro C hr (by have q0 := h1; simp only [Int32.lt_iff_toInt_lt, Int32.le_iff_toInt_le, ← Int32.toInt_inj, Int32.reduceToInt] at q0; simp only [p_dn, Int32.lt_iff_toInt_lt, Int32.le_iff_toInt_le, ← Int32.toInt_inj, Int32.reduceToInt]; repeat (first | rfl | omega | split)) d_Mo_down_18
theorem hd_Mo_down : hdP y_Mo_down 2 := ⟨by decide +kernel, by decide +kernel, by decide +kernel⟩
theorem b_Mo_cellOf_0_4 : decs prog_7_method_10_code [(.iload_n 0, 1), (.sipush 4096, 3)] 0 4 = true := by decide +kernel
theorem d_Mo_cellOf_4 : decode prog_7_method_10_code 4 = .ok (.invokestatic 102, 3) := by decide +kernel
theorem b_Mo_cellOf_7_11 : decs prog_7_method_10_code [(.istore_n 1, 1), (.iload_n 1, 1), (.bipush 8, 2)] 7 11 = true := by decide +kernel
theorem d_Mo_cellOf_11 : decode prog_7_method_10_code 11 = .ok (.invokestatic 102, 3) := by decide +kernel
theorem d_Mo_cellOf_14 : decode prog_7_method_10_code 14 = .ok (.ireturn, 1) := by decide +kernel
set_option maxRecDepth 100000 in
theorem c_Mo_cellOf (l : Launch) (G : GG) (w : WF) (x : Int32) : Met l y_Mo_cellOf (Cond.code y_Mo_cellOf prog_7_method_10_code 2 (some FieldType.int) :: wt) { frames := 1, cells := 0, slots := 0, locals := 22 } (Pro G w [.int x]) (Qro (.int (p_co x))) 0 0 (fun _ => False) := by
  refine ro_of (by decide) (Nat.le_of_ble_eq_true rfl) ?_
  intro p e s m below meth c ls C hP hr hl
  have hl : lv_has ls 2 [(0, .int x)] := hl
  refine x_sx C b_Mo_cellOf_0_4 hl (L' := [(0, .int x)]) (st' := [.int 4096, .int x]) rfl (fun ls hl => ?_)
  refine x_ro (x_cS C (c_Mo_down l G w x 4096 (by decide)) t_779 t_14 t_777 t_778 hd_Mo_down blind_Pro (pre_ro C hP va_S.rf) (As := [.int x, .int 4096]) (rest := []) rfl hl.1 rfl rfl rfl ⟨Nat.le_of_ble_eq_true rfl, Nat.le_of_ble_eq_true rfl⟩ (Nat.le_of_ble_eq_true rfl) ⟨Nat.zero_le _, Nat.zero_le _⟩ d_Mo_cellOf_4) ?_
  refine x_sx C b_Mo_cellOf_7_11 hl (L' := [(1, .int (p_dn x 4096)), (0, .int x)]) (st' := [.int 8, .int (p_dn x 4096)]) rfl (fun ls hl => ?_)
  refine x_ro (x_cS C (c_Mo_down l G w (p_dn x 4096) 8 (by decide)) t_779 t_14 t_777 t_778 hd_Mo_down blind_Pro (pre_ro C hP va_S.rf) (As := [.int (p_dn x 4096), .int 8]) (rest := []) rfl hl.1 rfl rfl rfl ⟨Nat.le_of_ble_eq_true rfl, Nat.le_of_ble_eq_true rfl⟩ (Nat.le_of_ble_eq_true rfl) ⟨Nat.zero_le _, Nat.zero_le _⟩ d_Mo_cellOf_11) ?_
  exact x_iro C hr rfl d_Mo_cellOf_14
theorem hd_Mo_cellOf : hdP y_Mo_cellOf 1 := ⟨by decide +kernel, by decide +kernel, by decide +kernel⟩
theorem b_Mo_dx_0_5 : decs prog_7_method_4_code [(.iload_n 1, 1), (.bipush 63, 2), (.iand, 1), (.istore_n 2, 1)] 0 5 = true := by decide +kernel
theorem b_Mo_dx_5_8 : decs prog_7_method_4_code [(.iload_n 2, 1), (.bipush 16, 2)] 5 8 = true := by decide +kernel
theorem d_Mo_dx_8 : decode prog_7_method_4_code 8 = .ok (.if_icmp .gt 10, 3) := by decide +kernel
theorem b_Mo_dx_18_21 : decs prog_7_method_4_code [(.iload_n 2, 1), (.bipush 32, 2)] 18 21 = true := by decide +kernel
theorem d_Mo_dx_21 : decode prog_7_method_4_code 21 = .ok (.if_icmp .gt 14, 3) := by decide +kernel
theorem b_Mo_dx_35_38 : decs prog_7_method_4_code [(.iload_n 2, 1), (.bipush 48, 2)] 35 38 = true := by decide +kernel
theorem d_Mo_dx_38 : decode prog_7_method_4_code 38 = .ok (.if_icmp .gt 16, 3) := by decide +kernel
theorem b_Mo_dx_54_55 : decs prog_7_method_4_code [(.aload_n 0, 1)] 54 55 = true := by decide +kernel
theorem d_Mo_dx_55 : decode prog_7_method_4_code 55 = .ok (.getfield 7, 3) := by decide +kernel
theorem b_Mo_dx_58_62 : decs prog_7_method_4_code [(.bipush 64, 2), (.iload_n 2, 1), (.isub, 1)] 58 62 = true := by decide +kernel
theorem d_Mo_dx_62 : decode prog_7_method_4_code 62 = .ok (.iaload, 1) := by decide +kernel
theorem d_Mo_dx_63 : decode prog_7_method_4_code 63 = .ok (.ireturn, 1) := by decide +kernel
theorem b_Mo_dx_41_42 : decs prog_7_method_4_code [(.aload_n 0, 1)] 41 42 = true := by decide +kernel
theorem d_Mo_dx_42 : decode prog_7_method_4_code 42 = .ok (.getfield 7, 3) := by decide +kernel
theorem b_Mo_dx_45_49 : decs prog_7_method_4_code [(.iload_n 2, 1), (.bipush 32, 2), (.isub, 1)] 45 49 = true := by decide +kernel
theorem d_Mo_dx_49 : decode prog_7_method_4_code 49 = .ok (.iaload, 1) := by decide +kernel
theorem b_Mo_dx_50_51 : decs prog_7_method_4_code [(.ineg, 1)] 50 51 = true := by decide +kernel
theorem d_Mo_dx_51 : decode prog_7_method_4_code 51 = .ok (.goto 12, 3) := by decide +kernel
theorem b_Mo_dx_24_25 : decs prog_7_method_4_code [(.aload_n 0, 1)] 24 25 = true := by decide +kernel
theorem d_Mo_dx_25 : decode prog_7_method_4_code 25 = .ok (.getfield 7, 3) := by decide +kernel
theorem b_Mo_dx_28_32 : decs prog_7_method_4_code [(.bipush 32, 2), (.iload_n 2, 1), (.isub, 1)] 28 32 = true := by decide +kernel
theorem d_Mo_dx_32 : decode prog_7_method_4_code 32 = .ok (.iaload, 1) := by decide +kernel
theorem b_Mo_dx_33_34 : decs prog_7_method_4_code [(.ineg, 1)] 33 34 = true := by decide +kernel
theorem d_Mo_dx_34 : decode prog_7_method_4_code 34 = .ok (.ireturn, 1) := by decide +kernel
theorem b_Mo_dx_11_12 : decs prog_7_method_4_code [(.aload_n 0, 1)] 11 12 = true := by decide +kernel
theorem d_Mo_dx_12 : decode prog_7_method_4_code 12 = .ok (.getfield 7, 3) := by decide +kernel
theorem b_Mo_dx_15_16 : decs prog_7_method_4_code [(.iload_n 2, 1)] 15 16 = true := by decide +kernel
theorem d_Mo_dx_16 : decode prog_7_method_4_code 16 = .ok (.iaload, 1) := by decide +kernel
theorem d_Mo_dx_17 : decode prog_7_method_4_code 17 = .ok (.ireturn, 1) := by decide +kernel
set_option maxRecDepth 100000 in
theorem c_Mo_dx (l : Launch) (G : GG) (ad : Nat → Nat) (w0 : WF) (sc : Nat → Int32) (ar : Nat → Nat → Int32) (h : Int32) : Met l y_Mo_dx (Cond.code y_Mo_dx prog_7_method_4_code 3 (some FieldType.int) :: wt) { frames := 0, cells := 0, slots := 0, locals := 0 } (Pro G (mW G ad w0 sc ar) [.ref (ad 20), .int h]) (Qro (.int (p_dx h))) 0 0 (fun _ => False) := by
  refine ro_of (by decide) (Nat.le_of_ble_eq_true rfl) ?_
  intro p e s m below meth c ls C hP hr hl
  have hl : lv_has ls 3 [(0, .ref (ad 20)), (1, .int h)] := hl
  obtain ⟨j, hj, ej⟩ := and63 h
  rw [dxN hj ej]
  refine x_sx C b_Mo_dx_0_5 hl (L' := [(2, .int (h &&& 63)), (0, .ref (ad 20)), (1, .int h)]) (st' := []) rfl (fun ls hl => ?_)
  have hl : lv_has ls 3 [(2, .int (nI j)), (0, .ref (ad 20)), (1, .int h)] := by rw [← ej]; exact hl
  refine x_sx C b_Mo_dx_5_8 hl (L' := [(2, .int (nI j)), (0, .ref (ad 20)), (1, .int h)]) (st' := [.int 16, .int (nI j)]) rfl (fun ls hl => ?_)
  refine lv_icmp_gt (tgt := 18) C.1 C.2.1 d_Mo_dx_8 (by decide) (fun h1 => ?_) (fun h1 => ?_)
  · have h1 : 16 < j := by have q := h1; simp only [Int32.lt_iff_toInt_lt, Int32.le_iff_toInt_le, nI_toInt (show j < 2 ^ 31 by omega), Int32.reduceToInt] at q; omega
    refine x_sx C b_Mo_dx_18_21 hl (L' := [(2, .int (nI j)), (0, .ref (ad 20)), (1, .int h)]) (st' := [.int 32, .int (nI j)]) rfl (fun ls hl => ?_)
    refine lv_icmp_gt (tgt := 35) C.1 C.2.1 d_Mo_dx_21 (by decide) (fun h2 => ?_) (fun h2 => ?_)
    · have h2 : 32 < j := by have q := h2; simp only [Int32.lt_iff_toInt_lt, Int32.le_iff_toInt_le, nI_toInt (show j < 2 ^ 31 by omega), Int32.reduceToInt] at q; omega
      refine x_sx C b_Mo_dx_35_38 hl (L' := [(2, .int (nI j)), (0, .ref (ad 20)), (1, .int h)]) (st' := [.int 48, .int (nI j)]) rfl (fun ls hl => ?_)
      refine lv_icmp_gt (tgt := 54) C.1 C.2.1 d_Mo_dx_38 (by decide) (fun h3 => ?_) (fun h3 => ?_)
      · have h3 : 48 < j := by have q := h3; simp only [Int32.lt_iff_toInt_lt, Int32.le_iff_toInt_le, nI_toInt (show j < 2 ^ 31 by omega), Int32.reduceToInt] at q; omega
        refine x_sx C b_Mo_dx_54_55 hl (L' := [(2, .int (nI j)), (0, .ref (ad 20)), (1, .int h)]) (st' := [.ref (ad 20)]) rfl (fun ls hl => ?_)
        refine x_get C hP 1000 mW_o 1 (v := .ref (ad 0)) rfl rfl (by decide) t_643 (fun _ z => z) d_Mo_dx_55 ?_
        refine x_sx C b_Mo_dx_58_62 hl (L' := [(2, .int (nI j)), (0, .ref (ad 20)), (1, .int h)]) (st' := [.int (64 - (nI j)), .ref (ad 0)]) rfl (fun ls hl => ?_)
        refine x_ald C hP 1001 mW_c (j := (64 - j)) (pk_sub (a := 64) (b := j) (by omega)) (by omega) (by decide) d_Mo_dx_62 ?_
        exact x_iro C hr (by unfold csN; repeat (first | rfl | omega | split)) d_Mo_dx_63
      · have h3 : j ≤ 48 := by have q := h3; simp only [Int32.lt_iff_toInt_lt, Int32.le_iff_toInt_le, nI_toInt (show j < 2 ^ 31 by omega), Int32.reduceToInt] at q; omega
        refine x_sx C b_Mo_dx_41_42 hl (L' := [(2, .int (nI j)), (0, .ref (ad 20)), (1, .int h)]) (st' := [.ref (ad 20)]) rfl (fun ls hl => ?_)
        refine x_get C hP 1000 mW_o 1 (v := .ref (ad 0)) rfl rfl (by decide) t_643 (fun _ z => z) d_Mo_dx_42 ?_
        refine x_sx C b_Mo_dx_45_49 hl (L' := [(2, .int (nI j)), (0, .ref (ad 20)), (1, .int h)]) (st' := [.int ((nI j) - 32), .ref (ad 0)]) rfl (fun ls hl => ?_)
        refine x_ald C hP 1001 mW_c (j := (j - 32)) (pk_sub (a := j) (b := 32) (by omega)) (by omega) (by decide) d_Mo_dx_49 ?_
        refine x_sx C b_Mo_dx_50_51 hl (L' := [(2, .int (nI j)), (0, .ref (ad 20)), (1, .int h)]) (st' := [.int (-(cosT (j - 32)))]) rfl (fun ls hl => ?_)
        refine x_goto (tgt := 63) C d_Mo_dx_51 (by decide) ?_
        exact x_iro C hr (by unfold csN; repeat (first | rfl | omega | split)) d_Mo_dx_63
    · have h2 : j ≤ 32 := by have q := h2; simp only [Int32.lt_iff_toInt_lt, Int32.le_iff_toInt_le, nI_toInt (show j < 2 ^ 31 by omega), Int32.reduceToInt] at q; omega
      refine x_sx C b_Mo_dx_24_25 hl (L' := [(2, .int (nI j)), (0, .ref (ad 20)), (1, .int h)]) (st' := [.ref (ad 20)]) rfl (fun ls hl => ?_)
      refine x_get C hP 1000 mW_o 1 (v := .ref (ad 0)) rfl rfl (by decide) t_643 (fun _ z => z) d_Mo_dx_25 ?_
      refine x_sx C b_Mo_dx_28_32 hl (L' := [(2, .int (nI j)), (0, .ref (ad 20)), (1, .int h)]) (st' := [.int (32 - (nI j)), .ref (ad 0)]) rfl (fun ls hl => ?_)
      refine x_ald C hP 1001 mW_c (j := (32 - j)) (pk_sub (a := 32) (b := j) (by omega)) (by omega) (by decide) d_Mo_dx_32 ?_
      refine x_sx C b_Mo_dx_33_34 hl (L' := [(2, .int (nI j)), (0, .ref (ad 20)), (1, .int h)]) (st' := [.int (-(cosT (32 - j)))]) rfl (fun ls hl => ?_)
      exact x_iro C hr (by unfold csN; repeat (first | rfl | omega | split)) d_Mo_dx_34
  · have h1 : j ≤ 16 := by have q := h1; simp only [Int32.lt_iff_toInt_lt, Int32.le_iff_toInt_le, nI_toInt (show j < 2 ^ 31 by omega), Int32.reduceToInt] at q; omega
    refine x_sx C b_Mo_dx_11_12 hl (L' := [(2, .int (nI j)), (0, .ref (ad 20)), (1, .int h)]) (st' := [.ref (ad 20)]) rfl (fun ls hl => ?_)
    refine x_get C hP 1000 mW_o 1 (v := .ref (ad 0)) rfl rfl (by decide) t_643 (fun _ z => z) d_Mo_dx_12 ?_
    refine x_sx C b_Mo_dx_15_16 hl (L' := [(2, .int (nI j)), (0, .ref (ad 20)), (1, .int h)]) (st' := [.int (nI j), .ref (ad 0)]) rfl (fun ls hl => ?_)
    refine x_ald C hP 1001 mW_c (j := j) rfl (by omega) (by decide) d_Mo_dx_16 ?_
    exact x_iro C hr (by unfold csN; repeat (first | rfl | omega | split)) d_Mo_dx_17
theorem hd_Mo_dx : hdP y_Mo_dx 1 := ⟨by decide +kernel, by decide +kernel, by decide +kernel⟩
theorem b_Mo_dy_0_5 : decs prog_7_method_5_code [(.aload_n 0, 1), (.iload_n 1, 1), (.bipush 48, 2), (.iadd, 1)] 0 5 = true := by decide +kernel
theorem d_Mo_dy_5 : decode prog_7_method_5_code 5 = .ok (.invokevirtual 90, 3) := by decide +kernel
theorem d_Mo_dy_8 : decode prog_7_method_5_code 8 = .ok (.ireturn, 1) := by decide +kernel
set_option maxRecDepth 100000 in
theorem c_Mo_dy (l : Launch) (G : GG) (ad : Nat → Nat) (w0 : WF) (sc : Nat → Int32) (ar : Nat → Nat → Int32) (h : Int32) : Met l y_Mo_dy (Cond.code y_Mo_dy prog_7_method_5_code 2 (some FieldType.int) :: wt) { frames := 1, cells := 0, slots := 0, locals := 22 } (Pro G (mW G ad w0 sc ar) [.ref (ad 20), .int h]) (Qro (.int (p_dy h))) 0 0 (fun _ => False) := by
  refine ro_of (by decide) (Nat.le_of_ble_eq_true rfl) ?_
  intro p e s m below meth c ls C hP hr hl
  have hl : lv_has ls 2 [(0, .ref (ad 20)), (1, .int h)] := hl
  refine x_sx C b_Mo_dy_0_5 hl (L' := [(0, .ref (ad 20)), (1, .int h)]) (st' := [.int (h + 48), .ref (ad 20)]) rfl (fun ls hl => ?_)
  refine x_ro (x_cV C hP mW_o rfl (c_Mo_dx l G ad w0 sc ar (h + 48)) t_765 t_14 t_762 t_764 ts_16 hd_Mo_dx blind_Pro (pre_ro C hP va_S.rf) (As := [.int (h + 48)]) (rest := []) rfl hl.1 rfl rfl rfl ⟨Nat.le_of_ble_eq_true rfl, Nat.le_of_ble_eq_true rfl⟩ (Nat.le_of_ble_eq_true rfl) ⟨Nat.zero_le _, Nat.zero_le _⟩ d_Mo_dy_5) ?_
  exact x_iro C hr rfl d_Mo_dy_8
theorem hd_Mo_dy : hdP y_Mo_dy 1 := ⟨by decide +kernel, by decide +kernel, by decide +kernel⟩
theorem b_Mo_askewOf_0_1 : decs prog_7_method_7_code [(.iload_n 1, 1)] 0 1 = true := by decide +kernel
theorem d_Mo_askewOf_1 : decode prog_7_method_7_code 1 = .ok (.ifCond .ne 7, 3) := by decide +kernel
theorem b_Mo_askewOf_8_9 : decs prog_7_method_7_code [(.aload_n 0, 1)] 8 9 = true := by decide +kernel
theorem d_Mo_askewOf_9 : decode prog_7_method_7_code 9 = .ok (.getfield 57, 3) := by decide +kernel
theorem b_Mo_askewOf_12_15 : decs prog_7_method_7_code [(.iload_n 1, 1), (.iconst 1, 1), (.isub, 1)] 12 15 = true := by decide +kernel
theorem d_Mo_askewOf_15 : decode prog_7_method_7_code 15 = .ok (.iaload, 1) := by decide +kernel
theorem b_Mo_askewOf_16_17 : decs prog_7_method_7_code [(.aload_n 0, 1)] 16 17 = true := by decide +kernel
theorem d_Mo_askewOf_17 : decode prog_7_method_7_code 17 = .ok (.getfield 57, 3) := by decide +kernel
theorem b_Mo_askewOf_20_21 : decs prog_7_method_7_code [(.iload_n 1, 1)] 20 21 = true := by decide +kernel
theorem d_Mo_askewOf_21 : decode prog_7_method_7_code 21 = .ok (.iaload, 1) := by decide +kernel
theorem b_Mo_askewOf_22_23 : decs prog_7_method_7_code [(.isub, 1)] 22 23 = true := by decide +kernel
theorem d_Mo_askewOf_23 : decode prog_7_method_7_code 23 = .ok (.invokestatic 94, 3) := by decide +kernel
theorem d_Mo_askewOf_26 : decode prog_7_method_7_code 26 = .ok (.ireturn, 1) := by decide +kernel
theorem b_Mo_askewOf_4_5 : decs prog_7_method_7_code [(.iconst 0, 1)] 4 5 = true := by decide +kernel
theorem d_Mo_askewOf_5 : decode prog_7_method_7_code 5 = .ok (.goto 21, 3) := by decide +kernel
set_option maxRecDepth 100000 in
theorem c_Mo_askewOf (l : Launch) (G : GG) (ad : Nat → Nat) (w0 : WF) (sc : Nat → Int32) (ar : Nat → Nat → Int32) (k : Nat) (hk : k < 3) : Met l y_Mo_askewOf (Cond.code y_Mo_askewOf prog_7_method_7_code 2 (some FieldType.int) :: wt) { frames := 1, cells := 0, slots := 0, locals := 20 } (Pro G (mW G ad w0 sc ar) [.ref (ad 20), .int (nI k)]) (Qro (.int (p_ask (ar 14) k))) 0 0 (fun _ => False) := by
  refine ro_of (by decide) (Nat.le_of_ble_eq_true rfl) ?_
  intro p e s m below meth c ls C hP hr hl
  have hl : lv_has ls 2 [(0, .ref (ad 20)), (1, .int (nI k))] := hl
  refine x_sx C b_Mo_askewOf_0_1 hl (L' := [(0, .ref (ad 20)), (1, .int (nI k))]) (st' := [.int (nI k)]) rfl (fun ls hl => ?_)
  refine lv_if_ne (tgt := 8) C.1 C.2.1 d_Mo_askewOf_1 (by decide) (fun h1 => ?_) (fun h1 => ?_)
  · have h1 : k ≠ 0 := fun z => h1 (by rw [z]; rfl)
    refine x_sx C b_Mo_askewOf_8_9 hl (L' := [(0, .ref (ad 20)), (1, .int (nI k))]) (st' := [.ref (ad 20)]) rfl (fun ls hl => ?_)
    refine x_get C hP 1000 mW_o 21 (v := .ref (ad 14)) rfl rfl (by decide) t_663 (fun _ z => z) d_Mo_askewOf_9 ?_
    refine x_sx C b_Mo_askewOf_12_15 hl (L' := [(0, .ref (ad 20)), (1, .int (nI k))]) (st' := [.int ((nI k) - 1), .ref (ad 14)]) rfl (fun ls hl => ?_)
    refine x_ald C hP (1001 + 14) (mW_i 14 (by decide) (by decide) rfl rfl rfl) (N := 3) (f := (ar 14)) (j := (k - 1)) (pk_sub (a := k) (b := 1) (by omega)) (by omega) (by decide) d_Mo_askewOf_15 ?_
    refine x_sx C b_Mo_askewOf_16_17 hl (L' := [(0, .ref (ad 20)), (1, .int (nI k))]) (st' := [.ref (ad 20), .int (ar 14 (k - 1))]) rfl (fun ls hl => ?_)
    refine x_get C hP 1000 mW_o 21 (v := .ref (ad 14)) rfl rfl (by decide) t_663 (fun _ z => z) d_Mo_askewOf_17 ?_
    refine x_sx C b_Mo_askewOf_20_21 hl (L' := [(0, .ref (ad 20)), (1, .int (nI k))]) (st' := [.int (nI k), .ref (ad 14), .int (ar 14 (k - 1))]) rfl (fun ls hl => ?_)
    refine x_ald C hP (1001 + 14) (mW_i 14 (by decide) (by decide) rfl rfl rfl) (N := 3) (f := (ar 14)) (j := k) rfl hk (by decide) d_Mo_askewOf_21 ?_
    refine x_sx C b_Mo_askewOf_22_23 hl (L' := [(0, .ref (ad 20)), (1, .int (nI k))]) (st' := [.int ((ar 14 (k - 1)) - (ar 14 k))]) rfl (fun ls hl => ?_)
    refine x_ro (x_cS C (c_Mo_wrapped l G (mW G ad w0 sc ar) ((ar 14 (k - 1)) - (ar 14 k))) t_818 t_14 t_816 t_817 hd_Mo_wrapped blind_Pro (pre_ro C hP va_S.rf) (As := [.int ((ar 14 (k - 1)) - (ar 14 k))]) (rest := []) rfl hl.1 rfl rfl rfl ⟨Nat.le_of_ble_eq_true rfl, Nat.le_of_ble_eq_true rfl⟩ (Nat.le_of_ble_eq_true rfl) ⟨Nat.zero_le _, Nat.zero_le _⟩ d_Mo_askewOf_23) ?_
    exact x_iro C hr (by unfold p_ask; rw [if_neg h1]) d_Mo_askewOf_26
  · have h1 : k = 0 := by have q := h1; rw [show (0 : Int32) = nI 0 from rfl, nI_eq (by omega) (by omega)] at q; exact q
    refine x_sx C b_Mo_askewOf_4_5 hl (L' := [(0, .ref (ad 20)), (1, .int (nI k))]) (st' := [.int 0]) rfl (fun ls hl => ?_)
    refine x_goto (tgt := 26) C d_Mo_askewOf_5 (by decide) ?_
    exact x_iro C hr (by unfold p_ask; rw [if_pos h1]) d_Mo_askewOf_26
theorem hd_Mo_askewOf : hdP y_Mo_askewOf 1 := ⟨by decide +kernel, by decide +kernel, by decide +kernel⟩
theorem b_Mo_covers_0_2 : decs prog_7_method_9_code [(.iload_n 2, 1), (.aload_n 0, 1)] 0 2 = true := by decide +kernel
theorem d_Mo_covers_2 : decode prog_7_method_9_code 2 = .ok (.getfield 51, 3) := by decide +kernel
theorem b_Mo_covers_5_6 : decs prog_7_method_9_code [(.iload_n 1, 1)] 5 6 = true := by decide +kernel
theorem d_Mo_covers_6 : decode prog_7_method_9_code 6 = .ok (.iaload, 1) := by decide +kernel
theorem b_Mo_covers_7_13 : decs prog_7_method_9_code [(.isub, 1), (.i2l, 1), (.lstore 4, 2), (.iload_n 3, 1), (.aload_n 0, 1)] 7 13 = true := by decide +kernel
theorem d_Mo_covers_13 : decode prog_7_method_9_code 13 = .ok (.getfield 54, 3) := by decide +kernel
theorem b_Mo_covers_16_17 : decs prog_7_method_9_code [(.iload_n 1, 1)] 16 17 = true := by decide +kernel
theorem d_Mo_covers_17 : decode prog_7_method_9_code 17 = .ok (.iaload, 1) := by decide +kernel
theorem b_Mo_covers_18_24 : decs prog_7_method_9_code [(.isub, 1), (.i2l, 1), (.lstore 6, 2), (.aload_n 0, 1), (.aload_n 0, 1)] 18 24 = true := by decide +kernel
theorem d_Mo_covers_24 : decode prog_7_method_9_code 24 = .ok (.getfield 57, 3) := by decide +kernel
theorem b_Mo_covers_27_28 : decs prog_7_method_9_code [(.iload_n 1, 1)] 27 28 = true := by decide +kernel
theorem d_Mo_covers_28 : decode prog_7_method_9_code 28 = .ok (.iaload, 1) := by decide +kernel
theorem d_Mo_covers_29 : decode prog_7_method_9_code 29 = .ok (.invokevirtual 90, 3) := by decide +kernel
theorem b_Mo_covers_32_37 : decs prog_7_method_9_code [(.i2l, 1), (.lstore 8, 2), (.aload_n 0, 1), (.aload_n 0, 1)] 32 37 = true := by decide +kernel
theorem d_Mo_covers_37 : decode prog_7_method_9_code 37 = .ok (.getfield 57, 3) := by decide +kernel
theorem b_Mo_covers_40_41 : decs prog_7_method_9_code [(.iload_n 1, 1)] 40 41 = true := by decide +kernel
theorem d_Mo_covers_41 : decode prog_7_method_9_code 41 = .ok (.iaload, 1) := by decide +kernel
theorem d_Mo_covers_42 : decode prog_7_method_9_code 42 = .ok (.invokevirtual 97, 3) := by decide +kernel
theorem b_Mo_covers_45_77 : decs prog_7_method_9_code [(.i2l, 1), (.lstore 10, 2), (.lload 4, 2), (.lload 8, 2), (.lmul, 1), (.lload 6, 2), (.lload 10, 2), (.lmul, 1), (.ladd, 1), (.lstore 12, 2), (.lload 6, 2), (.lload 8, 2), (.lmul, 1), (.lload 4, 2), (.lload 10, 2), (.lmul, 1), (.lsub, 1), (.lstore 14, 2), (.lload 12, 2), (.aload_n 0, 1)] 45 77 = true := by decide +kernel
theorem d_Mo_covers_77 : decode prog_7_method_9_code 77 = .ok (.getfield 22, 3) := by decide +kernel
theorem b_Mo_covers_80_81 : decs prog_7_method_9_code [(.iload_n 1, 1)] 80 81 = true := by decide +kernel
theorem d_Mo_covers_81 : decode prog_7_method_9_code 81 = .ok (.iaload, 1) := by decide +kernel
theorem b_Mo_covers_82_84 : decs prog_7_method_9_code [(.ineg, 1), (.i2l, 1)] 82 84 = true := by decide +kernel
theorem d_Mo_covers_84 : decode prog_7_method_9_code 84 = .ok (.ldc2_w 100, 3) := by decide +kernel
theorem b_Mo_covers_87_89 : decs prog_7_method_9_code [(.lmul, 1), (.lcmp, 1)] 87 89 = true := by decide +kernel
theorem d_Mo_covers_89 : decode prog_7_method_9_code 89 = .ok (.ifCond .lt 59, 3) := by decide +kernel
theorem b_Mo_covers_148_149 : decs prog_7_method_9_code [(.iconst 0, 1)] 148 149 = true := by decide +kernel
theorem d_Mo_covers_149 : decode prog_7_method_9_code 149 = .ok (.ireturn, 1) := by decide +kernel
theorem b_Mo_covers_92_95 : decs prog_7_method_9_code [(.lload 12, 2), (.aload_n 0, 1)] 92 95 = true := by decide +kernel
theorem d_Mo_covers_95 : decode prog_7_method_9_code 95 = .ok (.getfield 19, 3) := by decide +kernel
theorem b_Mo_covers_98_99 : decs prog_7_method_9_code [(.iload_n 1, 1)] 98 99 = true := by decide +kernel
theorem d_Mo_covers_99 : decode prog_7_method_9_code 99 = .ok (.iaload, 1) := by decide +kernel
theorem b_Mo_covers_100_101 : decs prog_7_method_9_code [(.i2l, 1)] 100 101 = true := by decide +kernel
theorem d_Mo_covers_101 : decode prog_7_method_9_code 101 = .ok (.ldc2_w 100, 3) := by decide +kernel
theorem b_Mo_covers_104_106 : decs prog_7_method_9_code [(.lmul, 1), (.lcmp, 1)] 104 106 = true := by decide +kernel
theorem d_Mo_covers_106 : decode prog_7_method_9_code 106 = .ok (.ifCond .gt 42, 3) := by decide +kernel
theorem b_Mo_covers_109_112 : decs prog_7_method_9_code [(.lload 14, 2), (.aload_n 0, 1)] 109 112 = true := by decide +kernel
theorem d_Mo_covers_112 : decode prog_7_method_9_code 112 = .ok (.getfield 25, 3) := by decide +kernel
theorem b_Mo_covers_115_116 : decs prog_7_method_9_code [(.iload_n 1, 1)] 115 116 = true := by decide +kernel
theorem d_Mo_covers_116 : decode prog_7_method_9_code 116 = .ok (.iaload, 1) := by decide +kernel
theorem b_Mo_covers_117_119 : decs prog_7_method_9_code [(.ineg, 1), (.i2l, 1)] 117 119 = true := by decide +kernel
theorem d_Mo_covers_119 : decode prog_7_method_9_code 119 = .ok (.ldc2_w 100, 3) := by decide +kernel
theorem b_Mo_covers_122_124 : decs prog_7_method_9_code [(.lmul, 1), (.lcmp, 1)] 122 124 = true := by decide +kernel
theorem d_Mo_covers_124 : decode prog_7_method_9_code 124 = .ok (.ifCond .lt 24, 3) := by decide +kernel
theorem b_Mo_covers_127_130 : decs prog_7_method_9_code [(.lload 14, 2), (.aload_n 0, 1)] 127 130 = true := by decide +kernel
theorem d_Mo_covers_130 : decode prog_7_method_9_code 130 = .ok (.getfield 25, 3) := by decide +kernel
theorem b_Mo_covers_133_134 : decs prog_7_method_9_code [(.iload_n 1, 1)] 133 134 = true := by decide +kernel
theorem d_Mo_covers_134 : decode prog_7_method_9_code 134 = .ok (.iaload, 1) := by decide +kernel
theorem b_Mo_covers_135_136 : decs prog_7_method_9_code [(.i2l, 1)] 135 136 = true := by decide +kernel
theorem d_Mo_covers_136 : decode prog_7_method_9_code 136 = .ok (.ldc2_w 100, 3) := by decide +kernel
theorem b_Mo_covers_139_141 : decs prog_7_method_9_code [(.lmul, 1), (.lcmp, 1)] 139 141 = true := by decide +kernel
theorem d_Mo_covers_141 : decode prog_7_method_9_code 141 = .ok (.ifCond .gt 7, 3) := by decide +kernel
theorem b_Mo_covers_144_145 : decs prog_7_method_9_code [(.iconst 1, 1)] 144 145 = true := by decide +kernel
theorem d_Mo_covers_145 : decode prog_7_method_9_code 145 = .ok (.goto 4, 3) := by decide +kernel
set_option maxRecDepth 100000 in
theorem c_Mo_covers (l : Launch) (G : GG) (ad : Nat → Nat) (w0 : WF) (sc : Nat → Int32) (ar : Nat → Nat → Int32) (k : Nat) (px py : Int32) (hk : k < 3) : Met l y_Mo_covers (Cond.code y_Mo_covers prog_7_method_9_code 16 (some FieldType.boolean) :: wt) { frames := 2, cells := 0, slots := 0, locals := 43 } (Pro G (mW G ad w0 sc ar) [.ref (ad 20), .int (nI k), .int px, .int py]) (Qro (.int (p_cov (ar 12 k) (ar 13 k) (ar 14 k) (ar 3 k) (ar 4 k) (ar 5 k) px py))) 0 0 (fun _ => False) := by
  refine ro_of (by decide) (Nat.le_of_ble_eq_true rfl) ?_
  intro p e s m below meth c ls C hP hr hl
  have hl : lv_has ls 16 [(0, .ref (ad 20)), (1, .int (nI k)), (2, .int px), (3, .int py)] := hl
  refine x_sx C b_Mo_covers_0_2 hl (L' := [(0, .ref (ad 20)), (1, .int (nI k)), (2, .int px), (3, .int py)]) (st' := [.ref (ad 20), .int px]) rfl (fun ls hl => ?_)
  refine x_get C hP 1000 mW_o 19 (v := .ref (ad 12)) rfl rfl (by decide) t_661 (fun _ z => z) d_Mo_covers_2 ?_
  refine x_sx C b_Mo_covers_5_6 hl (L' := [(0, .ref (ad 20)), (1, .int (nI k)), (2, .int px), (3, .int py)]) (st' := [.int (nI k), .ref (ad 12), .int px]) rfl (fun ls hl => ?_)
  refine x_ald C hP (1001 + 12) (mW_i 12 (by decide) (by decide) rfl rfl rfl) (N := 3) (f := (ar 12)) (j := k) rfl hk (by decide) d_Mo_covers_6 ?_
  refine x_sx C b_Mo_covers_7_13 hl (L' := [(4, .long (px - (ar 12 k)).toInt64), (0, .ref (ad 20)), (1, .int (nI k)), (2, .int px), (3, .int py)]) (st' := [.ref (ad 20), .int py]) rfl (fun ls hl => ?_)
  refine x_get C hP 1000 mW_o 20 (v := .ref (ad 13)) rfl rfl (by decide) t_662 (fun _ z => z) d_Mo_covers_13 ?_
  refine x_sx C b_Mo_covers_16_17 hl (L' := [(4, .long (px - (ar 12 k)).toInt64), (0, .ref (ad 20)), (1, .int (nI k)), (2, .int px), (3, .int py)]) (st' := [.int (nI k), .ref (ad 13), .int py]) rfl (fun ls hl => ?_)
  refine x_ald C hP (1001 + 13) (mW_i 13 (by decide) (by decide) rfl rfl rfl) (N := 3) (f := (ar 13)) (j := k) rfl hk (by decide) d_Mo_covers_17 ?_
  refine x_sx C b_Mo_covers_18_24 hl (L' := [(6, .long (py - (ar 13 k)).toInt64), (4, .long (px - (ar 12 k)).toInt64), (0, .ref (ad 20)), (1, .int (nI k)), (2, .int px), (3, .int py)]) (st' := [.ref (ad 20), .ref (ad 20)]) rfl (fun ls hl => ?_)
  refine x_get C hP 1000 mW_o 21 (v := .ref (ad 14)) rfl rfl (by decide) t_663 (fun _ z => z) d_Mo_covers_24 ?_
  refine x_sx C b_Mo_covers_27_28 hl (L' := [(6, .long (py - (ar 13 k)).toInt64), (4, .long (px - (ar 12 k)).toInt64), (0, .ref (ad 20)), (1, .int (nI k)), (2, .int px), (3, .int py)]) (st' := [.int (nI k), .ref (ad 14), .ref (ad 20)]) rfl (fun ls hl => ?_)
  refine x_ald C hP (1001 + 14) (mW_i 14 (by decide) (by decide) rfl rfl rfl) (N := 3) (f := (ar 14)) (j := k) rfl hk (by decide) d_Mo_covers_28 ?_
  refine x_ro (x_cV C hP mW_o rfl (c_Mo_dx l G ad w0 sc ar (ar 14 k)) t_765 t_14 t_762 t_764 ts_16 hd_Mo_dx blind_Pro (pre_ro C hP va_S.rf) (As := [.int (ar 14 k)]) (rest := []) rfl hl.1 rfl rfl rfl ⟨Nat.le_of_ble_eq_true rfl, Nat.le_of_ble_eq_true rfl⟩ (Nat.le_of_ble_eq_true rfl) ⟨Nat.zero_le _, Nat.zero_le _⟩ d_Mo_covers_29) ?_
  refine x_sx C b_Mo_covers_32_37 hl (L' := [(8, .long (p_dx (ar 14 k)).toInt64), (6, .long (py - (ar 13 k)).toInt64), (4, .long (px - (ar 12 k)).toInt64), (0, .ref (ad 20)), (1, .int (nI k)), (2, .int px), (3, .int py)]) (st' := [.ref (ad 20), .ref (ad 20)]) rfl (fun ls hl => ?_)
  refine x_get C hP 1000 mW_o 21 (v := .ref (ad 14)) rfl rfl (by decide) t_663 (fun _ z => z) d_Mo_covers_37 ?_
  refine x_sx C b_Mo_covers_40_41 hl (L' := [(8, .long (p_dx (ar 14 k)).toInt64), (6, .long (py - (ar 13 k)).toInt64), (4, .long (px - (ar 12 k)).toInt64), (0, .ref (ad 20)), (1, .int (nI k)), (2, .int px), (3, .int py)]) (st' := [.int (nI k), .ref (ad 14), .ref (ad 20)]) rfl (fun ls hl => ?_)
  refine x_ald C hP (1001 + 14) (mW_i 14 (by decide) (by decide) rfl rfl rfl) (N := 3) (f := (ar 14)) (j := k) rfl hk (by decide) d_Mo_covers_41 ?_
  refine x_ro (x_cV C hP mW_o rfl (c_Mo_dy l G ad w0 sc ar (ar 14 k)) t_769 t_14 t_766 t_768 ts_17 hd_Mo_dy blind_Pro (pre_ro C hP va_S.rf) (As := [.int (ar 14 k)]) (rest := []) rfl hl.1 rfl rfl rfl ⟨Nat.le_of_ble_eq_true rfl, Nat.le_of_ble_eq_true rfl⟩ (Nat.le_of_ble_eq_true rfl) ⟨Nat.zero_le _, Nat.zero_le _⟩ d_Mo_covers_42) ?_
  refine x_sx C b_Mo_covers_45_77 hl (L' := [(14, .long (((py - (ar 13 k)).toInt64 * (p_dx (ar 14 k)).toInt64) - ((px - (ar 12 k)).toInt64 * (p_dy (ar 14 k)).toInt64))), (12, .long (((px - (ar 12 k)).toInt64 * (p_dx (ar 14 k)).toInt64) + ((py - (ar 13 k)).toInt64 * (p_dy (ar 14 k)).toInt64))), (10, .long (p_dy (ar 14 k)).toInt64), (8, .long (p_dx (ar 14 k)).toInt64), (6, .long (py - (ar 13 k)).toInt64), (4, .long (px - (ar 12 k)).toInt64), (0, .ref (ad 20)), (1, .int (nI k)), (2, .int px), (3, .int py)]) (st' := [.ref (ad 20), .long (((px - (ar 12 k)).toInt64 * (p_dx (ar 14 k)).toInt64) + ((py - (ar 13 k)).toInt64 * (p_dy (ar 14 k)).toInt64))]) rfl (fun ls hl => ?_)
  refine x_get C hP 1000 mW_o 6 (v := .ref (ad 4)) rfl rfl (by decide) t_648 (fun _ z => z) d_Mo_covers_77 ?_
  refine x_sx C b_Mo_covers_80_81 hl (L' := [(14, .long (((py - (ar 13 k)).toInt64 * (p_dx (ar 14 k)).toInt64) - ((px - (ar 12 k)).toInt64 * (p_dy (ar 14 k)).toInt64))), (12, .long (((px - (ar 12 k)).toInt64 * (p_dx (ar 14 k)).toInt64) + ((py - (ar 13 k)).toInt64 * (p_dy (ar 14 k)).toInt64))), (10, .long (p_dy (ar 14 k)).toInt64), (8, .long (p_dx (ar 14 k)).toInt64), (6, .long (py - (ar 13 k)).toInt64), (4, .long (px - (ar 12 k)).toInt64), (0, .ref (ad 20)), (1, .int (nI k)), (2, .int px), (3, .int py)]) (st' := [.int (nI k), .ref (ad 4), .long (((px - (ar 12 k)).toInt64 * (p_dx (ar 14 k)).toInt64) + ((py - (ar 13 k)).toInt64 * (p_dy (ar 14 k)).toInt64))]) rfl (fun ls hl => ?_)
  refine x_ald C hP (1001 + 4) (mW_i 4 (by decide) (by decide) rfl rfl rfl) (N := 3) (f := (ar 4)) (j := k) rfl hk (by decide) d_Mo_covers_81 ?_
  refine x_sx C b_Mo_covers_82_84 hl (L' := [(14, .long (((py - (ar 13 k)).toInt64 * (p_dx (ar 14 k)).toInt64) - ((px - (ar 12 k)).toInt64 * (p_dy (ar 14 k)).toInt64))), (12, .long (((px - (ar 12 k)).toInt64 * (p_dx (ar 14 k)).toInt64) + ((py - (ar 13 k)).toInt64 * (p_dy (ar 14 k)).toInt64))), (10, .long (p_dy (ar 14 k)).toInt64), (8, .long (p_dx (ar 14 k)).toInt64), (6, .long (py - (ar 13 k)).toInt64), (4, .long (px - (ar 12 k)).toInt64), (0, .ref (ad 20)), (1, .int (nI k)), (2, .int px), (3, .int py)]) (st' := [.long (-(ar 4 k)).toInt64, .long (((px - (ar 12 k)).toInt64 * (p_dx (ar 14 k)).toInt64) + ((py - (ar 13 k)).toInt64 * (p_dy (ar 14 k)).toInt64))]) rfl (fun ls hl => ?_)
  refine lv_ldc2 C.1 C.2.1 C.2.2.2.1 (C.ts t_787) d_Mo_covers_84 ?_
  refine x_sx C b_Mo_covers_87_89 hl (L' := [(14, .long (((py - (ar 13 k)).toInt64 * (p_dx (ar 14 k)).toInt64) - ((px - (ar 12 k)).toInt64 * (p_dy (ar 14 k)).toInt64))), (12, .long (((px - (ar 12 k)).toInt64 * (p_dx (ar 14 k)).toInt64) + ((py - (ar 13 k)).toInt64 * (p_dy (ar 14 k)).toInt64))), (10, .long (p_dy (ar 14 k)).toInt64), (8, .long (p_dx (ar 14 k)).toInt64), (6, .long (py - (ar 13 k)).toInt64), (4, .long (px - (ar 12 k)).toInt64), (0, .ref (ad 20)), (1, .int (nI k)), (2, .int px), (3, .int py)]) (st' := [.int (lg_cmp (((px - (ar 12 k)).toInt64 * (p_dx (ar 14 k)).toInt64) + ((py - (ar 13 k)).toInt64 * (p_dy (ar 14 k)).toInt64)) ((-(ar 4 k)).toInt64 * 16777216))]) rfl (fun ls hl => ?_)
  refine lv_if_lt (tgt := 148) C.1 C.2.1 d_Mo_covers_89 (by decide) (fun h1 => ?_) (fun h1 => ?_)
  · refine x_sx C b_Mo_covers_148_149 hl (L' := [(14, .long (((py - (ar 13 k)).toInt64 * (p_dx (ar 14 k)).toInt64) - ((px - (ar 12 k)).toInt64 * (p_dy (ar 14 k)).toInt64))), (12, .long (((px - (ar 12 k)).toInt64 * (p_dx (ar 14 k)).toInt64) + ((py - (ar 13 k)).toInt64 * (p_dy (ar 14 k)).toInt64))), (10, .long (p_dy (ar 14 k)).toInt64), (8, .long (p_dx (ar 14 k)).toInt64), (6, .long (py - (ar 13 k)).toInt64), (4, .long (px - (ar 12 k)).toInt64), (0, .ref (ad 20)), (1, .int (nI k)), (2, .int px), (3, .int py)]) (st' := [.int 0]) rfl (fun ls hl => ?_)
    exact x_zro C hr rfl (by unfold p_cov; simp only [lgl, lgg, Decidable.not_not] at h1; simp [*]) d_Mo_covers_149
  · refine x_sx C b_Mo_covers_92_95 hl (L' := [(14, .long (((py - (ar 13 k)).toInt64 * (p_dx (ar 14 k)).toInt64) - ((px - (ar 12 k)).toInt64 * (p_dy (ar 14 k)).toInt64))), (12, .long (((px - (ar 12 k)).toInt64 * (p_dx (ar 14 k)).toInt64) + ((py - (ar 13 k)).toInt64 * (p_dy (ar 14 k)).toInt64))), (10, .long (p_dy (ar 14 k)).toInt64), (8, .long (p_dx (ar 14 k)).toInt64), (6, .long (py - (ar 13 k)).toInt64), (4, .long (px - (ar 12 k)).toInt64), (0, .ref (ad 20)), (1, .int (nI k)), (2, .int px), (3, .int py)]) (st' := [.ref (ad 20), .long (((px - (ar 12 k)).toInt64 * (p_dx (ar 14 k)).toInt64) + ((py - (ar 13 k)).toInt64 * (p_dy (ar 14 k)).toInt64))]) rfl (fun ls hl => ?_)
    refine x_get C hP 1000 mW_o 5 (v := .ref (ad 3)) rfl rfl (by decide) t_647 (fun _ z => z) d_Mo_covers_95 ?_
    refine x_sx C b_Mo_covers_98_99 hl (L' := [(14, .long (((py - (ar 13 k)).toInt64 * (p_dx (ar 14 k)).toInt64) - ((px - (ar 12 k)).toInt64 * (p_dy (ar 14 k)).toInt64))), (12, .long (((px - (ar 12 k)).toInt64 * (p_dx (ar 14 k)).toInt64) + ((py - (ar 13 k)).toInt64 * (p_dy (ar 14 k)).toInt64))), (10, .long (p_dy (ar 14 k)).toInt64), (8, .long (p_dx (ar 14 k)).toInt64), (6, .long (py - (ar 13 k)).toInt64), (4, .long (px - (ar 12 k)).toInt64), (0, .ref (ad 20)), (1, .int (nI k)), (2, .int px), (3, .int py)]) (st' := [.int (nI k), .ref (ad 3), .long (((px - (ar 12 k)).toInt64 * (p_dx (ar 14 k)).toInt64) + ((py - (ar 13 k)).toInt64 * (p_dy (ar 14 k)).toInt64))]) rfl (fun ls hl => ?_)
    refine x_ald C hP (1001 + 3) (mW_i 3 (by decide) (by decide) rfl rfl rfl) (N := 3) (f := (ar 3)) (j := k) rfl hk (by decide) d_Mo_covers_99 ?_
    refine x_sx C b_Mo_covers_100_101 hl (L' := [(14, .long (((py - (ar 13 k)).toInt64 * (p_dx (ar 14 k)).toInt64) - ((px - (ar 12 k)).toInt64 * (p_dy (ar 14 k)).toInt64))), (12, .long (((px - (ar 12 k)).toInt64 * (p_dx (ar 14 k)).toInt64) + ((py - (ar 13 k)).toInt64 * (p_dy (ar 14 k)).toInt64))), (10, .long (p_dy (ar 14 k)).toInt64), (8, .long (p_dx (ar 14 k)).toInt64), (6, .long (py - (ar 13 k)).toInt64), (4, .long (px - (ar 12 k)).toInt64), (0, .ref (ad 20)), (1, .int (nI k)), (2, .int px), (3, .int py)]) (st' := [.long (ar 3 k).toInt64, .long (((px - (ar 12 k)).toInt64 * (p_dx (ar 14 k)).toInt64) + ((py - (ar 13 k)).toInt64 * (p_dy (ar 14 k)).toInt64))]) rfl (fun ls hl => ?_)
    refine lv_ldc2 C.1 C.2.1 C.2.2.2.1 (C.ts t_787) d_Mo_covers_101 ?_
    refine x_sx C b_Mo_covers_104_106 hl (L' := [(14, .long (((py - (ar 13 k)).toInt64 * (p_dx (ar 14 k)).toInt64) - ((px - (ar 12 k)).toInt64 * (p_dy (ar 14 k)).toInt64))), (12, .long (((px - (ar 12 k)).toInt64 * (p_dx (ar 14 k)).toInt64) + ((py - (ar 13 k)).toInt64 * (p_dy (ar 14 k)).toInt64))), (10, .long (p_dy (ar 14 k)).toInt64), (8, .long (p_dx (ar 14 k)).toInt64), (6, .long (py - (ar 13 k)).toInt64), (4, .long (px - (ar 12 k)).toInt64), (0, .ref (ad 20)), (1, .int (nI k)), (2, .int px), (3, .int py)]) (st' := [.int (lg_cmp (((px - (ar 12 k)).toInt64 * (p_dx (ar 14 k)).toInt64) + ((py - (ar 13 k)).toInt64 * (p_dy (ar 14 k)).toInt64)) ((ar 3 k).toInt64 * 16777216))]) rfl (fun ls hl => ?_)
    refine lv_if_gt (tgt := 148) C.1 C.2.1 d_Mo_covers_106 (by decide) (fun h2 => ?_) (fun h2 => ?_)
    · refine x_sx C b_Mo_covers_148_149 hl (L' := [(14, .long (((py - (ar 13 k)).toInt64 * (p_dx (ar 14 k)).toInt64) - ((px - (ar 12 k)).toInt64 * (p_dy (ar 14 k)).toInt64))), (12, .long (((px - (ar 12 k)).toInt64 * (p_dx (ar 14 k)).toInt64) + ((py - (ar 13 k)).toInt64 * (p_dy (ar 14 k)).toInt64))), (10, .long (p_dy (ar 14 k)).toInt64), (8, .long (p_dx (ar 14 k)).toInt64), (6, .long (py - (ar 13 k)).toInt64), (4, .long (px - (ar 12 k)).toInt64), (0, .ref (ad 20)), (1, .int (nI k)), (2, .int px), (3, .int py)]) (st' := [.int 0]) rfl (fun ls hl => ?_)
      exact x_zro C hr rfl (by unfold p_cov; simp only [lgl, lgg, Decidable.not_not] at h1 h2; simp [*]) d_Mo_covers_149
    · refine x_sx C b_Mo_covers_109_112 hl (L' := [(14, .long (((py - (ar 13 k)).toInt64 * (p_dx (ar 14 k)).toInt64) - ((px - (ar 12 k)).toInt64 * (p_dy (ar 14 k)).toInt64))), (12, .long (((px - (ar 12 k)).toInt64 * (p_dx (ar 14 k)).toInt64) + ((py - (ar 13 k)).toInt64 * (p_dy (ar 14 k)).toInt64))), (10, .long (p_dy (ar 14 k)).toInt64), (8, .long (p_dx (ar 14 k)).toInt64), (6, .long (py - (ar 13 k)).toInt64), (4, .long (px - (ar 12 k)).toInt64), (0, .ref (ad 20)), (1, .int (nI k)), (2, .int px), (3, .int py)]) (st' := [.ref (ad 20), .long (((py - (ar 13 k)).toInt64 * (p_dx (ar 14 k)).toInt64) - ((px - (ar 12 k)).toInt64 * (p_dy (ar 14 k)).toInt64))]) rfl (fun ls hl => ?_)
      refine x_get C hP 1000 mW_o 7 (v := .ref (ad 5)) rfl rfl (by decide) t_649 (fun _ z => z) d_Mo_covers_112 ?_
      refine x_sx C b_Mo_covers_115_116 hl (L' := [(14, .long (((py - (ar 13 k)).toInt64 * (p_dx (ar 14 k)).toInt64) - ((px - (ar 12 k)).toInt64 * (p_dy (ar 14 k)).toInt64))), (12, .long (((px - (ar 12 k)).toInt64 * (p_dx (ar 14 k)).toInt64) + ((py - (ar 13 k)).toInt64 * (p_dy (ar 14 k)).toInt64))), (10, .long (p_dy (ar 14 k)).toInt64), (8, .long (p_dx (ar 14 k)).toInt64), (6, .long (py - (ar 13 k)).toInt64), (4, .long (px - (ar 12 k)).toInt64), (0, .ref (ad 20)), (1, .int (nI k)), (2, .int px), (3, .int py)]) (st' := [.int (nI k), .ref (ad 5), .long (((py - (ar 13 k)).toInt64 * (p_dx (ar 14 k)).toInt64) - ((px - (ar 12 k)).toInt64 * (p_dy (ar 14 k)).toInt64))]) rfl (fun ls hl => ?_)
      refine x_ald C hP (1001 + 5) (mW_i 5 (by decide) (by decide) rfl rfl rfl) (N := 3) (f := (ar 5)) (j := k) rfl hk (by decide) d_Mo_covers_116 ?_
      refine x_sx C b_Mo_covers_117_119 hl (L' := [(14, .long (((py - (ar 13 k)).toInt64 * (p_dx (ar 14 k)).toInt64) - ((px - (ar 12 k)).toInt64 * (p_dy (ar 14 k)).toInt64))), (12, .long (((px - (ar 12 k)).toInt64 * (p_dx (ar 14 k)).toInt64) + ((py - (ar 13 k)).toInt64 * (p_dy (ar 14 k)).toInt64))), (10, .long (p_dy (ar 14 k)).toInt64), (8, .long (p_dx (ar 14 k)).toInt64), (6, .long (py - (ar 13 k)).toInt64), (4, .long (px - (ar 12 k)).toInt64), (0, .ref (ad 20)), (1, .int (nI k)), (2, .int px), (3, .int py)]) (st' := [.long (-(ar 5 k)).toInt64, .long (((py - (ar 13 k)).toInt64 * (p_dx (ar 14 k)).toInt64) - ((px - (ar 12 k)).toInt64 * (p_dy (ar 14 k)).toInt64))]) rfl (fun ls hl => ?_)
      refine lv_ldc2 C.1 C.2.1 C.2.2.2.1 (C.ts t_787) d_Mo_covers_119 ?_
      refine x_sx C b_Mo_covers_122_124 hl (L' := [(14, .long (((py - (ar 13 k)).toInt64 * (p_dx (ar 14 k)).toInt64) - ((px - (ar 12 k)).toInt64 * (p_dy (ar 14 k)).toInt64))), (12, .long (((px - (ar 12 k)).toInt64 * (p_dx (ar 14 k)).toInt64) + ((py - (ar 13 k)).toInt64 * (p_dy (ar 14 k)).toInt64))), (10, .long (p_dy (ar 14 k)).toInt64), (8, .long (p_dx (ar 14 k)).toInt64), (6, .long (py - (ar 13 k)).toInt64), (4, .long (px - (ar 12 k)).toInt64), (0, .ref (ad 20)), (1, .int (nI k)), (2, .int px), (3, .int py)]) (st' := [.int (lg_cmp (((py - (ar 13 k)).toInt64 * (p_dx (ar 14 k)).toInt64) - ((px - (ar 12 k)).toInt64 * (p_dy (ar 14 k)).toInt64)) ((-(ar 5 k)).toInt64 * 16777216))]) rfl (fun ls hl => ?_)
      refine lv_if_lt (tgt := 148) C.1 C.2.1 d_Mo_covers_124 (by decide) (fun h3 => ?_) (fun h3 => ?_)
      · refine x_sx C b_Mo_covers_148_149 hl (L' := [(14, .long (((py - (ar 13 k)).toInt64 * (p_dx (ar 14 k)).toInt64) - ((px - (ar 12 k)).toInt64 * (p_dy (ar 14 k)).toInt64))), (12, .long (((px - (ar 12 k)).toInt64 * (p_dx (ar 14 k)).toInt64) + ((py - (ar 13 k)).toInt64 * (p_dy (ar 14 k)).toInt64))), (10, .long (p_dy (ar 14 k)).toInt64), (8, .long (p_dx (ar 14 k)).toInt64), (6, .long (py - (ar 13 k)).toInt64), (4, .long (px - (ar 12 k)).toInt64), (0, .ref (ad 20)), (1, .int (nI k)), (2, .int px), (3, .int py)]) (st' := [.int 0]) rfl (fun ls hl => ?_)
        exact x_zro C hr rfl (by unfold p_cov; simp only [lgl, lgg, Decidable.not_not] at h1 h2 h3; simp [*]) d_Mo_covers_149
      · refine x_sx C b_Mo_covers_127_130 hl (L' := [(14, .long (((py - (ar 13 k)).toInt64 * (p_dx (ar 14 k)).toInt64) - ((px - (ar 12 k)).toInt64 * (p_dy (ar 14 k)).toInt64))), (12, .long (((px - (ar 12 k)).toInt64 * (p_dx (ar 14 k)).toInt64) + ((py - (ar 13 k)).toInt64 * (p_dy (ar 14 k)).toInt64))), (10, .long (p_dy (ar 14 k)).toInt64), (8, .long (p_dx (ar 14 k)).toInt64), (6, .long (py - (ar 13 k)).toInt64), (4, .long (px - (ar 12 k)).toInt64), (0, .ref (ad 20)), (1, .int (nI k)), (2, .int px), (3, .int py)]) (st' := [.ref (ad 20), .long (((py - (ar 13 k)).toInt64 * (p_dx (ar 14 k)).toInt64) - ((px - (ar 12 k)).toInt64 * (p_dy (ar 14 k)).toInt64))]) rfl (fun ls hl => ?_)
        refine x_get C hP 1000 mW_o 7 (v := .ref (ad 5)) rfl rfl (by decide) t_649 (fun _ z => z) d_Mo_covers_130 ?_
        refine x_sx C b_Mo_covers_133_134 hl (L' := [(14, .long (((py - (ar 13 k)).toInt64 * (p_dx (ar 14 k)).toInt64) - ((px - (ar 12 k)).toInt64 * (p_dy (ar 14 k)).toInt64))), (12, .long (((px - (ar 12 k)).toInt64 * (p_dx (ar 14 k)).toInt64) + ((py - (ar 13 k)).toInt64 * (p_dy (ar 14 k)).toInt64))), (10, .long (p_dy (ar 14 k)).toInt64), (8, .long (p_dx (ar 14 k)).toInt64), (6, .long (py - (ar 13 k)).toInt64), (4, .long (px - (ar 12 k)).toInt64), (0, .ref (ad 20)), (1, .int (nI k)), (2, .int px), (3, .int py)]) (st' := [.int (nI k), .ref (ad 5), .long (((py - (ar 13 k)).toInt64 * (p_dx (ar 14 k)).toInt64) - ((px - (ar 12 k)).toInt64 * (p_dy (ar 14 k)).toInt64))]) rfl (fun ls hl => ?_)
        refine x_ald C hP (1001 + 5) (mW_i 5 (by decide) (by decide) rfl rfl rfl) (N := 3) (f := (ar 5)) (j := k) rfl hk (by decide) d_Mo_covers_134 ?_
        refine x_sx C b_Mo_covers_135_136 hl (L' := [(14, .long (((py - (ar 13 k)).toInt64 * (p_dx (ar 14 k)).toInt64) - ((px - (ar 12 k)).toInt64 * (p_dy (ar 14 k)).toInt64))), (12, .long (((px - (ar 12 k)).toInt64 * (p_dx (ar 14 k)).toInt64) + ((py - (ar 13 k)).toInt64 * (p_dy (ar 14 k)).toInt64))), (10, .long (p_dy (ar 14 k)).toInt64), (8, .long (p_dx (ar 14 k)).toInt64), (6, .long (py - (ar 13 k)).toInt64), (4, .long (px - (ar 12 k)).toInt64), (0, .ref (ad 20)), (1, .int (nI k)), (2, .int px), (3, .int py)]) (st' := [.long (ar 5 k).toInt64, .long (((py - (ar 13 k)).toInt64 * (p_dx (ar 14 k)).toInt64) - ((px - (ar 12 k)).toInt64 * (p_dy (ar 14 k)).toInt64))]) rfl (fun ls hl => ?_)
        refine lv_ldc2 C.1 C.2.1 C.2.2.2.1 (C.ts t_787) d_Mo_covers_136 ?_
        refine x_sx C b_Mo_covers_139_141 hl (L' := [(14, .long (((py - (ar 13 k)).toInt64 * (p_dx (ar 14 k)).toInt64) - ((px - (ar 12 k)).toInt64 * (p_dy (ar 14 k)).toInt64))), (12, .long (((px - (ar 12 k)).toInt64 * (p_dx (ar 14 k)).toInt64) + ((py - (ar 13 k)).toInt64 * (p_dy (ar 14 k)).toInt64))), (10, .long (p_dy (ar 14 k)).toInt64), (8, .long (p_dx (ar 14 k)).toInt64), (6, .long (py - (ar 13 k)).toInt64), (4, .long (px - (ar 12 k)).toInt64), (0, .ref (ad 20)), (1, .int (nI k)), (2, .int px), (3, .int py)]) (st' := [.int (lg_cmp (((py - (ar 13 k)).toInt64 * (p_dx (ar 14 k)).toInt64) - ((px - (ar 12 k)).toInt64 * (p_dy (ar 14 k)).toInt64)) ((ar 5 k).toInt64 * 16777216))]) rfl (fun ls hl => ?_)
        refine lv_if_gt (tgt := 148) C.1 C.2.1 d_Mo_covers_141 (by decide) (fun h4 => ?_) (fun h4 => ?_)
        · refine x_sx C b_Mo_covers_148_149 hl (L' := [(14, .long (((py - (ar 13 k)).toInt64 * (p_dx (ar 14 k)).toInt64) - ((px - (ar 12 k)).toInt64 * (p_dy (ar 14 k)).toInt64))), (12, .long (((px - (ar 12 k)).toInt64 * (p_dx (ar 14 k)).toInt64) + ((py - (ar 13 k)).toInt64 * (p_dy (ar 14 k)).toInt64))), (10, .long (p_dy (ar 14 k)).toInt64), (8, .long (p_dx (ar 14 k)).toInt64), (6, .long (py - (ar 13 k)).toInt64), (4, .long (px - (ar 12 k)).toInt64), (0, .ref (ad 20)), (1, .int (nI k)), (2, .int px), (3, .int py)]) (st' := [.int 0]) rfl (fun ls hl => ?_)
          exact x_zro C hr rfl (by unfold p_cov; simp only [lgl, lgg, Decidable.not_not] at h1 h2 h3 h4; simp [*]) d_Mo_covers_149
        · refine x_sx C b_Mo_covers_144_145 hl (L' := [(14, .long (((py - (ar 13 k)).toInt64 * (p_dx (ar 14 k)).toInt64) - ((px - (ar 12 k)).toInt64 * (p_dy (ar 14 k)).toInt64))), (12, .long (((px - (ar 12 k)).toInt64 * (p_dx (ar 14 k)).toInt64) + ((py - (ar 13 k)).toInt64 * (p_dy (ar 14 k)).toInt64))), (10, .long (p_dy (ar 14 k)).toInt64), (8, .long (p_dx (ar 14 k)).toInt64), (6, .long (py - (ar 13 k)).toInt64), (4, .long (px - (ar 12 k)).toInt64), (0, .ref (ad 20)), (1, .int (nI k)), (2, .int px), (3, .int py)]) (st' := [.int 1]) rfl (fun ls hl => ?_)
          refine x_goto (tgt := 149) C d_Mo_covers_145 (by decide) ?_
          exact x_zro C hr rfl (by unfold p_cov; simp only [lgl, lgg, Decidable.not_not] at h1 h2 h3 h4; simp [*]) d_Mo_covers_149
theorem hd_Mo_covers : hdP y_Mo_covers 3 := ⟨by decide +kernel, by decide +kernel, by decide +kernel⟩
theorem b_Mo_thrown_0_1 : decs prog_7_method_2_code [(.aload_n 0, 1)] 0 1 = true := by decide +kernel
theorem d_Mo_thrown_1 : decode prog_7_method_2_code 1 = .ok (.getfield 87, 3) := by decide +kernel
theorem d_Mo_thrown_4 : decode prog_7_method_2_code 4 = .ok (.ireturn, 1) := by decide +kernel
set_option maxRecDepth 100000 in
theorem c_Mo_thrown (l : Launch) (G : GG) (ad : Nat → Nat) (w0 : WF) (sc : Nat → Int32) (ar : Nat → Nat → Int32)  : Met l y_Mo_thrown (Cond.code y_Mo_thrown prog_7_method_2_code 1 (some FieldType.int) :: wt) { frames := 0, cells := 0, slots := 0, locals := 0 } (Pro G (mW G ad w0 sc ar) [.ref (ad 20)]) (Qro (.int (sc 0))) 0 0 (fun _ => False) := by
  refine ro_of (by decide) (Nat.le_of_ble_eq_true rfl) ?_
  intro p e s m below meth c ls C hP hr hl
  have hl : lv_has ls 1 [(0, .ref (ad 20))] := hl
  refine x_sx C b_Mo_thrown_0_1 hl (L' := [(0, .ref (ad 20))]) (st' := [.ref (ad 20)]) rfl (fun ls hl => ?_)
  refine x_get C hP 1000 mW_o 0 (v := .int (sc 0)) rfl rfl (by decide) t_642 (fun _ z => z) d_Mo_thrown_1 ?_
  exact x_iro C hr rfl d_Mo_thrown_4
theorem hd_Mo_thrown : hdP y_Mo_thrown 0 := ⟨by decide +kernel, by decide +kernel, by decide +kernel⟩
