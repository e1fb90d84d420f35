theorem b_SP_swept_0_1 : decs prog_1_method_15_code [(.aload_n 0, 1)] 0 1 = true := by decide +kernel
theorem d_SP_swept_1 : decode prog_1_method_15_code 1 = .ok (.getfield 46, 3) := by decide +kernel
theorem d_SP_swept_4 : decode prog_1_method_15_code 4 = .ok (.getfield 143, 3) := by decide +kernel
theorem d_SP_swept_7 : decode prog_1_method_15_code 7 = .ok (.invokevirtual 147, 3) := by decide +kernel
theorem d_SP_swept_10 : decode prog_1_method_15_code 10 = .ok (.ireturn, 1) := by decide +kernel
set_option maxRecDepth 100000 in
theorem c_SP_swept (l : Launch) (G : GG) (rb n : Nat) (md : Int32) (rd sd : Nat → Nat) (ms : Nat → Int32) (fl mn : Nat → Nat) (sc : Nat → Int32) (ar : Nat → Nat → Int32) (b : Bt) (w0 : WF) (hn : n ≤ 3) (hrb : 100 ≤ rb) (hB : BR b (ar 17)) : Met l y_SP_swept (Cond.code y_SP_swept prog_1_method_15_code 1 (some FieldType.int) :: wt) { frames := 2, cells := 0, slots := 0, locals := 43 } (Pro G (cW G rb n md rd sd ms fl mn sc ar b w0) [.ref (sd 0)]) (Qro (.int (bsC b.2.2.2 b.2.2.1))) 0 0 (fun _ => False) := by
  refine ro_of (by decide +kernel) (Nat.le_of_ble_eq_true rfl) ?_
  intro p e s m below meth c ls C hP hr hl
  have hl : lv_has ls 1 [(0, .ref (sd 0))] := hl
  refine x_sx C b_SP_swept_0_1 hl (L' := [(0, .ref (sd 0))]) (st' := [.ref (sd 0)]) rfl (fun ls hl => ?_)
  refine x_get C hP 0 ((rW_0 (Or.inl (by omega)) hn).trans (sp_L hn).1) 9 (v := .ref (rd 0)) rfl rfl (by decide) t_314 (fun _ z => z) d_SP_swept_1 ?_
  refine x_get C hP rb rW_o 1 (v := .ref (rd 3)) rfl rfl (by decide) t_268 (fun _ z => z) d_SP_swept_4 ?_
  refine x_ro (x_cV C hP rW_s rfl (c_BS_cardinality l G (cW G rb n md rd sd ms fl mn sc ar b w0) (rb + 3) (rb + 4) (rd 3) b.1 b.2.1 b.2.2.1 b.2.2.2 rW_s rW_w hB.2.2.1 (Nat.le_trans hB.2.1 (by decide))) t_343 t_10 t_340 t_341 t_342 hd_BS_cardinality blind_Pro (pre_ro C hP va_S.rf) (As := []) (rest := []) rfl hl.1 rfl rfl rfl ⟨Nat.le_of_ble_eq_true rfl, Nat.le_of_ble_eq_true rfl⟩ (Nat.le_of_ble_eq_true rfl) ⟨Nat.zero_le _, Nat.zero_le _⟩ d_SP_swept_7) ?_
  exact x_iro C hr rfl d_SP_swept_10
theorem hd_SP_swept : hdP y_SP_swept 0 := ⟨by decide +kernel, by decide +kernel, by decide +kernel⟩
theorem b_SP_isStuck_0_1 : decs prog_1_method_18_code [(.aload_n 0, 1)] 0 1 = true := by decide +kernel
theorem d_SP_isStuck_1 : decode prog_1_method_18_code 1 = .ok (.getfield 46, 3) := by decide +kernel
theorem d_SP_isStuck_4 : decode prog_1_method_18_code 4 = .ok (.getfield 164, 3) := by decide +kernel
theorem d_SP_isStuck_7 : decode prog_1_method_18_code 7 = .ok (.ireturn, 1) := by decide +kernel
set_option maxRecDepth 100000 in
theorem c_SP_isStuck (l : Launch) (G : GG) (rb n : Nat) (md : Int32) (rd sd : Nat → Nat) (ms : Nat → Int32) (fl mn : Nat → Nat) (sc : Nat → Int32) (ar : Nat → Nat → Int32) (b : Bt) (w0 : WF) (hn : n ≤ 3) (hrb : 100 ≤ rb) (h8 : b01 (sc 8)) : Met l y_SP_isStuck (Cond.code y_SP_isStuck prog_1_method_18_code 1 (some FieldType.boolean) :: wt) { frames := 0, cells := 0, slots := 0, locals := 0 } (Pro G (cW G rb n md rd sd ms fl mn sc ar b w0) [.ref (sd 0)]) (Qro (.int (sc 8))) 0 0 (fun _ => False) := by
  refine ro_of (by decide +kernel) (Nat.le_of_ble_eq_true rfl) ?_
  intro p e s m below meth c ls C hP hr hl
  have hl : lv_has ls 1 [(0, .ref (sd 0))] := hl
  refine x_sx C b_SP_isStuck_0_1 hl (L' := [(0, .ref (sd 0))]) (st' := [.ref (sd 0)]) rfl (fun ls hl => ?_)
  refine x_get C hP 0 ((rW_0 (Or.inl (by omega)) hn).trans (sp_L hn).1) 9 (v := .ref (rd 0)) rfl rfl (by decide) t_314 (fun _ z => z) d_SP_isStuck_1 ?_
  refine x_get C hP rb rW_o 3 (v := .int (sc 8)) rfl rfl (by decide) t_272 (fun _ z => z) d_SP_isStuck_4 ?_
  exact x_zro C hr (b01_n h8) rfl d_SP_isStuck_7
theorem hd_SP_isStuck : hdP y_SP_isStuck 0 := ⟨by decide +kernel, by decide +kernel, by decide +kernel⟩
theorem b_SP_clash_9_10 : decs prog_1_method_17_code [(.iload_n 1, 1)] 9 10 = true := by decide +kernel
theorem d_SP_clash_10 : decode prog_1_method_17_code 10 = .ok (.ifCond .ne 13, 3) := by decide +kernel
theorem b_SP_clash_23_25 : decs prog_1_method_17_code [(.iload_n 1, 1), (.iconst 1, 1)] 23 25 = true := by decide +kernel
theorem d_SP_clash_25 : decode prog_1_method_17_code 25 = .ok (.if_icmp .ne 13, 3) := by decide +kernel
theorem b_SP_clash_38_39 : decs prog_1_method_17_code [(.aload_n 0, 1)] 38 39 = true := by decide +kernel
theorem d_SP_clash_39 : decode prog_1_method_17_code 39 = .ok (.getfield 46, 3) := by decide +kernel
theorem d_SP_clash_42 : decode prog_1_method_17_code 42 = .ok (.getfield 161, 3) := by decide +kernel
theorem d_SP_clash_45 : decode prog_1_method_17_code 45 = .ok (.ireturn, 1) := by decide +kernel
theorem b_SP_clash_28_29 : decs prog_1_method_17_code [(.aload_n 0, 1)] 28 29 = true := by decide +kernel
theorem d_SP_clash_29 : decode prog_1_method_17_code 29 = .ok (.getfield 46, 3) := by decide +kernel
theorem d_SP_clash_32 : decode prog_1_method_17_code 32 = .ok (.getfield 158, 3) := by decide +kernel
theorem d_SP_clash_35 : decode prog_1_method_17_code 35 = .ok (.goto 10, 3) := by decide +kernel
theorem b_SP_clash_13_14 : decs prog_1_method_17_code [(.aload_n 0, 1)] 13 14 = true := by decide +kernel
theorem d_SP_clash_14 : decode prog_1_method_17_code 14 = .ok (.getfield 46, 3) := by decide +kernel
theorem d_SP_clash_17 : decode prog_1_method_17_code 17 = .ok (.getfield 155, 3) := by decide +kernel
theorem d_SP_clash_20 : decode prog_1_method_17_code 20 = .ok (.goto 25, 3) := by decide +kernel
set_option maxRecDepth 100000 in
theorem c_SP_clash (l : Launch) (G : GG) (rb n : Nat) (md : Int32) (rd sd : Nat → Nat) (ms : Nat → Int32) (fl mn : Nat → Nat) (sc : Nat → Int32) (ar : Nat → Nat → Int32) (b : Bt) (w0 : WF) (a1 : Int32) (hn : n ≤ 3) (hrb : 100 ≤ rb) (hv : p_in a1 0 2 = 1) : Met l y_SP_clash (Cond.code y_SP_clash prog_1_method_17_code 2 (some FieldType.int) :: wt) { frames := 7, cells := 0, slots := 0, locals := 110 } (Pro G (cW G rb n md rd sd ms fl mn sc ar b w0) [.ref (sd 0), .int a1]) (Qro (.int (fClash sc a1))) 0 0 (fun _ => False) := by
  refine ro_of (by decide +kernel) (Nat.le_of_ble_eq_true rfl) ?_
  intro p e s m below meth c ls C hP hr hl
  have hl : lv_has ls 2 [(0, .ref (sd 0)), (1, .int a1)] := hl
  refine x_sx C b_SP_clash_0_3 hl (L' := [(0, .ref (sd 0)), (1, .int a1)]) (st' := [.int 2, .int 0, .int a1]) rfl (fun ls hl => ?_)
  refine x_ro (x_cS C (c_SP_isIn l G (cW G rb n md rd sd ms fl mn sc ar b w0) a1 0 2) t_365 t_1 t_363 t_364 hd_SP_isIn blind_Pro (pre_ro C hP va_S.rf) (As := [.int a1, .int 0, .int 2]) (rest := []) rfl hl.1 rfl rfl rfl ⟨Nat.le_of_ble_eq_true rfl, Nat.le_of_ble_eq_true rfl⟩ (Nat.le_of_ble_eq_true rfl) ⟨Nat.zero_le _, Nat.zero_le _⟩ d_SP_clash_3) ?_
  rw [hv]
  refine x_rv (x_cS C (c_SP_need l G (cW G rb n md rd sd ms fl mn sc ar b w0)) t_368 t_1 t_366 t_367 hd_SP_need blind_Pro (pre_ro C hP va_S.rf) (As := [.int 1]) (rest := []) rfl hl.1 rfl rfl rfl ⟨Nat.le_of_ble_eq_true rfl, Nat.le_of_ble_eq_true rfl⟩ (Nat.le_of_ble_eq_true rfl) ⟨Nat.zero_le _, Nat.zero_le _⟩ d_SP_clash_6) ?_
  refine x_sx C b_SP_clash_9_10 hl (L' := [(0, .ref (sd 0)), (1, .int a1)]) (st' := [.int a1]) rfl (fun ls hl => ?_)
  refine lv_if_ne (tgt := 23) C.1 C.2.1 d_SP_clash_10 (by decide) (fun h1 => ?_) (fun h1 => ?_)
  · refine x_sx C b_SP_clash_23_25 hl (L' := [(0, .ref (sd 0)), (1, .int a1)]) (st' := [.int 1, .int a1]) rfl (fun ls hl => ?_)
    refine lv_icmp_ne (tgt := 38) C.1 C.2.1 d_SP_clash_25 (by decide) (fun h2 => ?_) (fun h2 => ?_)
    · refine x_sx C b_SP_clash_38_39 hl (L' := [(0, .ref (sd 0)), (1, .int a1)]) (st' := [.ref (sd 0)]) rfl (fun ls hl => ?_)
      refine x_get C hP 0 ((rW_0 (Or.inl (by omega)) hn).trans (sp_L hn).1) 9 (v := .ref (rd 0)) rfl rfl (by decide) t_314 (fun _ z => z) d_SP_clash_39 ?_
      refine x_get C hP rb rW_o 6 (v := .int (sc 11)) rfl rfl (by decide) t_278 (fun _ z => z) d_SP_clash_42 ?_
      exact x_iro C hr (by unfold fClash; simp [h1, h2]) d_SP_clash_45
    · refine x_sx C b_SP_clash_28_29 hl (L' := [(0, .ref (sd 0)), (1, .int a1)]) (st' := [.ref (sd 0)]) rfl (fun ls hl => ?_)
      refine x_get C hP 0 ((rW_0 (Or.inl (by omega)) hn).trans (sp_L hn).1) 9 (v := .ref (rd 0)) rfl rfl (by decide) t_314 (fun _ z => z) d_SP_clash_29 ?_
      refine x_get C hP rb rW_o 5 (v := .int (sc 10)) rfl rfl (by decide) t_276 (fun _ z => z) d_SP_clash_32 ?_
      refine x_goto (tgt := 45) C d_SP_clash_35 (by decide) ?_
      exact x_iro C hr (by unfold fClash; simp [h1, h2]) d_SP_clash_45
  · refine x_sx C b_SP_clash_13_14 hl (L' := [(0, .ref (sd 0)), (1, .int a1)]) (st' := [.ref (sd 0)]) rfl (fun ls hl => ?_)
    refine x_get C hP 0 ((rW_0 (Or.inl (by omega)) hn).trans (sp_L hn).1) 9 (v := .ref (rd 0)) rfl rfl (by decide) t_314 (fun _ z => z) d_SP_clash_14 ?_
    refine x_get C hP rb rW_o 4 (v := .int (sc 9)) rfl rfl (by decide) t_274 (fun _ z => z) d_SP_clash_17 ?_
    refine x_goto (tgt := 45) C d_SP_clash_20 (by decide) ?_
    exact x_iro C hr (by unfold fClash; simp [h1]) d_SP_clash_45
theorem hd_SP_clash : hdP y_SP_clash 1 := ⟨by decide +kernel, by decide +kernel, by decide +kernel⟩
theorem b_SP_cell_30_31 : decs prog_1_method_16_code [(.aload_n 0, 1)] 30 31 = true := by decide +kernel
theorem d_SP_cell_31 : decode prog_1_method_16_code 31 = .ok (.getfield 46, 3) := by decide +kernel
theorem d_SP_cell_34 : decode prog_1_method_16_code 34 = .ok (.getfield 143, 3) := by decide +kernel
theorem b_SP_cell_37_49 : decs prog_1_method_16_code [(.bipush 64, 2), (.iload_n 1, 1), (.bipush 32, 2), (.iadd, 1), (.imul, 1), (.iload_n 2, 1), (.iadd, 1), (.bipush 32, 2), (.iadd, 1)] 37 49 = true := by decide +kernel
theorem d_SP_cell_49 : decode prog_1_method_16_code 49 = .ok (.invokevirtual 152, 3) := by decide +kernel
theorem d_SP_cell_52 : decode prog_1_method_16_code 52 = .ok (.ireturn, 1) := by decide +kernel
set_option maxRecDepth 100000 in
theorem c_SP_cell (l : Launch) (G : GG) (rb n : Nat) (md : Int32) (rd sd : Nat → Nat) (ms : Nat → Int32) (fl mn : Nat → Nat) (sc : Nat → Int32) (ar : Nat → Nat → Int32) (b : Bt) (w0 : WF) (x y : Nat) (hn : n ≤ 3) (hrb : 100 ≤ rb) (hx : x < 64) (hy : y < 64) (hv : p_in (zs x) (-32) 31 = 1 ∧ p_in (zs y) (-32) 31 = 1) (hB : BR b (ar 17)) (hz : Z01 (ar 17)) : Met l y_SP_cell (Cond.code y_SP_cell prog_1_method_16_code 3 (some FieldType.boolean) :: wt) { frames := 7, cells := 0, slots := 0, locals := 110 } (Pro G (cW G rb n md rd sd ms fl mn sc ar b w0) [.ref (sd 0), .int (zs x), .int (zs y)]) (Qro (.int (ar 17 (64 * x + y)))) 0 0 (fun _ => False) := by
  refine ro_of (by decide +kernel) (Nat.le_of_ble_eq_true rfl) ?_
  intro p e s m below meth c ls C hP hr hl
  have hl : lv_has ls 3 [(0, .ref (sd 0)), (1, .int (zs x)), (2, .int (zs y))] := hl
  refine x_sx C b_SP_cell_0_5 hl (L' := [(0, .ref (sd 0)), (1, .int (zs x)), (2, .int (zs y))]) (st' := [.int 31, .int (-32), .int (zs x)]) rfl (fun ls hl => ?_)
  refine x_ro (x_cS C (c_SP_isIn l G (cW G rb n md rd sd ms fl mn sc ar b w0) (zs x) (-32) 31) t_365 t_1 t_363 t_364 hd_SP_isIn blind_Pro (pre_ro C hP va_S.rf) (As := [.int (zs x), .int (-32), .int 31]) (rest := []) rfl hl.1 rfl rfl rfl ⟨Nat.le_of_ble_eq_true rfl, Nat.le_of_ble_eq_true rfl⟩ (Nat.le_of_ble_eq_true rfl) ⟨Nat.zero_le _, Nat.zero_le _⟩ d_SP_cell_5) ?_
  refine lv_if_eq (tgt := 26) C.1 C.2.1 d_SP_cell_8 (by decide) (fun h => absurd h (by rw [hv.1]; first | done | decide)) (fun _ => ?_)
  refine x_sx C b_SP_cell_11_16 hl (L' := [(0, .ref (sd 0)), (1, .int (zs x)), (2, .int (zs y))]) (st' := [.int 31, .int (-32), .int (zs y)]) rfl (fun ls hl => ?_)
  refine x_ro (x_cS C (c_SP_isIn l G (cW G rb n md rd sd ms fl mn sc ar b w0) (zs y) (-32) 31) t_365 t_1 t_363 t_364 hd_SP_isIn blind_Pro (pre_ro C hP va_S.rf) (As := [.int (zs y), .int (-32), .int 31]) (rest := []) rfl hl.1 rfl rfl rfl ⟨Nat.le_of_ble_eq_true rfl, Nat.le_of_ble_eq_true rfl⟩ (Nat.le_of_ble_eq_true rfl) ⟨Nat.zero_le _, Nat.zero_le _⟩ d_SP_cell_16) ?_
  refine lv_if_eq (tgt := 26) C.1 C.2.1 d_SP_cell_19 (by decide) (fun h => absurd h (by rw [hv.2]; first | done | decide)) (fun _ => ?_)
  refine x_sx C b_SP_cell_22_23 hl (L' := [(0, .ref (sd 0)), (1, .int (zs x)), (2, .int (zs y))]) (st' := [.int 1]) rfl (fun ls hl => ?_)
  refine x_goto (tgt := 27) C d_SP_cell_23 (by decide) ?_
  refine x_rv (x_cS C (c_SP_need l G (cW G rb n md rd sd ms fl mn sc ar b w0)) t_368 t_1 t_366 t_367 hd_SP_need blind_Pro (pre_ro C hP va_S.rf) (As := [.int 1]) (rest := []) rfl hl.1 rfl rfl rfl ⟨Nat.le_of_ble_eq_true rfl, Nat.le_of_ble_eq_true rfl⟩ (Nat.le_of_ble_eq_true rfl) ⟨Nat.zero_le _, Nat.zero_le _⟩ d_SP_cell_27) ?_
  refine x_sx C b_SP_cell_30_31 hl (L' := [(0, .ref (sd 0)), (1, .int (zs x)), (2, .int (zs y))]) (st' := [.ref (sd 0)]) rfl (fun ls hl => ?_)
  refine x_get C hP 0 ((rW_0 (Or.inl (by omega)) hn).trans (sp_L hn).1) 9 (v := .ref (rd 0)) rfl rfl (by decide) t_314 (fun _ z => z) d_SP_cell_31 ?_
  refine x_get C hP rb rW_o 1 (v := .ref (rd 3)) rfl rfl (by decide) t_268 (fun _ z => z) d_SP_cell_34 ?_
  refine x_sx C b_SP_cell_37_49 hl (L' := [(0, .ref (sd 0)), (1, .int (zs x)), (2, .int (zs y))]) (st' := [.int (((64 * ((zs x) + 32)) + (zs y)) + 32), .ref (rd 3)]) rfl (fun ls hl => ?_)
  rw [zs_at]
  refine x_ro (x_cV C hP rW_s rfl (c_BS_get l G (cW G rb n md rd sd ms fl mn sc ar b w0) (rb + 3) (rb + 4) (rd 3) b.1 b.2.1 b.2.2.1 b.2.2.2 (64 * x + y) rW_s rW_w hB.2.2.1 (Nat.le_trans hB.2.1 (by decide)) (by omega)) t_569 t_10 t_566 t_567 t_568 hd_BS_get blind_Pro (pre_ro C hP va_S.rf) (As := [.int (nI (64 * x + y))]) (rest := []) rfl hl.1 rfl rfl rfl ⟨Nat.le_of_ble_eq_true rfl, Nat.le_of_ble_eq_true rfl⟩ (Nat.le_of_ble_eq_true rfl) ⟨Nat.zero_le _, Nat.zero_le _⟩ d_SP_cell_49) ?_
  rw [bit_get hB hz (t := 64 * x + y) (by omega)]
  exact x_zro C hr (b01_n (hz _ (by omega))) rfl d_SP_cell_52
theorem hd_SP_cell : hdP y_SP_cell 2 := ⟨by decide +kernel, by decide +kernel, by decide +kernel⟩
theorem b_SP_told_15_16 : decs prog_1_method_13_code [(.iload_n 2, 1)] 15 16 = true := by decide +kernel
theorem d_SP_told_16 : decode prog_1_method_13_code 16 = .ok (.tableswitch 52 0 3 #[32, 37, 42, 47], 32) := by decide +kernel
theorem b_SP_told_48_49 : decs prog_1_method_13_code [(.aload_n 3, 1)] 48 49 = true := by decide +kernel
theorem d_SP_told_49 : decode prog_1_method_13_code 49 = .ok (.getfield 112, 3) := by decide +kernel
theorem d_SP_told_52 : decode prog_1_method_13_code 52 = .ok (.ireturn, 1) := by decide +kernel
theorem b_SP_told_53_54 : decs prog_1_method_13_code [(.aload_n 3, 1)] 53 54 = true := by decide +kernel
theorem d_SP_told_54 : decode prog_1_method_13_code 54 = .ok (.getfield 115, 3) := by decide +kernel
theorem d_SP_told_57 : decode prog_1_method_13_code 57 = .ok (.ireturn, 1) := by decide +kernel
theorem b_SP_told_58_59 : decs prog_1_method_13_code [(.aload_n 3, 1)] 58 59 = true := by decide +kernel
theorem d_SP_told_59 : decode prog_1_method_13_code 59 = .ok (.getfield 118, 3) := by decide +kernel
theorem d_SP_told_62 : decode prog_1_method_13_code 62 = .ok (.ireturn, 1) := by decide +kernel
theorem b_SP_told_63_64 : decs prog_1_method_13_code [(.aload_n 3, 1)] 63 64 = true := by decide +kernel
theorem d_SP_told_64 : decode prog_1_method_13_code 64 = .ok (.invokevirtual 121, 3) := by decide +kernel
theorem d_SP_told_67 : decode prog_1_method_13_code 67 = .ok (.ireturn, 1) := by decide +kernel
theorem b_SP_told_68_69 : decs prog_1_method_13_code [(.aload_n 3, 1)] 68 69 = true := by decide +kernel
theorem d_SP_told_69 : decode prog_1_method_13_code 69 = .ok (.getfield 124, 3) := by decide +kernel
theorem d_SP_told_72 : decode prog_1_method_13_code 72 = .ok (.ireturn, 1) := by decide +kernel
set_option maxRecDepth 100000 in
theorem c_SP_told (l : Launch) (G : GG) (rb n : Nat) (md : Int32) (rd sd : Nat → Nat) (ms : Nat → Int32) (fl mn : Nat → Nat) (sc : Nat → Int32) (ar : Nat → Nat → Int32) (b : Bt) (w0 : WF) (k : Nat) (a2 : Int32) (hn : n ≤ 3) (hrb : 100 ≤ rb) (hk : k < n) (hv : p_in a2 0 4 = 1) : Met l y_SP_told (Cond.code y_SP_told prog_1_method_13_code 4 (some FieldType.int) :: wt) { frames := 8, cells := 0, slots := 0, locals := 131 } (Pro G (cW G rb n md rd sd ms fl mn sc ar b w0) [.ref (sd 0), .int (nI k), .int a2]) (Qro (.int (fTold ar k a2))) 0 0 (fun _ => False) := by
  refine ro_of (by decide +kernel) (Nat.le_of_ble_eq_true rfl) ?_
  intro p e s m below meth c ls C hP hr hl
  have hl : lv_has ls 4 [(0, .ref (sd 0)), (1, .int (nI k)), (2, .int a2)] := hl
  refine x_sx C b_SP_told_0_2 hl (L' := [(0, .ref (sd 0)), (1, .int (nI k)), (2, .int a2)]) (st' := [.int (nI k), .ref (sd 0)]) rfl (fun ls hl => ?_)
  refine x_ro (x_cV C hP ((rW_0 (Or.inl (by omega)) hn).trans (sp_L hn).1) rfl (c_SP_bodyOf l G rb n md rd sd ms fl mn sc ar b w0 k hn hrb hk) t_547 t_1 t_544 t_546 ts_11 hd_SP_bodyOf blind_Pro (pre_ro C hP va_S.rf) (As := [.int (nI k)]) (rest := []) rfl hl.1 rfl rfl rfl ⟨Nat.le_of_ble_eq_true rfl, Nat.le_of_ble_eq_true rfl⟩ (Nat.le_of_ble_eq_true rfl) ⟨Nat.zero_le _, Nat.zero_le _⟩ d_SP_told_2) ?_
  refine x_sx C b_SP_told_5_9 hl (L' := [(3, .ref (rd (5 + k))), (0, .ref (sd 0)), (1, .int (nI k)), (2, .int a2)]) (st' := [.int 4, .int 0, .int a2]) rfl (fun ls hl => ?_)
  refine x_ro (x_cS C (c_SP_isIn l G (cW G rb n md rd sd ms fl mn sc ar b w0) a2 0 4) t_365 t_1 t_363 t_364 hd_SP_isIn blind_Pro (pre_ro C hP va_S.rf) (As := [.int a2, .int 0, .int 4]) (rest := []) rfl hl.1 rfl rfl rfl ⟨Nat.le_of_ble_eq_true rfl, Nat.le_of_ble_eq_true rfl⟩ (Nat.le_of_ble_eq_true rfl) ⟨Nat.zero_le _, Nat.zero_le _⟩ d_SP_told_9) ?_
  rw [hv]
  refine x_rv (x_cS C (c_SP_need l G (cW G rb n md rd sd ms fl mn sc ar b w0)) t_368 t_1 t_366 t_367 hd_SP_need blind_Pro (pre_ro C hP va_S.rf) (As := [.int 1]) (rest := []) rfl hl.1 rfl rfl rfl ⟨Nat.le_of_ble_eq_true rfl, Nat.le_of_ble_eq_true rfl⟩ (Nat.le_of_ble_eq_true rfl) ⟨Nat.zero_le _, Nat.zero_le _⟩ d_SP_told_12) ?_
  refine x_sx C b_SP_told_15_16 hl (L' := [(3, .ref (rd (5 + k))), (0, .ref (sd 0)), (1, .int (nI k)), (2, .int a2)]) (st' := [.int a2]) rfl (fun ls hl => ?_)
  obtain ⟨j, hj, e2⟩ := i32_cases (k := 4) (p_inE.mp hv).1 (p_inE.mp hv).2 (by decide)
  subst e2
  have hl : lv_has ls 4 [(3, .ref (rd (5 + k))), (0, .ref (sd 0)), (1, .int (nI k)), (2, .int (nI j))] := hl
  rcases (show j = 0 ∨ j = 1 ∨ j = 2 ∨ j = 3 ∨ j = 4 by omega) with e | e | e | e | e <;> subst e
  · refine lv_tableIn (tgt := 48) (off := 32) C.1 C.2.1 d_SP_told_16 (by decide) (by decide) (by decide) (by decide) ?_
    refine x_sx C b_SP_told_48_49 hl (L' := [(3, .ref (rd (5 + k))), (0, .ref (sd 0)), (1, .int (nI k)), (2, .int (nI 0))]) (st' := [.ref (rd (5 + k))]) rfl (fun ls hl => ?_)
    refine x_get C hP (rb + 5 + k) (rW_b hk) 2 (v := .int (ar 12 k)) rfl rfl (by decide) t_179 (fun _ z => z) d_SP_told_49 ?_
    exact x_iro C hr rfl d_SP_told_52
  · refine lv_tableIn (tgt := 53) (off := 37) C.1 C.2.1 d_SP_told_16 (by decide) (by decide) (by decide) (by decide) ?_
    refine x_sx C b_SP_told_53_54 hl (L' := [(3, .ref (rd (5 + k))), (0, .ref (sd 0)), (1, .int (nI k)), (2, .int (nI 1))]) (st' := [.ref (rd (5 + k))]) rfl (fun ls hl => ?_)
    refine x_get C hP (rb + 5 + k) (rW_b hk) 3 (v := .int (ar 13 k)) rfl rfl (by decide) t_182 (fun _ z => z) d_SP_told_54 ?_
    exact x_iro C hr rfl d_SP_told_57
  · refine lv_tableIn (tgt := 58) (off := 42) C.1 C.2.1 d_SP_told_16 (by decide) (by decide) (by decide) (by decide) ?_
    refine x_sx C b_SP_told_58_59 hl (L' := [(3, .ref (rd (5 + k))), (0, .ref (sd 0)), (1, .int (nI k)), (2, .int (nI 2))]) (st' := [.ref (rd (5 + k))]) rfl (fun ls hl => ?_)
    refine x_get C hP (rb + 5 + k) (rW_b hk) 4 (v := .int (ar 14 k)) rfl rfl (by decide) t_185 (fun _ z => z) d_SP_told_59 ?_
    exact x_iro C hr rfl d_SP_told_62
  · refine lv_tableIn (tgt := 63) (off := 47) C.1 C.2.1 d_SP_told_16 (by decide) (by decide) (by decide) (by decide) ?_
    refine x_sx C b_SP_told_63_64 hl (L' := [(3, .ref (rd (5 + k))), (0, .ref (sd 0)), (1, .int (nI k)), (2, .int (nI 3))]) (st' := [.ref (rd (5 + k))]) rfl (fun ls hl => ?_)
    cases k with
    | zero =>
      have hbo : (cW G rb n md rd sd ms fl mn sc ar b w0) (rb + 5 + 0) = some (rd (5 + 0), .inr (2, [.ref (sd (20 + 0)), .null, .int (ar 12 0), .int (ar 13 0), .int (ar 14 0), .int (ar 15 0), .int (ar 16 0)])) := rW_b hk
      refine x_ro (x_cV C hP hbo rfl (c_Body_askew_0 l G (cW G rb n md rd sd ms fl mn sc ar b w0) (rb + 5 + 0) (rd (5 + 0)) (.ref (sd (20 + 0))) (ar 12 0) (ar 13 0) (ar 14 0) (ar 15 0) (ar 16 0) hbo) t_532 t_11 t_550 t_530 t_531 hd_Body_askew blind_Pro (pre_ro C hP va_S.rf) (As := []) (rest := []) rfl hl.1 rfl rfl rfl ⟨Nat.le_of_ble_eq_true rfl, Nat.le_of_ble_eq_true rfl⟩ (Nat.le_of_ble_eq_true rfl) ⟨Nat.zero_le _, Nat.zero_le _⟩ d_SP_told_64) ?_
      exact x_iro C hr rfl d_SP_told_67
    | succ i =>
      refine x_ro (x_cV C hP (rW_b1 hk) rfl (c_Body_askew l G (cW G rb n md rd sd ms fl mn sc ar b w0) (rb + 5 + (i + 1)) (rb + 5 + i) (rd (5 + (i + 1))) (rd (5 + i)) (sd (20 + (i + 1))) (sd (20 + i)) (bfV rd i) (ar 12 (i + 1)) (ar 13 (i + 1)) (ar 14 (i + 1)) (ar 15 (i + 1)) (ar 16 (i + 1)) (ar 12 i) (ar 13 i) (ar 14 i) (ar 15 i) (ar 16 i) (rW_b1 hk) (rW_b (show i < n by omega))) t_532 t_11 t_550 t_530 t_531 hd_Body_askew blind_Pro (pre_ro C hP va_S.rf) (As := []) (rest := []) rfl hl.1 rfl rfl rfl ⟨Nat.le_of_ble_eq_true rfl, Nat.le_of_ble_eq_true rfl⟩ (Nat.le_of_ble_eq_true rfl) ⟨Nat.zero_le _, Nat.zero_le _⟩ d_SP_told_64) ?_
      exact x_iro C hr (by rw [← ask_s]; rfl) d_SP_told_67
  · refine lv_tableOut (tgt := 68) C.1 C.2.1 d_SP_told_16 (by decide) (by decide) ?_
    refine x_sx C b_SP_told_68_69 hl (L' := [(3, .ref (rd (5 + k))), (0, .ref (sd 0)), (1, .int (nI k)), (2, .int (nI 4))]) (st' := [.ref (rd (5 + k))]) rfl (fun ls hl => ?_)
    refine x_get C hP (rb + 5 + k) (rW_b hk) 6 (v := .int (ar 16 k)) rfl rfl (by decide) t_188 (fun _ z => z) d_SP_told_69 ?_
    exact x_iro C hr rfl d_SP_told_72
theorem hd_SP_told : hdP y_SP_told 2 := ⟨by decide +kernel, by decide +kernel, by decide +kernel⟩
theorem b_SP_corner_58_60 : decs prog_1_method_14_code [(.istore 5, 2)] 58 60 = true := by decide +kernel
theorem b_SP_corner_89_93 : decs prog_1_method_14_code [(.istore 6, 2), (.aload 4, 2)] 89 93 = true := by decide +kernel
theorem d_SP_corner_93 : decode prog_1_method_14_code 93 = .ok (.getfield 118, 3) := by decide +kernel
theorem d_SP_corner_96 : decode prog_1_method_14_code 96 = .ok (.invokestatic 7, 3) := by decide +kernel
theorem b_SP_corner_99_103 : decs prog_1_method_14_code [(.istore 7, 2), (.aload 4, 2)] 99 103 = true := by decide +kernel
theorem d_SP_corner_103 : decode prog_1_method_14_code 103 = .ok (.getfield 118, 3) := by decide +kernel
theorem d_SP_corner_106 : decode prog_1_method_14_code 106 = .ok (.invokestatic 140, 3) := by decide +kernel
theorem b_SP_corner_109_112 : decs prog_1_method_14_code [(.istore 8, 2), (.iload_n 3, 1)] 109 112 = true := by decide +kernel
theorem d_SP_corner_112 : decode prog_1_method_14_code 112 = .ok (.ifCond .ne 23, 3) := by decide +kernel
theorem b_SP_corner_135_137 : decs prog_1_method_14_code [(.aload 4, 2)] 135 137 = true := by decide +kernel
theorem d_SP_corner_137 : decode prog_1_method_14_code 137 = .ok (.getfield 115, 3) := by decide +kernel
theorem b_SP_corner_140_152 : decs prog_1_method_14_code [(.iload 5, 2), (.iload 8, 2), (.imul, 1), (.iadd, 1), (.iload 6, 2), (.iload 7, 2), (.imul, 1), (.iadd, 1)] 140 152 = true := by decide +kernel
theorem d_SP_corner_152 : decode prog_1_method_14_code 152 = .ok (.ireturn, 1) := by decide +kernel
theorem b_SP_corner_115_117 : decs prog_1_method_14_code [(.aload 4, 2)] 115 117 = true := by decide +kernel
theorem d_SP_corner_117 : decode prog_1_method_14_code 117 = .ok (.getfield 112, 3) := by decide +kernel
theorem b_SP_corner_120_132 : decs prog_1_method_14_code [(.iload 5, 2), (.iload 7, 2), (.imul, 1), (.iadd, 1), (.iload 6, 2), (.iload 8, 2), (.imul, 1), (.isub, 1)] 120 132 = true := by decide +kernel
theorem d_SP_corner_132 : decode prog_1_method_14_code 132 = .ok (.goto 20, 3) := by decide +kernel
theorem b_SP_corner_60_61 : decs prog_1_method_14_code [(.iload_n 2, 1)] 60 61 = true := by decide +kernel
theorem d_SP_corner_61 : decode prog_1_method_14_code 61 = .ok (.ifCond .eq 8, 3) := by decide +kernel
theorem b_SP_corner_69_71 : decs prog_1_method_14_code [(.aload 4, 2)] 69 71 = true := by decide +kernel
theorem d_SP_corner_71 : decode prog_1_method_14_code 71 = .ok (.getfield 127, 3) := by decide +kernel
theorem d_SP_corner_74 : decode prog_1_method_14_code 74 = .ok (.getfield 137, 3) := by decide +kernel
theorem d_SP_corner_77 : decode prog_1_method_14_code 77 = .ok (.goto 12, 3) := by decide +kernel
theorem b_SP_corner_64_66 : decs prog_1_method_14_code [(.iload_n 2, 1), (.iconst 3, 1)] 64 66 = true := by decide +kernel
theorem d_SP_corner_66 : decode prog_1_method_14_code 66 = .ok (.if_icmp .ne 14, 3) := by decide +kernel
theorem b_SP_corner_80_82 : decs prog_1_method_14_code [(.aload 4, 2)] 80 82 = true := by decide +kernel
theorem d_SP_corner_82 : decode prog_1_method_14_code 82 = .ok (.getfield 127, 3) := by decide +kernel
theorem d_SP_corner_85 : decode prog_1_method_14_code 85 = .ok (.getfield 137, 3) := by decide +kernel
theorem b_SP_corner_88_89 : decs prog_1_method_14_code [(.ineg, 1)] 88 89 = true := by decide +kernel
theorem b_SP_corner_33_35 : decs prog_1_method_14_code [(.iload_n 2, 1), (.iconst 2, 1)] 33 35 = true := by decide +kernel
theorem d_SP_corner_35 : decode prog_1_method_14_code 35 = .ok (.if_icmp .ge 14, 3) := by decide +kernel
theorem b_SP_corner_49_51 : decs prog_1_method_14_code [(.aload 4, 2)] 49 51 = true := by decide +kernel
theorem d_SP_corner_51 : decode prog_1_method_14_code 51 = .ok (.getfield 127, 3) := by decide +kernel
theorem d_SP_corner_54 : decode prog_1_method_14_code 54 = .ok (.getfield 134, 3) := by decide +kernel
theorem b_SP_corner_57_58 : decs prog_1_method_14_code [(.ineg, 1)] 57 58 = true := by decide +kernel
theorem b_SP_corner_38_40 : decs prog_1_method_14_code [(.aload 4, 2)] 38 40 = true := by decide +kernel
theorem d_SP_corner_40 : decode prog_1_method_14_code 40 = .ok (.getfield 127, 3) := by decide +kernel
theorem d_SP_corner_43 : decode prog_1_method_14_code 43 = .ok (.getfield 131, 3) := by decide +kernel
theorem d_SP_corner_46 : decode prog_1_method_14_code 46 = .ok (.goto 12, 3) := by decide +kernel
set_option maxRecDepth 100000 in
theorem c_SP_corner (l : Launch) (G : GG) (rb n : Nat) (md : Int32) (rd sd : Nat → Nat) (ms : Nat → Int32) (fl mn : Nat → Nat) (sc : Nat → Int32) (ar : Nat → Nat → Int32) (b : Bt) (w0 : WF) (k : Nat) (a2 a3 : Int32) (hn : n ≤ 3) (hrb : 100 ≤ rb) (hk : k < n) (hv : p_in a2 0 3 = 1 ∧ p_in a3 0 1 = 1) : Met l y_SP_corner (Cond.code y_SP_corner prog_1_method_14_code 9 (some FieldType.int) :: wt) { frames := 8, cells := 0, slots := 0, locals := 131 } (Pro G (cW G rb n md rd sd ms fl mn sc ar b w0) [.ref (sd 0), .int (nI k), .int a2, .int a3]) (Qro (.int (fCorner ar k a2 a3))) 0 0 (fun _ => False) := by
  refine ro_of (by decide +kernel) (Nat.le_of_ble_eq_true rfl) ?_
  intro p e s m below meth c ls C hP hr hl
  have hl : lv_has ls 9 [(0, .ref (sd 0)), (1, .int (nI k)), (2, .int a2), (3, .int a3)] := hl
  refine x_sx C b_SP_corner_0_2 hl (L' := [(0, .ref (sd 0)), (1, .int (nI k)), (2, .int a2), (3, .int a3)]) (st' := [.int (nI k), .ref (sd 0)]) rfl (fun ls hl => ?_)
  refine x_ro (x_cV C hP ((rW_0 (Or.inl (by omega)) hn).trans (sp_L hn).1) rfl (c_SP_bodyOf l G rb n md rd sd ms fl mn sc ar b w0 k hn hrb hk) t_547 t_1 t_544 t_546 ts_11 hd_SP_bodyOf blind_Pro (pre_ro C hP va_S.rf) (As := [.int (nI k)]) (rest := []) rfl hl.1 rfl rfl rfl ⟨Nat.le_of_ble_eq_true rfl, Nat.le_of_ble_eq_true rfl⟩ (Nat.le_of_ble_eq_true rfl) ⟨Nat.zero_le _, Nat.zero_le _⟩ d_SP_corner_2) ?_
  refine x_sx C b_SP_corner_5_10 hl (L' := [(4, .ref (rd (5 + k))), (0, .ref (sd 0)), (1, .int (nI k)), (2, .int a2), (3, .int a3)]) (st' := [.int 3, .int 0, .int a2]) rfl (fun ls hl => ?_)
  refine x_ro (x_cS C (c_SP_isIn l G (cW G rb n md rd sd ms fl mn sc ar b w0) a2 0 3) t_365 t_1 t_363 t_364 hd_SP_isIn blind_Pro (pre_ro C hP va_S.rf) (As := [.int a2, .int 0, .int 3]) (rest := []) rfl hl.1 rfl rfl rfl ⟨Nat.le_of_ble_eq_true rfl, Nat.le_of_ble_eq_true rfl⟩ (Nat.le_of_ble_eq_true rfl) ⟨Nat.zero_le _, Nat.zero_le _⟩ d_SP_corner_10) ?_
  refine lv_if_eq (tgt := 29) C.1 C.2.1 d_SP_corner_13 (by decide) (fun h => absurd h (by rw [hv.1]; first | done | decide)) (fun _ => ?_)
  refine x_sx C b_SP_corner_16_19 hl (L' := [(4, .ref (rd (5 + k))), (0, .ref (sd 0)), (1, .int (nI k)), (2, .int a2), (3, .int a3)]) (st' := [.int 1, .int 0, .int a3]) rfl (fun ls hl => ?_)
  refine x_ro (x_cS C (c_SP_isIn l G (cW G rb n md rd sd ms fl mn sc ar b w0) a3 0 1) t_365 t_1 t_363 t_364 hd_SP_isIn blind_Pro (pre_ro C hP va_S.rf) (As := [.int a3, .int 0, .int 1]) (rest := []) rfl hl.1 rfl rfl rfl ⟨Nat.le_of_ble_eq_true rfl, Nat.le_of_ble_eq_true rfl⟩ (Nat.le_of_ble_eq_true rfl) ⟨Nat.zero_le _, Nat.zero_le _⟩ d_SP_corner_19) ?_
  refine lv_if_eq (tgt := 29) C.1 C.2.1 d_SP_corner_22 (by decide) (fun h => absurd h (by rw [hv.2]; first | done | decide)) (fun _ => ?_)
  refine x_sx C b_SP_corner_25_26 hl (L' := [(4, .ref (rd (5 + k))), (0, .ref (sd 0)), (1, .int (nI k)), (2, .int a2), (3, .int a3)]) (st' := [.int 1]) rfl (fun ls hl => ?_)
  refine x_goto (tgt := 30) C d_SP_corner_26 (by decide) ?_
  refine x_rv (x_cS C (c_SP_need l G (cW G rb n md rd sd ms fl mn sc ar b w0)) t_368 t_1 t_366 t_367 hd_SP_need blind_Pro (pre_ro C hP va_S.rf) (As := [.int 1]) (rest := []) rfl hl.1 rfl rfl rfl ⟨Nat.le_of_ble_eq_true rfl, Nat.le_of_ble_eq_true rfl⟩ (Nat.le_of_ble_eq_true rfl) ⟨Nat.zero_le _, Nat.zero_le _⟩ d_SP_corner_30) ?_
  refine x_join (X := Unit) (nL := 9) (fun _ => True) (fun _ => [(4, .ref (rd (5 + k))), (0, .ref (sd 0)), (1, .int (nI k)), (2, .int a2), (3, .int a3)]) (fun _ => [.int (if 2 ≤ a2 then -ar 4 k else ar 3 k)]) 58 (fun ls _ hl _ => ?_) (fun J10 => ?_)
  · have hl : lv_has ls 9 [(4, .ref (rd (5 + k))), (0, .ref (sd 0)), (1, .int (nI k)), (2, .int a2), (3, .int a3)] := hl
    refine x_sx C b_SP_corner_58_60 hl (L' := [(5, .int (if 2 ≤ a2 then -ar 4 k else ar 3 k)), (4, .ref (rd (5 + k))), (0, .ref (sd 0)), (1, .int (nI k)), (2, .int a2), (3, .int a3)]) (st' := []) rfl (fun ls hl => ?_)
    refine x_join (X := Unit) (nL := 9) (fun _ => True) (fun _ => [(5, .int (if 2 ≤ a2 then -ar 4 k else ar 3 k)), (4, .ref (rd (5 + k))), (0, .ref (sd 0)), (1, .int (nI k)), (2, .int a2), (3, .int a3)]) (fun _ => [.int (if a2 = 0 ∨ a2 = 3 then ar 5 k else -ar 5 k)]) 89 (fun ls _ hl _ => ?_) (fun J11 => ?_)
    · have hl : lv_has ls 9 [(5, .int (if 2 ≤ a2 then -ar 4 k else ar 3 k)), (4, .ref (rd (5 + k))), (0, .ref (sd 0)), (1, .int (nI k)), (2, .int a2), (3, .int a3)] := hl
      refine x_sx C b_SP_corner_89_93 hl (L' := [(6, .int (if a2 = 0 ∨ a2 = 3 then ar 5 k else -ar 5 k)), (5, .int (if 2 ≤ a2 then -ar 4 k else ar 3 k)), (4, .ref (rd (5 + k))), (0, .ref (sd 0)), (1, .int (nI k)), (2, .int a2), (3, .int a3)]) (st' := [.ref (rd (5 + k))]) rfl (fun ls hl => ?_)
      refine x_get C hP (rb + 5 + k) (rW_b hk) 4 (v := .int (ar 14 k)) rfl rfl (by decide) t_185 (fun _ z => z) d_SP_corner_93 ?_
      refine x_ro (x_cS C (c_SP_dx l G (cW G rb n md rd sd ms fl mn sc ar b w0) (ar 14 k)) t_210 t_1 t_216 t_209 hd_SP_dx blind_Pro (pre_ro C hP va_S.rf) (As := [.int (ar 14 k)]) (rest := []) rfl hl.1 rfl rfl rfl ⟨Nat.le_of_ble_eq_true rfl, Nat.le_of_ble_eq_true rfl⟩ (Nat.le_of_ble_eq_true rfl) ⟨Nat.zero_le _, Nat.zero_le _⟩ d_SP_corner_96) ?_
      refine x_sx C b_SP_corner_99_103 hl (L' := [(7, .int (p_dx (ar 14 k))), (6, .int (if a2 = 0 ∨ a2 = 3 then ar 5 k else -ar 5 k)), (5, .int (if 2 ≤ a2 then -ar 4 k else ar 3 k)), (4, .ref (rd (5 + k))), (0, .ref (sd 0)), (1, .int (nI k)), (2, .int a2), (3, .int a3)]) (st' := [.ref (rd (5 + k))]) rfl (fun ls hl => ?_)
      refine x_get C hP (rb + 5 + k) (rW_b hk) 4 (v := .int (ar 14 k)) rfl rfl (by decide) t_185 (fun _ z => z) d_SP_corner_103 ?_
      refine x_ro (x_cS C (c_SP_dy l G (cW G rb n md rd sd ms fl mn sc ar b w0) (ar 14 k)) t_215 t_1 t_558 t_214 hd_SP_dy blind_Pro (pre_ro C hP va_S.rf) (As := [.int (ar 14 k)]) (rest := []) rfl hl.1 rfl rfl rfl ⟨Nat.le_of_ble_eq_true rfl, Nat.le_of_ble_eq_true rfl⟩ (Nat.le_of_ble_eq_true rfl) ⟨Nat.zero_le _, Nat.zero_le _⟩ d_SP_corner_106) ?_
      refine x_sx C b_SP_corner_109_112 hl (L' := [(8, .int (p_dy (ar 14 k))), (7, .int (p_dx (ar 14 k))), (6, .int (if a2 = 0 ∨ a2 = 3 then ar 5 k else -ar 5 k)), (5, .int (if 2 ≤ a2 then -ar 4 k else ar 3 k)), (4, .ref (rd (5 + k))), (0, .ref (sd 0)), (1, .int (nI k)), (2, .int a2), (3, .int a3)]) (st' := [.int a3]) rfl (fun ls hl => ?_)
      refine lv_if_ne (tgt := 135) C.1 C.2.1 d_SP_corner_112 (by decide) (fun h1 => ?_) (fun h1 => ?_)
      · refine x_sx C b_SP_corner_135_137 hl (L' := [(8, .int (p_dy (ar 14 k))), (7, .int (p_dx (ar 14 k))), (6, .int (if a2 = 0 ∨ a2 = 3 then ar 5 k else -ar 5 k)), (5, .int (if 2 ≤ a2 then -ar 4 k else ar 3 k)), (4, .ref (rd (5 + k))), (0, .ref (sd 0)), (1, .int (nI k)), (2, .int a2), (3, .int a3)]) (st' := [.ref (rd (5 + k))]) rfl (fun ls hl => ?_)
        refine x_get C hP (rb + 5 + k) (rW_b hk) 3 (v := .int (ar 13 k)) rfl rfl (by decide) t_182 (fun _ z => z) d_SP_corner_137 ?_
        refine x_sx C b_SP_corner_140_152 hl (L' := [(8, .int (p_dy (ar 14 k))), (7, .int (p_dx (ar 14 k))), (6, .int (if a2 = 0 ∨ a2 = 3 then ar 5 k else -ar 5 k)), (5, .int (if 2 ≤ a2 then -ar 4 k else ar 3 k)), (4, .ref (rd (5 + k))), (0, .ref (sd 0)), (1, .int (nI k)), (2, .int a2), (3, .int a3)]) (st' := [.int (((ar 13 k) + ((if 2 ≤ a2 then -ar 4 k else ar 3 k) * (p_dy (ar 14 k)))) + ((if a2 = 0 ∨ a2 = 3 then ar 5 k else -ar 5 k) * (p_dx (ar 14 k))))]) rfl (fun ls hl => ?_)
        exact x_iro C hr (by unfold fCorner; rw [if_neg h1]) d_SP_corner_152
      · refine x_sx C b_SP_corner_115_117 hl (L' := [(8, .int (p_dy (ar 14 k))), (7, .int (p_dx (ar 14 k))), (6, .int (if a2 = 0 ∨ a2 = 3 then ar 5 k else -ar 5 k)), (5, .int (if 2 ≤ a2 then -ar 4 k else ar 3 k)), (4, .ref (rd (5 + k))), (0, .ref (sd 0)), (1, .int (nI k)), (2, .int a2), (3, .int a3)]) (st' := [.ref (rd (5 + k))]) rfl (fun ls hl => ?_)
        refine x_get C hP (rb + 5 + k) (rW_b hk) 2 (v := .int (ar 12 k)) rfl rfl (by decide) t_179 (fun _ z => z) d_SP_corner_117 ?_
        refine x_sx C b_SP_corner_120_132 hl (L' := [(8, .int (p_dy (ar 14 k))), (7, .int (p_dx (ar 14 k))), (6, .int (if a2 = 0 ∨ a2 = 3 then ar 5 k else -ar 5 k)), (5, .int (if 2 ≤ a2 then -ar 4 k else ar 3 k)), (4, .ref (rd (5 + k))), (0, .ref (sd 0)), (1, .int (nI k)), (2, .int a2), (3, .int a3)]) (st' := [.int (((ar 12 k) + ((if 2 ≤ a2 then -ar 4 k else ar 3 k) * (p_dx (ar 14 k)))) - ((if a2 = 0 ∨ a2 = 3 then ar 5 k else -ar 5 k) * (p_dy (ar 14 k))))]) rfl (fun ls hl => ?_)
        refine x_goto (tgt := 152) C d_SP_corner_132 (by decide) ?_
        exact x_iro C hr (by unfold fCorner; rw [if_pos h1]) d_SP_corner_152
    · refine x_sx C b_SP_corner_60_61 hl (L' := [(5, .int (if 2 ≤ a2 then -ar 4 k else ar 3 k)), (4, .ref (rd (5 + k))), (0, .ref (sd 0)), (1, .int (nI k)), (2, .int a2), (3, .int a3)]) (st' := [.int a2]) rfl (fun ls hl => ?_)
      refine lv_if_eq (tgt := 69) C.1 C.2.1 d_SP_corner_61 (by decide) (fun hz1 => ?_) (fun hz1 => ?_)
      · refine x_sx C b_SP_corner_69_71 hl (L' := [(5, .int (if 2 ≤ a2 then -ar 4 k else ar 3 k)), (4, .ref (rd (5 + k))), (0, .ref (sd 0)), (1, .int (nI k)), (2, .int a2), (3, .int a3)]) (st' := [.ref (rd (5 + k))]) rfl (fun ls hl => ?_)
        refine x_get C hP (rb + 5 + k) (rW_b hk) 0 (v := .ref (sd (20 + k))) rfl rfl (by decide) t_175 (fun _ z => z) d_SP_corner_71 ?_
        refine x_get C hP (20 + k) ((rW_0 (Or.inl (by omega)) hn).trans ((sp_L hn).2.2.2 k hk)) 4 (v := .int (ar 5 k)) rfl rfl (by decide) t_471 (fun _ z => z) d_SP_corner_74 ?_
        refine x_goto (tgt := 89) C d_SP_corner_77 (by decide) ?_
        have q := J11 ls () hl trivial
        try dsimp only at q
        rw [if_pos (Or.inl hz1)] at q
        exact q
      · refine x_sx C b_SP_corner_64_66 hl (L' := [(5, .int (if 2 ≤ a2 then -ar 4 k else ar 3 k)), (4, .ref (rd (5 + k))), (0, .ref (sd 0)), (1, .int (nI k)), (2, .int a2), (3, .int a3)]) (st' := [.int 3, .int a2]) rfl (fun ls hl => ?_)
        refine lv_icmp_ne (tgt := 80) C.1 C.2.1 d_SP_corner_66 (by decide) (fun hz2 => ?_) (fun hz2 => ?_)
        · refine x_sx C b_SP_corner_80_82 hl (L' := [(5, .int (if 2 ≤ a2 then -ar 4 k else ar 3 k)), (4, .ref (rd (5 + k))), (0, .ref (sd 0)), (1, .int (nI k)), (2, .int a2), (3, .int a3)]) (st' := [.ref (rd (5 + k))]) rfl (fun ls hl => ?_)
          refine x_get C hP (rb + 5 + k) (rW_b hk) 0 (v := .ref (sd (20 + k))) rfl rfl (by decide) t_175 (fun _ z => z) d_SP_corner_82 ?_
          refine x_get C hP (20 + k) ((rW_0 (Or.inl (by omega)) hn).trans ((sp_L hn).2.2.2 k hk)) 4 (v := .int (ar 5 k)) rfl rfl (by decide) t_471 (fun _ z => z) d_SP_corner_85 ?_
          refine x_sx C b_SP_corner_88_89 hl (L' := [(5, .int (if 2 ≤ a2 then -ar 4 k else ar 3 k)), (4, .ref (rd (5 + k))), (0, .ref (sd 0)), (1, .int (nI k)), (2, .int a2), (3, .int a3)]) (st' := [.int (-(ar 5 k))]) rfl (fun ls hl => ?_)
          have q := J11 ls () hl trivial
          try dsimp only at q
          rw [if_neg (fun y => y.elim hz1 hz2)] at q
          exact q
        · refine x_sx C b_SP_corner_69_71 hl (L' := [(5, .int (if 2 ≤ a2 then -ar 4 k else ar 3 k)), (4, .ref (rd (5 + k))), (0, .ref (sd 0)), (1, .int (nI k)), (2, .int a2), (3, .int a3)]) (st' := [.ref (rd (5 + k))]) rfl (fun ls hl => ?_)
          refine x_get C hP (rb + 5 + k) (rW_b hk) 0 (v := .ref (sd (20 + k))) rfl rfl (by decide) t_175 (fun _ z => z) d_SP_corner_71 ?_
          refine x_get C hP (20 + k) ((rW_0 (Or.inl (by omega)) hn).trans ((sp_L hn).2.2.2 k hk)) 4 (v := .int (ar 5 k)) rfl rfl (by decide) t_471 (fun _ z => z) d_SP_corner_74 ?_
          refine x_goto (tgt := 89) C d_SP_corner_77 (by decide) ?_
          have q := J11 ls () hl trivial
          try dsimp only at q
          rw [if_pos (Or.inr hz2)] at q
          exact q
  · refine x_sx C b_SP_corner_33_35 hl (L' := [(4, .ref (rd (5 + k))), (0, .ref (sd 0)), (1, .int (nI k)), (2, .int a2), (3, .int a3)]) (st' := [.int 2, .int a2]) rfl (fun ls hl => ?_)
    refine lv_icmp_ge (tgt := 49) C.1 C.2.1 d_SP_corner_35 (by decide) (fun hz0 => ?_) (fun hz0 => ?_)
    · refine x_sx C b_SP_corner_49_51 hl (L' := [(4, .ref (rd (5 + k))), (0, .ref (sd 0)), (1, .int (nI k)), (2, .int a2), (3, .int a3)]) (st' := [.ref (rd (5 + k))]) rfl (fun ls hl => ?_)
      refine x_get C hP (rb + 5 + k) (rW_b hk) 0 (v := .ref (sd (20 + k))) rfl rfl (by decide) t_175 (fun _ z => z) d_SP_corner_51 ?_
      refine x_get C hP (20 + k) ((rW_0 (Or.inl (by omega)) hn).trans ((sp_L hn).2.2.2 k hk)) 3 (v := .int (ar 4 k)) rfl rfl (by decide) t_467 (fun _ z => z) d_SP_corner_54 ?_
      refine x_sx C b_SP_corner_57_58 hl (L' := [(4, .ref (rd (5 + k))), (0, .ref (sd 0)), (1, .int (nI k)), (2, .int a2), (3, .int a3)]) (st' := [.int (-(ar 4 k))]) rfl (fun ls hl => ?_)
      have q := J10 ls () hl trivial
      try dsimp only at q
      rw [if_pos hz0] at q
      exact q
    · refine x_sx C b_SP_corner_38_40 hl (L' := [(4, .ref (rd (5 + k))), (0, .ref (sd 0)), (1, .int (nI k)), (2, .int a2), (3, .int a3)]) (st' := [.ref (rd (5 + k))]) rfl (fun ls hl => ?_)
      refine x_get C hP (rb + 5 + k) (rW_b hk) 0 (v := .ref (sd (20 + k))) rfl rfl (by decide) t_175 (fun _ z => z) d_SP_corner_40 ?_
      refine x_get C hP (20 + k) ((rW_0 (Or.inl (by omega)) hn).trans ((sp_L hn).2.2.2 k hk)) 2 (v := .int (ar 3 k)) rfl rfl (by decide) t_463 (fun _ z => z) d_SP_corner_43 ?_
      refine x_goto (tgt := 58) C d_SP_corner_46 (by decide) ?_
      have q := J10 ls () hl trivial
      try dsimp only at q
      rw [if_neg hz0] at q
      exact q
theorem hd_SP_corner : hdP y_SP_corner 3 := ⟨by decide +kernel, by decide +kernel, by decide +kernel⟩
