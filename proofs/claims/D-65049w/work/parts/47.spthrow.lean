theorem b_SP_body_0_5 : decs prog_1_method_8_code [(.iload_n 1, 1), (.iconst 1, 1), (.sipush 200, 3)] 0 5 = true := by decide +kernel
theorem d_SP_body_5 : decode prog_1_method_8_code 5 = .ok (.invokestatic 63, 3) := by decide +kernel
theorem d_SP_body_8 : decode prog_1_method_8_code 8 = .ok (.ifCond .eq 50, 3) := by decide +kernel
theorem b_SP_body_58_59 : decs prog_1_method_8_code [(.iconst 0, 1)] 58 59 = true := by decide +kernel
theorem d_SP_body_59 : decode prog_1_method_8_code 59 = .ok (.invokestatic 67, 3) := by decide +kernel
theorem b_SP_body_11_16 : decs prog_1_method_8_code [(.iload_n 2, 1), (.iconst 0, 1), (.sipush 200, 3)] 11 16 = true := by decide +kernel
theorem d_SP_body_16 : decode prog_1_method_8_code 16 = .ok (.invokestatic 63, 3) := by decide +kernel
theorem d_SP_body_19 : decode prog_1_method_8_code 19 = .ok (.ifCond .eq 39, 3) := by decide +kernel
theorem b_SP_body_22_26 : decs prog_1_method_8_code [(.iload_n 3, 1), (.iconst 0, 1), (.bipush 60, 2)] 22 26 = true := by decide +kernel
theorem d_SP_body_26 : decode prog_1_method_8_code 26 = .ok (.invokestatic 63, 3) := by decide +kernel
theorem d_SP_body_29 : decode prog_1_method_8_code 29 = .ok (.ifCond .eq 29, 3) := by decide +kernel
theorem b_SP_body_32_37 : decs prog_1_method_8_code [(.iload 4, 2), (.iconst 0, 1), (.bipush 60, 2)] 32 37 = true := by decide +kernel
theorem d_SP_body_37 : decode prog_1_method_8_code 37 = .ok (.invokestatic 63, 3) := by decide +kernel
theorem d_SP_body_40 : decode prog_1_method_8_code 40 = .ok (.ifCond .eq 18, 3) := by decide +kernel
theorem b_SP_body_43_48 : decs prog_1_method_8_code [(.iload 5, 2), (.iconst 1, 1), (.bipush 20, 2)] 43 48 = true := by decide +kernel
theorem d_SP_body_48 : decode prog_1_method_8_code 48 = .ok (.invokestatic 63, 3) := by decide +kernel
theorem d_SP_body_51 : decode prog_1_method_8_code 51 = .ok (.ifCond .eq 7, 3) := by decide +kernel
theorem b_SP_body_54_55 : decs prog_1_method_8_code [(.iconst 1, 1)] 54 55 = true := by decide +kernel
theorem d_SP_body_55 : decode prog_1_method_8_code 55 = .ok (.goto 4, 3) := by decide +kernel
set_option maxRecDepth 100000 in
theorem c_SP_body_1 (l : Launch) (G : GG) (rb n : Nat) (md : Int32) (rd sd : Nat → Nat) (ms : Nat → Int32) (fl mn : Nat → Nat) (sc : Nat → Int32) (ar : Nat → Nat → Int32) (b : Bt) (w0 : WF) (a1 a2 a3 a4 a5 : Int32) (hfl : l.flags = pinnedFlags ++ [noTraceFlag]) (hn : n ≤ 3) (hrb : 100 ≤ rb) (hv : ¬ (p_in a1 1 200 = 1 ∧ p_in a2 0 200 = 1 ∧ p_in a3 0 60 = 1 ∧ p_in a4 0 60 = 1 ∧ p_in a5 1 20 = 1)) : MetT l y_SP_body (Cond.code y_SP_body prog_1_method_8_code 6 (some FieldType.int) :: wt) { frames := 7, cells := 1, slots := 6, locals := 110 } (Pro G (cW G rb n md rd sd ms fl mn sc ar b w0) [.ref (sd 0), .int a1, .int a2, .int a3, .int a4, .int a5]) (QtE "java/lang/IllegalArgumentException") 1 6 := by
  refine th_of (by decide +kernel) (Nat.le_of_ble_eq_true rfl) ?_
  intro p e s m below meth c ls C hP hno hl
  have hl : lv_has ls 6 [(0, .ref (sd 0)), (1, .int a1), (2, .int a2), (3, .int a3), (4, .int a4), (5, .int a5)] := hl
  refine x_sx C b_SP_body_0_5 hl (L' := [(0, .ref (sd 0)), (1, .int a1), (2, .int a2), (3, .int a3), (4, .int a4), (5, .int a5)]) (st' := [.int 200, .int 1, .int a1]) rfl (fun ls hl => ?_)
  refine x_ro (x_cS C (c_SP_isIn l G (cW G rb n md rd sd ms fl mn sc ar b w0) a1 1 200) t_365 t_1 t_363 t_364 hd_SP_isIn blind_Pro (pre_ro C hP va_S.rf) (As := [.int a1, .int 1, .int 200]) (rest := []) rfl hl.1 rfl rfl rfl ⟨Nat.le_of_ble_eq_true rfl, Nat.le_of_ble_eq_true rfl⟩ (Nat.le_of_ble_eq_true rfl) ⟨Nat.le_of_ble_eq_true rfl, Nat.le_of_ble_eq_true rfl⟩ d_SP_body_5) ?_
  refine lv_if_eq (tgt := 58) C.1 C.2.1 d_SP_body_8 (by decide) (fun h1 => ?_) (fun h1 => ?_)
  · refine x_sx C b_SP_body_58_59 hl (L' := [(0, .ref (sd 0)), (1, .int a1), (2, .int a2), (3, .int a3), (4, .int a4), (5, .int a5)]) (st' := [.int 0]) rfl (fun ls hl => ?_)
    refine t_S C (c_SP_need_t l G (cW G rb n md rd sd ms fl mn sc ar b w0) hfl) t_368 t_1 t_366 t_367 hd_SP_need blind_Pro (pre_ro C hP va_S.rf) (As := [.int 0]) (rest := []) rfl hl.1 rfl rfl rfl ⟨Nat.le_of_ble_eq_true rfl, Nat.le_of_ble_eq_true rfl⟩ (Nat.le_of_ble_eq_true rfl) ⟨(Nat.le_of_ble_eq_true rfl), (Nat.le_of_ble_eq_true rfl)⟩ d_SP_body_59 (fun x st t hst hW hq => t_out C hno (fun t2 ht2 => hq.up hst hW ht2))
  · refine x_sx C b_SP_body_11_16 hl (L' := [(0, .ref (sd 0)), (1, .int a1), (2, .int a2), (3, .int a3), (4, .int a4), (5, .int a5)]) (st' := [.int 200, .int 0, .int a2]) rfl (fun ls hl => ?_)
    refine x_ro (x_cS C (c_SP_isIn l G (cW G rb n md rd sd ms fl mn sc ar b w0) a2 0 200) t_365 t_1 t_363 t_364 hd_SP_isIn blind_Pro (pre_ro C hP va_S.rf) (As := [.int a2, .int 0, .int 200]) (rest := []) rfl hl.1 rfl rfl rfl ⟨Nat.le_of_ble_eq_true rfl, Nat.le_of_ble_eq_true rfl⟩ (Nat.le_of_ble_eq_true rfl) ⟨Nat.le_of_ble_eq_true rfl, Nat.le_of_ble_eq_true rfl⟩ d_SP_body_16) ?_
    refine lv_if_eq (tgt := 58) C.1 C.2.1 d_SP_body_19 (by decide) (fun h2 => ?_) (fun h2 => ?_)
    · refine x_sx C b_SP_body_58_59 hl (L' := [(0, .ref (sd 0)), (1, .int a1), (2, .int a2), (3, .int a3), (4, .int a4), (5, .int a5)]) (st' := [.int 0]) rfl (fun ls hl => ?_)
      refine t_S C (c_SP_need_t l G (cW G rb n md rd sd ms fl mn sc ar b w0) hfl) t_368 t_1 t_366 t_367 hd_SP_need blind_Pro (pre_ro C hP va_S.rf) (As := [.int 0]) (rest := []) rfl hl.1 rfl rfl rfl ⟨Nat.le_of_ble_eq_true rfl, Nat.le_of_ble_eq_true rfl⟩ (Nat.le_of_ble_eq_true rfl) ⟨(Nat.le_of_ble_eq_true rfl), (Nat.le_of_ble_eq_true rfl)⟩ d_SP_body_59 (fun x st t hst hW hq => t_out C hno (fun t2 ht2 => hq.up hst hW ht2))
    · refine x_sx C b_SP_body_22_26 hl (L' := [(0, .ref (sd 0)), (1, .int a1), (2, .int a2), (3, .int a3), (4, .int a4), (5, .int a5)]) (st' := [.int 60, .int 0, .int a3]) rfl (fun ls hl => ?_)
      refine x_ro (x_cS C (c_SP_isIn l G (cW G rb n md rd sd ms fl mn sc ar b w0) a3 0 60) t_365 t_1 t_363 t_364 hd_SP_isIn blind_Pro (pre_ro C hP va_S.rf) (As := [.int a3, .int 0, .int 60]) (rest := []) rfl hl.1 rfl rfl rfl ⟨Nat.le_of_ble_eq_true rfl, Nat.le_of_ble_eq_true rfl⟩ (Nat.le_of_ble_eq_true rfl) ⟨Nat.le_of_ble_eq_true rfl, Nat.le_of_ble_eq_true rfl⟩ d_SP_body_26) ?_
      refine lv_if_eq (tgt := 58) C.1 C.2.1 d_SP_body_29 (by decide) (fun h3 => ?_) (fun h3 => ?_)
      · refine x_sx C b_SP_body_58_59 hl (L' := [(0, .ref (sd 0)), (1, .int a1), (2, .int a2), (3, .int a3), (4, .int a4), (5, .int a5)]) (st' := [.int 0]) rfl (fun ls hl => ?_)
        refine t_S C (c_SP_need_t l G (cW G rb n md rd sd ms fl mn sc ar b w0) hfl) t_368 t_1 t_366 t_367 hd_SP_need blind_Pro (pre_ro C hP va_S.rf) (As := [.int 0]) (rest := []) rfl hl.1 rfl rfl rfl ⟨Nat.le_of_ble_eq_true rfl, Nat.le_of_ble_eq_true rfl⟩ (Nat.le_of_ble_eq_true rfl) ⟨(Nat.le_of_ble_eq_true rfl), (Nat.le_of_ble_eq_true rfl)⟩ d_SP_body_59 (fun x st t hst hW hq => t_out C hno (fun t2 ht2 => hq.up hst hW ht2))
      · refine x_sx C b_SP_body_32_37 hl (L' := [(0, .ref (sd 0)), (1, .int a1), (2, .int a2), (3, .int a3), (4, .int a4), (5, .int a5)]) (st' := [.int 60, .int 0, .int a4]) rfl (fun ls hl => ?_)
        refine x_ro (x_cS C (c_SP_isIn l G (cW G rb n md rd sd ms fl mn sc ar b w0) a4 0 60) t_365 t_1 t_363 t_364 hd_SP_isIn blind_Pro (pre_ro C hP va_S.rf) (As := [.int a4, .int 0, .int 60]) (rest := []) rfl hl.1 rfl rfl rfl ⟨Nat.le_of_ble_eq_true rfl, Nat.le_of_ble_eq_true rfl⟩ (Nat.le_of_ble_eq_true rfl) ⟨Nat.le_of_ble_eq_true rfl, Nat.le_of_ble_eq_true rfl⟩ d_SP_body_37) ?_
        refine lv_if_eq (tgt := 58) C.1 C.2.1 d_SP_body_40 (by decide) (fun h4 => ?_) (fun h4 => ?_)
        · refine x_sx C b_SP_body_58_59 hl (L' := [(0, .ref (sd 0)), (1, .int a1), (2, .int a2), (3, .int a3), (4, .int a4), (5, .int a5)]) (st' := [.int 0]) rfl (fun ls hl => ?_)
          refine t_S C (c_SP_need_t l G (cW G rb n md rd sd ms fl mn sc ar b w0) hfl) t_368 t_1 t_366 t_367 hd_SP_need blind_Pro (pre_ro C hP va_S.rf) (As := [.int 0]) (rest := []) rfl hl.1 rfl rfl rfl ⟨Nat.le_of_ble_eq_true rfl, Nat.le_of_ble_eq_true rfl⟩ (Nat.le_of_ble_eq_true rfl) ⟨(Nat.le_of_ble_eq_true rfl), (Nat.le_of_ble_eq_true rfl)⟩ d_SP_body_59 (fun x st t hst hW hq => t_out C hno (fun t2 ht2 => hq.up hst hW ht2))
        · refine x_sx C b_SP_body_43_48 hl (L' := [(0, .ref (sd 0)), (1, .int a1), (2, .int a2), (3, .int a3), (4, .int a4), (5, .int a5)]) (st' := [.int 20, .int 1, .int a5]) rfl (fun ls hl => ?_)
          refine x_ro (x_cS C (c_SP_isIn l G (cW G rb n md rd sd ms fl mn sc ar b w0) a5 1 20) t_365 t_1 t_363 t_364 hd_SP_isIn blind_Pro (pre_ro C hP va_S.rf) (As := [.int a5, .int 1, .int 20]) (rest := []) rfl hl.1 rfl rfl rfl ⟨Nat.le_of_ble_eq_true rfl, Nat.le_of_ble_eq_true rfl⟩ (Nat.le_of_ble_eq_true rfl) ⟨Nat.le_of_ble_eq_true rfl, Nat.le_of_ble_eq_true rfl⟩ d_SP_body_48) ?_
          refine lv_if_eq (tgt := 58) C.1 C.2.1 d_SP_body_51 (by decide) (fun h5 => ?_) (fun h5 => ?_)
          · refine x_sx C b_SP_body_58_59 hl (L' := [(0, .ref (sd 0)), (1, .int a1), (2, .int a2), (3, .int a3), (4, .int a4), (5, .int a5)]) (st' := [.int 0]) rfl (fun ls hl => ?_)
            refine t_S C (c_SP_need_t l G (cW G rb n md rd sd ms fl mn sc ar b w0) hfl) t_368 t_1 t_366 t_367 hd_SP_need blind_Pro (pre_ro C hP va_S.rf) (As := [.int 0]) (rest := []) rfl hl.1 rfl rfl rfl ⟨Nat.le_of_ble_eq_true rfl, Nat.le_of_ble_eq_true rfl⟩ (Nat.le_of_ble_eq_true rfl) ⟨(Nat.le_of_ble_eq_true rfl), (Nat.le_of_ble_eq_true rfl)⟩ d_SP_body_59 (fun x st t hst hW hq => t_out C hno (fun t2 ht2 => hq.up hst hW ht2))
          · refine x_sx C b_SP_body_54_55 hl (L' := [(0, .ref (sd 0)), (1, .int a1), (2, .int a2), (3, .int a3), (4, .int a4), (5, .int a5)]) (st' := [.int 1]) rfl (fun ls hl => ?_)
            refine x_goto (tgt := 59) C d_SP_body_55 (by decide) ?_
            exact absurd ⟨p_in1 h1, p_in1 h2, p_in1 h3, p_in1 h4, p_in1 h5⟩ hv
theorem b_SP_start_0_7 : decs prog_1_method_9_code [(.iload_n 1, 1), (.sipush (-1000), 3), (.sipush 1000, 3)] 0 7 = true := by decide +kernel
theorem d_SP_start_7 : decode prog_1_method_9_code 7 = .ok (.invokestatic 63, 3) := by decide +kernel
theorem d_SP_start_10 : decode prog_1_method_9_code 10 = .ok (.ifCond .eq 30, 3) := by decide +kernel
theorem b_SP_start_40_41 : decs prog_1_method_9_code [(.iconst 0, 1)] 40 41 = true := by decide +kernel
theorem d_SP_start_41 : decode prog_1_method_9_code 41 = .ok (.invokestatic 67, 3) := by decide +kernel
theorem b_SP_start_13_20 : decs prog_1_method_9_code [(.iload_n 2, 1), (.sipush (-1000), 3), (.sipush 1000, 3)] 13 20 = true := by decide +kernel
theorem d_SP_start_20 : decode prog_1_method_9_code 20 = .ok (.invokestatic 63, 3) := by decide +kernel
theorem d_SP_start_23 : decode prog_1_method_9_code 23 = .ok (.ifCond .eq 17, 3) := by decide +kernel
theorem b_SP_start_26_30 : decs prog_1_method_9_code [(.iload_n 3, 1), (.iconst 0, 1), (.bipush 63, 2)] 26 30 = true := by decide +kernel
theorem d_SP_start_30 : decode prog_1_method_9_code 30 = .ok (.invokestatic 63, 3) := by decide +kernel
theorem d_SP_start_33 : decode prog_1_method_9_code 33 = .ok (.ifCond .eq 7, 3) := by decide +kernel
theorem b_SP_start_36_37 : decs prog_1_method_9_code [(.iconst 1, 1)] 36 37 = true := by decide +kernel
theorem d_SP_start_37 : decode prog_1_method_9_code 37 = .ok (.goto 4, 3) := by decide +kernel
set_option maxRecDepth 100000 in
theorem c_SP_start_1 (l : Launch) (G : GG) (rb n : Nat) (md : Int32) (rd sd : Nat → Nat) (ms : Nat → Int32) (fl mn : Nat → Nat) (sc : Nat → Int32) (ar : Nat → Nat → Int32) (b : Bt) (w0 : WF) (a1 a2 a3 : Int32) (hfl : l.flags = pinnedFlags ++ [noTraceFlag]) (hn : n ≤ 3) (hrb : 100 ≤ rb) (hv : ¬ (p_in a1 (-1000) 1000 = 1 ∧ p_in a2 (-1000) 1000 = 1 ∧ p_in a3 0 63 = 1)) : MetT l y_SP_start (Cond.code y_SP_start prog_1_method_9_code 4 none :: wt) { frames := 7, cells := 1, slots := 6, locals := 110 } (Pro G (cW G rb n md rd sd ms fl mn sc ar b w0) [.ref (sd 0), .int a1, .int a2, .int a3]) (QtE "java/lang/IllegalArgumentException") 1 6 := by
  refine th_of (by decide +kernel) (Nat.le_of_ble_eq_true rfl) ?_
  intro p e s m below meth c ls C hP hno hl
  have hl : lv_has ls 4 [(0, .ref (sd 0)), (1, .int a1), (2, .int a2), (3, .int a3)] := hl
  refine x_sx C b_SP_start_0_7 hl (L' := [(0, .ref (sd 0)), (1, .int a1), (2, .int a2), (3, .int a3)]) (st' := [.int 1000, .int (-1000), .int a1]) rfl (fun ls hl => ?_)
  refine x_ro (x_cS C (c_SP_isIn l G (cW G rb n md rd sd ms fl mn sc ar b w0) a1 (-1000) 1000) t_365 t_1 t_363 t_364 hd_SP_isIn blind_Pro (pre_ro C hP va_S.rf) (As := [.int a1, .int (-1000), .int 1000]) (rest := []) rfl hl.1 rfl rfl rfl ⟨Nat.le_of_ble_eq_true rfl, Nat.le_of_ble_eq_true rfl⟩ (Nat.le_of_ble_eq_true rfl) ⟨Nat.le_of_ble_eq_true rfl, Nat.le_of_ble_eq_true rfl⟩ d_SP_start_7) ?_
  refine lv_if_eq (tgt := 40) C.1 C.2.1 d_SP_start_10 (by decide) (fun h1 => ?_) (fun h1 => ?_)
  · refine x_sx C b_SP_start_40_41 hl (L' := [(0, .ref (sd 0)), (1, .int a1), (2, .int a2), (3, .int a3)]) (st' := [.int 0]) rfl (fun ls hl => ?_)
    refine t_S C (c_SP_need_t l G (cW G rb n md rd sd ms fl mn sc ar b w0) hfl) t_368 t_1 t_366 t_367 hd_SP_need blind_Pro (pre_ro C hP va_S.rf) (As := [.int 0]) (rest := []) rfl hl.1 rfl rfl rfl ⟨Nat.le_of_ble_eq_true rfl, Nat.le_of_ble_eq_true rfl⟩ (Nat.le_of_ble_eq_true rfl) ⟨(Nat.le_of_ble_eq_true rfl), (Nat.le_of_ble_eq_true rfl)⟩ d_SP_start_41 (fun x st t hst hW hq => t_out C hno (fun t2 ht2 => hq.up hst hW ht2))
  · refine x_sx C b_SP_start_13_20 hl (L' := [(0, .ref (sd 0)), (1, .int a1), (2, .int a2), (3, .int a3)]) (st' := [.int 1000, .int (-1000), .int a2]) rfl (fun ls hl => ?_)
    refine x_ro (x_cS C (c_SP_isIn l G (cW G rb n md rd sd ms fl mn sc ar b w0) a2 (-1000) 1000) t_365 t_1 t_363 t_364 hd_SP_isIn blind_Pro (pre_ro C hP va_S.rf) (As := [.int a2, .int (-1000), .int 1000]) (rest := []) rfl hl.1 rfl rfl rfl ⟨Nat.le_of_ble_eq_true rfl, Nat.le_of_ble_eq_true rfl⟩ (Nat.le_of_ble_eq_true rfl) ⟨Nat.le_of_ble_eq_true rfl, Nat.le_of_ble_eq_true rfl⟩ d_SP_start_20) ?_
    refine lv_if_eq (tgt := 40) C.1 C.2.1 d_SP_start_23 (by decide) (fun h2 => ?_) (fun h2 => ?_)
    · refine x_sx C b_SP_start_40_41 hl (L' := [(0, .ref (sd 0)), (1, .int a1), (2, .int a2), (3, .int a3)]) (st' := [.int 0]) rfl (fun ls hl => ?_)
      refine t_S C (c_SP_need_t l G (cW G rb n md rd sd ms fl mn sc ar b w0) hfl) t_368 t_1 t_366 t_367 hd_SP_need blind_Pro (pre_ro C hP va_S.rf) (As := [.int 0]) (rest := []) rfl hl.1 rfl rfl rfl ⟨Nat.le_of_ble_eq_true rfl, Nat.le_of_ble_eq_true rfl⟩ (Nat.le_of_ble_eq_true rfl) ⟨(Nat.le_of_ble_eq_true rfl), (Nat.le_of_ble_eq_true rfl)⟩ d_SP_start_41 (fun x st t hst hW hq => t_out C hno (fun t2 ht2 => hq.up hst hW ht2))
    · refine x_sx C b_SP_start_26_30 hl (L' := [(0, .ref (sd 0)), (1, .int a1), (2, .int a2), (3, .int a3)]) (st' := [.int 63, .int 0, .int a3]) rfl (fun ls hl => ?_)
      refine x_ro (x_cS C (c_SP_isIn l G (cW G rb n md rd sd ms fl mn sc ar b w0) a3 0 63) t_365 t_1 t_363 t_364 hd_SP_isIn blind_Pro (pre_ro C hP va_S.rf) (As := [.int a3, .int 0, .int 63]) (rest := []) rfl hl.1 rfl rfl rfl ⟨Nat.le_of_ble_eq_true rfl, Nat.le_of_ble_eq_true rfl⟩ (Nat.le_of_ble_eq_true rfl) ⟨Nat.le_of_ble_eq_true rfl, Nat.le_of_ble_eq_true rfl⟩ d_SP_start_30) ?_
      refine lv_if_eq (tgt := 40) C.1 C.2.1 d_SP_start_33 (by decide) (fun h3 => ?_) (fun h3 => ?_)
      · refine x_sx C b_SP_start_40_41 hl (L' := [(0, .ref (sd 0)), (1, .int a1), (2, .int a2), (3, .int a3)]) (st' := [.int 0]) rfl (fun ls hl => ?_)
        refine t_S C (c_SP_need_t l G (cW G rb n md rd sd ms fl mn sc ar b w0) hfl) t_368 t_1 t_366 t_367 hd_SP_need blind_Pro (pre_ro C hP va_S.rf) (As := [.int 0]) (rest := []) rfl hl.1 rfl rfl rfl ⟨Nat.le_of_ble_eq_true rfl, Nat.le_of_ble_eq_true rfl⟩ (Nat.le_of_ble_eq_true rfl) ⟨(Nat.le_of_ble_eq_true rfl), (Nat.le_of_ble_eq_true rfl)⟩ d_SP_start_41 (fun x st t hst hW hq => t_out C hno (fun t2 ht2 => hq.up hst hW ht2))
      · refine x_sx C b_SP_start_36_37 hl (L' := [(0, .ref (sd 0)), (1, .int a1), (2, .int a2), (3, .int a3)]) (st' := [.int 1]) rfl (fun ls hl => ?_)
        refine x_goto (tgt := 41) C d_SP_start_37 (by decide) ?_
        exact absurd ⟨p_in1 h1, p_in1 h2, p_in1 h3⟩ hv
theorem b_SP_pole_0_7 : decs prog_1_method_11_code [(.iload_n 1, 1), (.sipush (-1000), 3), (.sipush 1000, 3)] 0 7 = true := by decide +kernel
theorem d_SP_pole_7 : decode prog_1_method_11_code 7 = .ok (.invokestatic 63, 3) := by decide +kernel
theorem d_SP_pole_10 : decode prog_1_method_11_code 10 = .ok (.ifCond .eq 20, 3) := by decide +kernel
theorem b_SP_pole_30_31 : decs prog_1_method_11_code [(.iconst 0, 1)] 30 31 = true := by decide +kernel
theorem d_SP_pole_31 : decode prog_1_method_11_code 31 = .ok (.invokestatic 67, 3) := by decide +kernel
theorem b_SP_pole_13_20 : decs prog_1_method_11_code [(.iload_n 2, 1), (.sipush (-1000), 3), (.sipush 1000, 3)] 13 20 = true := by decide +kernel
theorem d_SP_pole_20 : decode prog_1_method_11_code 20 = .ok (.invokestatic 63, 3) := by decide +kernel
theorem d_SP_pole_23 : decode prog_1_method_11_code 23 = .ok (.ifCond .eq 7, 3) := by decide +kernel
theorem b_SP_pole_26_27 : decs prog_1_method_11_code [(.iconst 1, 1)] 26 27 = true := by decide +kernel
theorem d_SP_pole_27 : decode prog_1_method_11_code 27 = .ok (.goto 4, 3) := by decide +kernel
set_option maxRecDepth 100000 in
theorem c_SP_pole_1 (l : Launch) (G : GG) (rb n : Nat) (md : Int32) (rd sd : Nat → Nat) (ms : Nat → Int32) (fl mn : Nat → Nat) (sc : Nat → Int32) (ar : Nat → Nat → Int32) (b : Bt) (w0 : WF) (a1 a2 : Int32) (hfl : l.flags = pinnedFlags ++ [noTraceFlag]) (hn : n ≤ 3) (hrb : 100 ≤ rb) (hv : ¬ (p_in a1 (-1000) 1000 = 1 ∧ p_in a2 (-1000) 1000 = 1)) : MetT l y_SP_pole (Cond.code y_SP_pole prog_1_method_11_code 3 (some FieldType.int) :: wt) { frames := 7, cells := 1, slots := 6, locals := 110 } (Pro G (cW G rb n md rd sd ms fl mn sc ar b w0) [.ref (sd 0), .int a1, .int a2]) (QtE "java/lang/IllegalArgumentException") 1 6 := by
  refine th_of (by decide +kernel) (Nat.le_of_ble_eq_true rfl) ?_
  intro p e s m below meth c ls C hP hno hl
  have hl : lv_has ls 3 [(0, .ref (sd 0)), (1, .int a1), (2, .int a2)] := hl
  refine x_sx C b_SP_pole_0_7 hl (L' := [(0, .ref (sd 0)), (1, .int a1), (2, .int a2)]) (st' := [.int 1000, .int (-1000), .int a1]) rfl (fun ls hl => ?_)
  refine x_ro (x_cS C (c_SP_isIn l G (cW G rb n md rd sd ms fl mn sc ar b w0) a1 (-1000) 1000) t_365 t_1 t_363 t_364 hd_SP_isIn blind_Pro (pre_ro C hP va_S.rf) (As := [.int a1, .int (-1000), .int 1000]) (rest := []) rfl hl.1 rfl rfl rfl ⟨Nat.le_of_ble_eq_true rfl, Nat.le_of_ble_eq_true rfl⟩ (Nat.le_of_ble_eq_true rfl) ⟨Nat.le_of_ble_eq_true rfl, Nat.le_of_ble_eq_true rfl⟩ d_SP_pole_7) ?_
  refine lv_if_eq (tgt := 30) C.1 C.2.1 d_SP_pole_10 (by decide) (fun h1 => ?_) (fun h1 => ?_)
  · refine x_sx C b_SP_pole_30_31 hl (L' := [(0, .ref (sd 0)), (1, .int a1), (2, .int a2)]) (st' := [.int 0]) rfl (fun ls hl => ?_)
    refine t_S C (c_SP_need_t l G (cW G rb n md rd sd ms fl mn sc ar b w0) hfl) t_368 t_1 t_366 t_367 hd_SP_need blind_Pro (pre_ro C hP va_S.rf) (As := [.int 0]) (rest := []) rfl hl.1 rfl rfl rfl ⟨Nat.le_of_ble_eq_true rfl, Nat.le_of_ble_eq_true rfl⟩ (Nat.le_of_ble_eq_true rfl) ⟨(Nat.le_of_ble_eq_true rfl), (Nat.le_of_ble_eq_true rfl)⟩ d_SP_pole_31 (fun x st t hst hW hq => t_out C hno (fun t2 ht2 => hq.up hst hW ht2))
  · refine x_sx C b_SP_pole_13_20 hl (L' := [(0, .ref (sd 0)), (1, .int a1), (2, .int a2)]) (st' := [.int 1000, .int (-1000), .int a2]) rfl (fun ls hl => ?_)
    refine x_ro (x_cS C (c_SP_isIn l G (cW G rb n md rd sd ms fl mn sc ar b w0) a2 (-1000) 1000) t_365 t_1 t_363 t_364 hd_SP_isIn blind_Pro (pre_ro C hP va_S.rf) (As := [.int a2, .int (-1000), .int 1000]) (rest := []) rfl hl.1 rfl rfl rfl ⟨Nat.le_of_ble_eq_true rfl, Nat.le_of_ble_eq_true rfl⟩ (Nat.le_of_ble_eq_true rfl) ⟨Nat.le_of_ble_eq_true rfl, Nat.le_of_ble_eq_true rfl⟩ d_SP_pole_20) ?_
    refine lv_if_eq (tgt := 30) C.1 C.2.1 d_SP_pole_23 (by decide) (fun h2 => ?_) (fun h2 => ?_)
    · refine x_sx C b_SP_pole_30_31 hl (L' := [(0, .ref (sd 0)), (1, .int a1), (2, .int a2)]) (st' := [.int 0]) rfl (fun ls hl => ?_)
      refine t_S C (c_SP_need_t l G (cW G rb n md rd sd ms fl mn sc ar b w0) hfl) t_368 t_1 t_366 t_367 hd_SP_need blind_Pro (pre_ro C hP va_S.rf) (As := [.int 0]) (rest := []) rfl hl.1 rfl rfl rfl ⟨Nat.le_of_ble_eq_true rfl, Nat.le_of_ble_eq_true rfl⟩ (Nat.le_of_ble_eq_true rfl) ⟨(Nat.le_of_ble_eq_true rfl), (Nat.le_of_ble_eq_true rfl)⟩ d_SP_pole_31 (fun x st t hst hW hq => t_out C hno (fun t2 ht2 => hq.up hst hW ht2))
    · refine x_sx C b_SP_pole_26_27 hl (L' := [(0, .ref (sd 0)), (1, .int a1), (2, .int a2)]) (st' := [.int 1]) rfl (fun ls hl => ?_)
      refine x_goto (tgt := 31) C d_SP_pole_27 (by decide) ?_
      exact absurd ⟨p_in1 h1, p_in1 h2⟩ hv
theorem b_SP_go_0_4 : decs prog_1_method_12_code [(.iload_n 1, 1), (.bipush (-3), 2), (.iconst 3, 1)] 0 4 = true := by decide +kernel
theorem d_SP_go_4 : decode prog_1_method_12_code 4 = .ok (.invokestatic 63, 3) := by decide +kernel
theorem d_SP_go_7 : decode prog_1_method_12_code 7 = .ok (.ifCond .eq 18, 3) := by decide +kernel
theorem b_SP_go_25_26 : decs prog_1_method_12_code [(.iconst 0, 1)] 25 26 = true := by decide +kernel
theorem d_SP_go_26 : decode prog_1_method_12_code 26 = .ok (.invokestatic 67, 3) := by decide +kernel
theorem b_SP_go_10_15 : decs prog_1_method_12_code [(.iload_n 2, 1), (.iconst 1, 1), (.sipush 200, 3)] 10 15 = true := by decide +kernel
theorem d_SP_go_15 : decode prog_1_method_12_code 15 = .ok (.invokestatic 63, 3) := by decide +kernel
theorem d_SP_go_18 : decode prog_1_method_12_code 18 = .ok (.ifCond .eq 7, 3) := by decide +kernel
theorem b_SP_go_21_22 : decs prog_1_method_12_code [(.iconst 1, 1)] 21 22 = true := by decide +kernel
theorem d_SP_go_22 : decode prog_1_method_12_code 22 = .ok (.goto 4, 3) := by decide +kernel
set_option maxRecDepth 100000 in
theorem c_SP_go_1 (l : Launch) (G : GG) (rb n : Nat) (md : Int32) (rd sd : Nat → Nat) (ms : Nat → Int32) (fl mn : Nat → Nat) (sc : Nat → Int32) (ar : Nat → Nat → Int32) (b : Bt) (w0 : WF) (a1 a2 fw : Int32) (hfl : l.flags = pinnedFlags ++ [noTraceFlag]) (hn : n ≤ 3) (hrb : 100 ≤ rb) (hv : ¬ (p_in a1 (-3) 3 = 1 ∧ p_in a2 1 200 = 1)) : MetT l y_SP_go (Cond.code y_SP_go prog_1_method_12_code 4 (some FieldType.int) :: wt) { frames := 7, cells := 1, slots := 6, locals := 110 } (Pro G (cW G rb n md rd sd ms fl mn sc ar b w0) [.ref (sd 0), .int a1, .int a2, .int fw]) (QtE "java/lang/IllegalArgumentException") 1 6 := by
  refine th_of (by decide +kernel) (Nat.le_of_ble_eq_true rfl) ?_
  intro p e s m below meth c ls C hP hno hl
  have hl : lv_has ls 4 [(0, .ref (sd 0)), (1, .int a1), (2, .int a2), (3, .int fw)] := hl
  refine x_sx C b_SP_go_0_4 hl (L' := [(0, .ref (sd 0)), (1, .int a1), (2, .int a2), (3, .int fw)]) (st' := [.int 3, .int (-3), .int a1]) rfl (fun ls hl => ?_)
  refine x_ro (x_cS C (c_SP_isIn l G (cW G rb n md rd sd ms fl mn sc ar b w0) a1 (-3) 3) t_365 t_1 t_363 t_364 hd_SP_isIn blind_Pro (pre_ro C hP va_S.rf) (As := [.int a1, .int (-3), .int 3]) (rest := []) rfl hl.1 rfl rfl rfl ⟨Nat.le_of_ble_eq_true rfl, Nat.le_of_ble_eq_true rfl⟩ (Nat.le_of_ble_eq_true rfl) ⟨Nat.le_of_ble_eq_true rfl, Nat.le_of_ble_eq_true rfl⟩ d_SP_go_4) ?_
  refine lv_if_eq (tgt := 25) C.1 C.2.1 d_SP_go_7 (by decide) (fun h1 => ?_) (fun h1 => ?_)
  · refine x_sx C b_SP_go_25_26 hl (L' := [(0, .ref (sd 0)), (1, .int a1), (2, .int a2), (3, .int fw)]) (st' := [.int 0]) rfl (fun ls hl => ?_)
    refine t_S C (c_SP_need_t l G (cW G rb n md rd sd ms fl mn sc ar b w0) hfl) t_368 t_1 t_366 t_367 hd_SP_need blind_Pro (pre_ro C hP va_S.rf) (As := [.int 0]) (rest := []) rfl hl.1 rfl rfl rfl ⟨Nat.le_of_ble_eq_true rfl, Nat.le_of_ble_eq_true rfl⟩ (Nat.le_of_ble_eq_true rfl) ⟨(Nat.le_of_ble_eq_true rfl), (Nat.le_of_ble_eq_true rfl)⟩ d_SP_go_26 (fun x st t hst hW hq => t_out C hno (fun t2 ht2 => hq.up hst hW ht2))
  · refine x_sx C b_SP_go_10_15 hl (L' := [(0, .ref (sd 0)), (1, .int a1), (2, .int a2), (3, .int fw)]) (st' := [.int 200, .int 1, .int a2]) rfl (fun ls hl => ?_)
    refine x_ro (x_cS C (c_SP_isIn l G (cW G rb n md rd sd ms fl mn sc ar b w0) a2 1 200) t_365 t_1 t_363 t_364 hd_SP_isIn blind_Pro (pre_ro C hP va_S.rf) (As := [.int a2, .int 1, .int 200]) (rest := []) rfl hl.1 rfl rfl rfl ⟨Nat.le_of_ble_eq_true rfl, Nat.le_of_ble_eq_true rfl⟩ (Nat.le_of_ble_eq_true rfl) ⟨Nat.le_of_ble_eq_true rfl, Nat.le_of_ble_eq_true rfl⟩ d_SP_go_15) ?_
    refine lv_if_eq (tgt := 25) C.1 C.2.1 d_SP_go_18 (by decide) (fun h2 => ?_) (fun h2 => ?_)
    · refine x_sx C b_SP_go_25_26 hl (L' := [(0, .ref (sd 0)), (1, .int a1), (2, .int a2), (3, .int fw)]) (st' := [.int 0]) rfl (fun ls hl => ?_)
      refine t_S C (c_SP_need_t l G (cW G rb n md rd sd ms fl mn sc ar b w0) hfl) t_368 t_1 t_366 t_367 hd_SP_need blind_Pro (pre_ro C hP va_S.rf) (As := [.int 0]) (rest := []) rfl hl.1 rfl rfl rfl ⟨Nat.le_of_ble_eq_true rfl, Nat.le_of_ble_eq_true rfl⟩ (Nat.le_of_ble_eq_true rfl) ⟨(Nat.le_of_ble_eq_true rfl), (Nat.le_of_ble_eq_true rfl)⟩ d_SP_go_26 (fun x st t hst hW hq => t_out C hno (fun t2 ht2 => hq.up hst hW ht2))
    · refine x_sx C b_SP_go_21_22 hl (L' := [(0, .ref (sd 0)), (1, .int a1), (2, .int a2), (3, .int fw)]) (st' := [.int 1]) rfl (fun ls hl => ?_)
      refine x_goto (tgt := 26) C d_SP_go_22 (by decide) ?_
      exact absurd ⟨p_in1 h1, p_in1 h2⟩ hv
theorem b_SP_cell_0_5 : decs prog_1_method_16_code [(.iload_n 1, 1), (.bipush (-32), 2), (.bipush 31, 2)] 0 5 = true := by decide +kernel
theorem d_SP_cell_5 : decode prog_1_method_16_code 5 = .ok (.invokestatic 63, 3) := by decide +kernel
theorem d_SP_cell_8 : decode prog_1_method_16_code 8 = .ok (.ifCond .eq 18, 3) := by decide +kernel
theorem b_SP_cell_26_27 : decs prog_1_method_16_code [(.iconst 0, 1)] 26 27 = true := by decide +kernel
theorem d_SP_cell_27 : decode prog_1_method_16_code 27 = .ok (.invokestatic 67, 3) := by decide +kernel
theorem b_SP_cell_11_16 : decs prog_1_method_16_code [(.iload_n 2, 1), (.bipush (-32), 2), (.bipush 31, 2)] 11 16 = true := by decide +kernel
theorem d_SP_cell_16 : decode prog_1_method_16_code 16 = .ok (.invokestatic 63, 3) := by decide +kernel
theorem d_SP_cell_19 : decode prog_1_method_16_code 19 = .ok (.ifCond .eq 7, 3) := by decide +kernel
theorem b_SP_cell_22_23 : decs prog_1_method_16_code [(.iconst 1, 1)] 22 23 = true := by decide +kernel
theorem d_SP_cell_23 : decode prog_1_method_16_code 23 = .ok (.goto 4, 3) := by decide +kernel
set_option maxRecDepth 100000 in
theorem c_SP_cell_1 (l : Launch) (G : GG) (rb n : Nat) (md : Int32) (rd sd : Nat → Nat) (ms : Nat → Int32) (fl mn : Nat → Nat) (sc : Nat → Int32) (ar : Nat → Nat → Int32) (b : Bt) (w0 : WF) (a1 a2 : Int32) (hfl : l.flags = pinnedFlags ++ [noTraceFlag]) (hn : n ≤ 3) (hrb : 100 ≤ rb) (hv : ¬ (p_in a1 (-32) 31 = 1 ∧ p_in a2 (-32) 31 = 1)) : MetT l y_SP_cell (Cond.code y_SP_cell prog_1_method_16_code 3 (some FieldType.boolean) :: wt) { frames := 7, cells := 1, slots := 6, locals := 110 } (Pro G (cW G rb n md rd sd ms fl mn sc ar b w0) [.ref (sd 0), .int a1, .int a2]) (QtE "java/lang/IllegalArgumentException") 1 6 := by
  refine th_of (by decide +kernel) (Nat.le_of_ble_eq_true rfl) ?_
  intro p e s m below meth c ls C hP hno hl
  have hl : lv_has ls 3 [(0, .ref (sd 0)), (1, .int a1), (2, .int a2)] := hl
  refine x_sx C b_SP_cell_0_5 hl (L' := [(0, .ref (sd 0)), (1, .int a1), (2, .int a2)]) (st' := [.int 31, .int (-32), .int a1]) rfl (fun ls hl => ?_)
  refine x_ro (x_cS C (c_SP_isIn l G (cW G rb n md rd sd ms fl mn sc ar b w0) a1 (-32) 31) t_365 t_1 t_363 t_364 hd_SP_isIn blind_Pro (pre_ro C hP va_S.rf) (As := [.int a1, .int (-32), .int 31]) (rest := []) rfl hl.1 rfl rfl rfl ⟨Nat.le_of_ble_eq_true rfl, Nat.le_of_ble_eq_true rfl⟩ (Nat.le_of_ble_eq_true rfl) ⟨Nat.le_of_ble_eq_true rfl, Nat.le_of_ble_eq_true rfl⟩ d_SP_cell_5) ?_
  refine lv_if_eq (tgt := 26) C.1 C.2.1 d_SP_cell_8 (by decide) (fun h1 => ?_) (fun h1 => ?_)
  · refine x_sx C b_SP_cell_26_27 hl (L' := [(0, .ref (sd 0)), (1, .int a1), (2, .int a2)]) (st' := [.int 0]) rfl (fun ls hl => ?_)
    refine t_S C (c_SP_need_t l G (cW G rb n md rd sd ms fl mn sc ar b w0) hfl) t_368 t_1 t_366 t_367 hd_SP_need blind_Pro (pre_ro C hP va_S.rf) (As := [.int 0]) (rest := []) rfl hl.1 rfl rfl rfl ⟨Nat.le_of_ble_eq_true rfl, Nat.le_of_ble_eq_true rfl⟩ (Nat.le_of_ble_eq_true rfl) ⟨(Nat.le_of_ble_eq_true rfl), (Nat.le_of_ble_eq_true rfl)⟩ d_SP_cell_27 (fun x st t hst hW hq => t_out C hno (fun t2 ht2 => hq.up hst hW ht2))
  · refine x_sx C b_SP_cell_11_16 hl (L' := [(0, .ref (sd 0)), (1, .int a1), (2, .int a2)]) (st' := [.int 31, .int (-32), .int a2]) rfl (fun ls hl => ?_)
    refine x_ro (x_cS C (c_SP_isIn l G (cW G rb n md rd sd ms fl mn sc ar b w0) a2 (-32) 31) t_365 t_1 t_363 t_364 hd_SP_isIn blind_Pro (pre_ro C hP va_S.rf) (As := [.int a2, .int (-32), .int 31]) (rest := []) rfl hl.1 rfl rfl rfl ⟨Nat.le_of_ble_eq_true rfl, Nat.le_of_ble_eq_true rfl⟩ (Nat.le_of_ble_eq_true rfl) ⟨Nat.le_of_ble_eq_true rfl, Nat.le_of_ble_eq_true rfl⟩ d_SP_cell_16) ?_
    refine lv_if_eq (tgt := 26) C.1 C.2.1 d_SP_cell_19 (by decide) (fun h2 => ?_) (fun h2 => ?_)
    · refine x_sx C b_SP_cell_26_27 hl (L' := [(0, .ref (sd 0)), (1, .int a1), (2, .int a2)]) (st' := [.int 0]) rfl (fun ls hl => ?_)
      refine t_S C (c_SP_need_t l G (cW G rb n md rd sd ms fl mn sc ar b w0) hfl) t_368 t_1 t_366 t_367 hd_SP_need blind_Pro (pre_ro C hP va_S.rf) (As := [.int 0]) (rest := []) rfl hl.1 rfl rfl rfl ⟨Nat.le_of_ble_eq_true rfl, Nat.le_of_ble_eq_true rfl⟩ (Nat.le_of_ble_eq_true rfl) ⟨(Nat.le_of_ble_eq_true rfl), (Nat.le_of_ble_eq_true rfl)⟩ d_SP_cell_27 (fun x st t hst hW hq => t_out C hno (fun t2 ht2 => hq.up hst hW ht2))
    · refine x_sx C b_SP_cell_22_23 hl (L' := [(0, .ref (sd 0)), (1, .int a1), (2, .int a2)]) (st' := [.int 1]) rfl (fun ls hl => ?_)
      refine x_goto (tgt := 27) C d_SP_cell_23 (by decide) ?_
      exact absurd ⟨p_in1 h1, p_in1 h2⟩ hv
theorem b_SP_step_0_4 : decs prog_1_method_10_code [(.iload_n 1, 1), (.iconst 1, 1), (.bipush 20, 2)] 0 4 = true := by decide +kernel
theorem d_SP_step_4 : decode prog_1_method_10_code 4 = .ok (.invokestatic 63, 3) := by decide +kernel
theorem d_SP_step_7 : decode prog_1_method_10_code 7 = .ok (.invokestatic 67, 3) := by decide +kernel
set_option maxRecDepth 100000 in
theorem c_SP_step_1 (l : Launch) (G : GG) (rb n : Nat) (md : Int32) (rd sd : Nat → Nat) (ms : Nat → Int32) (fl mn : Nat → Nat) (sc : Nat → Int32) (ar : Nat → Nat → Int32) (b : Bt) (w0 : WF) (a1 : Int32) (hfl : l.flags = pinnedFlags ++ [noTraceFlag]) (hn : n ≤ 3) (hrb : 100 ≤ rb) (hv : ¬ (p_in a1 1 20 = 1)) : MetT l y_SP_step (Cond.code y_SP_step prog_1_method_10_code 3 (some FieldType.int) :: wt) { frames := 7, cells := 1, slots := 6, locals := 110 } (Pro G (cW G rb n md rd sd ms fl mn sc ar b w0) [.ref (sd 0), .int a1]) (QtE "java/lang/IllegalArgumentException") 1 6 := by
  refine th_of (by decide +kernel) (Nat.le_of_ble_eq_true rfl) ?_
  intro p e s m below meth c ls C hP hno hl
  have hl : lv_has ls 3 [(0, .ref (sd 0)), (1, .int a1)] := hl
  refine x_sx C b_SP_step_0_4 hl (L' := [(0, .ref (sd 0)), (1, .int a1)]) (st' := [.int 20, .int 1, .int a1]) rfl (fun ls hl => ?_)
  refine x_ro (x_cS C (c_SP_isIn l G (cW G rb n md rd sd ms fl mn sc ar b w0) a1 1 20) t_365 t_1 t_363 t_364 hd_SP_isIn blind_Pro (pre_ro C hP va_S.rf) (As := [.int a1, .int 1, .int 20]) (rest := []) rfl hl.1 rfl rfl rfl ⟨Nat.le_of_ble_eq_true rfl, Nat.le_of_ble_eq_true rfl⟩ (Nat.le_of_ble_eq_true rfl) ⟨Nat.le_of_ble_eq_true rfl, Nat.le_of_ble_eq_true rfl⟩ d_SP_step_4) ?_
  rw [p_in0 hv]
  refine t_S C (c_SP_need_t l G (cW G rb n md rd sd ms fl mn sc ar b w0) hfl) t_368 t_1 t_366 t_367 hd_SP_need blind_Pro (pre_ro C hP va_S.rf) (As := [.int 0]) (rest := []) rfl hl.1 rfl rfl rfl ⟨Nat.le_of_ble_eq_true rfl, Nat.le_of_ble_eq_true rfl⟩ (Nat.le_of_ble_eq_true rfl) ⟨(Nat.le_of_ble_eq_true rfl), (Nat.le_of_ble_eq_true rfl)⟩ d_SP_step_7 (fun x st t hst hW hq => t_out C hno (fun t2 ht2 => hq.up hst hW ht2))
theorem b_SP_clash_0_3 : decs prog_1_method_17_code [(.iload_n 1, 1), (.iconst 0, 1), (.iconst 2, 1)] 0 3 = true := by decide +kernel
theorem d_SP_clash_3 : decode prog_1_method_17_code 3 = .ok (.invokestatic 63, 3) := by decide +kernel
theorem d_SP_clash_6 : decode prog_1_method_17_code 6 = .ok (.invokestatic 67, 3) := by decide +kernel
set_option maxRecDepth 100000 in
theorem c_SP_clash_1 (l : Launch) (G : GG) (rb n : Nat) (md : Int32) (rd sd : Nat → Nat) (ms : Nat → Int32) (fl mn : Nat → Nat) (sc : Nat → Int32) (ar : Nat → Nat → Int32) (b : Bt) (w0 : WF) (a1 : Int32) (hfl : l.flags = pinnedFlags ++ [noTraceFlag]) (hn : n ≤ 3) (hrb : 100 ≤ rb) (hv : ¬ (p_in a1 0 2 = 1)) : MetT l y_SP_clash (Cond.code y_SP_clash prog_1_method_17_code 2 (some FieldType.int) :: wt) { frames := 7, cells := 1, slots := 6, locals := 110 } (Pro G (cW G rb n md rd sd ms fl mn sc ar b w0) [.ref (sd 0), .int a1]) (QtE "java/lang/IllegalArgumentException") 1 6 := by
  refine th_of (by decide +kernel) (Nat.le_of_ble_eq_true rfl) ?_
  intro p e s m below meth c ls C hP hno hl
  have hl : lv_has ls 2 [(0, .ref (sd 0)), (1, .int a1)] := hl
  refine x_sx C b_SP_clash_0_3 hl (L' := [(0, .ref (sd 0)), (1, .int a1)]) (st' := [.int 2, .int 0, .int a1]) rfl (fun ls hl => ?_)
  refine x_ro (x_cS C (c_SP_isIn l G (cW G rb n md rd sd ms fl mn sc ar b w0) a1 0 2) t_365 t_1 t_363 t_364 hd_SP_isIn blind_Pro (pre_ro C hP va_S.rf) (As := [.int a1, .int 0, .int 2]) (rest := []) rfl hl.1 rfl rfl rfl ⟨Nat.le_of_ble_eq_true rfl, Nat.le_of_ble_eq_true rfl⟩ (Nat.le_of_ble_eq_true rfl) ⟨Nat.le_of_ble_eq_true rfl, Nat.le_of_ble_eq_true rfl⟩ d_SP_clash_3) ?_
  rw [p_in0 hv]
  refine t_S C (c_SP_need_t l G (cW G rb n md rd sd ms fl mn sc ar b w0) hfl) t_368 t_1 t_366 t_367 hd_SP_need blind_Pro (pre_ro C hP va_S.rf) (As := [.int 0]) (rest := []) rfl hl.1 rfl rfl rfl ⟨Nat.le_of_ble_eq_true rfl, Nat.le_of_ble_eq_true rfl⟩ (Nat.le_of_ble_eq_true rfl) ⟨(Nat.le_of_ble_eq_true rfl), (Nat.le_of_ble_eq_true rfl)⟩ d_SP_clash_6 (fun x st t hst hW hq => t_out C hno (fun t2 ht2 => hq.up hst hW ht2))
theorem b_SP_planOf_0_3 : decs prog_1_method_19_code [(.iload_n 1, 1), (.iconst 0, 1), (.iconst 3, 1)] 0 3 = true := by decide +kernel
theorem d_SP_planOf_3 : decode prog_1_method_19_code 3 = .ok (.invokestatic 63, 3) := by decide +kernel
theorem d_SP_planOf_6 : decode prog_1_method_19_code 6 = .ok (.invokestatic 67, 3) := by decide +kernel
set_option maxRecDepth 100000 in
theorem c_SP_planOf_1 (l : Launch) (G : GG) (rb n : Nat) (md : Int32) (rd sd : Nat → Nat) (ms : Nat → Int32) (fl mn : Nat → Nat) (sc : Nat → Int32) (ar : Nat → Nat → Int32) (b : Bt) (w0 : WF) (a1 : Int32) (hfl : l.flags = pinnedFlags ++ [noTraceFlag]) (hn : n ≤ 3) (hrb : 100 ≤ rb) (hv : ¬ (p_in a1 0 3 = 1)) : MetT l y_SP_planOf (Cond.code y_SP_planOf prog_1_method_19_code 2 (some (FieldType.object "java/util/ArrayList")) :: wt) { frames := 7, cells := 1, slots := 6, locals := 110 } (Pro G (cW G rb n md rd sd ms fl mn sc ar b w0) [.ref (sd 0), .int a1]) (QtE "java/lang/IllegalArgumentException") 1 6 := by
  refine th_of (by decide +kernel) (Nat.le_of_ble_eq_true rfl) ?_
  intro p e s m below meth c ls C hP hno hl
  have hl : lv_has ls 2 [(0, .ref (sd 0)), (1, .int a1)] := hl
  refine x_sx C b_SP_planOf_0_3 hl (L' := [(0, .ref (sd 0)), (1, .int a1)]) (st' := [.int 3, .int 0, .int a1]) rfl (fun ls hl => ?_)
  refine x_ro (x_cS C (c_SP_isIn l G (cW G rb n md rd sd ms fl mn sc ar b w0) a1 0 3) t_365 t_1 t_363 t_364 hd_SP_isIn blind_Pro (pre_ro C hP va_S.rf) (As := [.int a1, .int 0, .int 3]) (rest := []) rfl hl.1 rfl rfl rfl ⟨Nat.le_of_ble_eq_true rfl, Nat.le_of_ble_eq_true rfl⟩ (Nat.le_of_ble_eq_true rfl) ⟨Nat.le_of_ble_eq_true rfl, Nat.le_of_ble_eq_true rfl⟩ d_SP_planOf_3) ?_
  rw [p_in0 hv]
  refine t_S C (c_SP_need_t l G (cW G rb n md rd sd ms fl mn sc ar b w0) hfl) t_368 t_1 t_366 t_367 hd_SP_need blind_Pro (pre_ro C hP va_S.rf) (As := [.int 0]) (rest := []) rfl hl.1 rfl rfl rfl ⟨Nat.le_of_ble_eq_true rfl, Nat.le_of_ble_eq_true rfl⟩ (Nat.le_of_ble_eq_true rfl) ⟨(Nat.le_of_ble_eq_true rfl), (Nat.le_of_ble_eq_true rfl)⟩ d_SP_planOf_6 (fun x st t hst hW hq => t_out C hno (fun t2 ht2 => hq.up hst hW ht2))
theorem hd_SP_planOf : hdP y_SP_planOf 1 := ⟨by decide +kernel, by decide +kernel, by decide +kernel⟩
theorem hd_SP_bodyOf : hdP y_SP_bodyOf 1 := ⟨by decide +kernel, by decide +kernel, by decide +kernel⟩
theorem b_SP_bodyOf_0_3 : decs prog_1_method_7_code [(.iload_n 1, 1), (.iconst 0, 1), (.aload_n 0, 1)] 0 3 = true := by decide +kernel
theorem d_SP_bodyOf_3 : decode prog_1_method_7_code 3 = .ok (.getfield 46, 3) := by decide +kernel
theorem d_SP_bodyOf_6 : decode prog_1_method_7_code 6 = .ok (.getfield 56, 3) := by decide +kernel
theorem d_SP_bodyOf_9 : decode prog_1_method_7_code 9 = .ok (.invokevirtual 59, 3) := by decide +kernel
theorem b_SP_bodyOf_12_14 : decs prog_1_method_7_code [(.iconst 1, 1), (.isub, 1)] 12 14 = true := by decide +kernel
theorem d_SP_bodyOf_14 : decode prog_1_method_7_code 14 = .ok (.invokestatic 63, 3) := by decide +kernel
theorem d_SP_bodyOf_17 : decode prog_1_method_7_code 17 = .ok (.invokestatic 67, 3) := by decide +kernel
set_option maxRecDepth 100000 in
theorem c_SP_bodyOf_1 (l : Launch) (G : GG) (rb n : Nat) (md : Int32) (rd sd : Nat → Nat) (ms : Nat → Int32) (fl mn : Nat → Nat) (sc : Nat → Int32) (ar : Nat → Nat → Int32) (b : Bt) (w0 : WF) (a1 : Int32) (hfl : l.flags = pinnedFlags ++ [noTraceFlag]) (hn : n ≤ 3) (hrb : 100 ≤ rb) (hv : ¬ p_in a1 0 (nI n - 1) = 1) : MetT l y_SP_bodyOf (Cond.code y_SP_bodyOf prog_1_method_7_code 2 (some (FieldType.object "SweptPaths$Body")) :: wt) { frames := 7, cells := 1, slots := 6, locals := 110 } (Pro G (cW G rb n md rd sd ms fl mn sc ar b w0) [.ref (sd 0), .int a1]) (QtE "java/lang/IllegalArgumentException") 1 6 := by
  refine th_of (by decide +kernel) (Nat.le_of_ble_eq_true rfl) ?_
  intro p e s m below meth c ls C hP hno hl
  have hl : lv_has ls 2 [(0, .ref (sd 0)), (1, .int a1)] := hl
  refine x_sx C b_SP_bodyOf_0_3 hl (L' := [(0, .ref (sd 0)), (1, .int a1)]) (st' := [.ref (sd 0), .int 0, .int a1]) rfl (fun ls hl => ?_)
  refine x_get C hP 0 ((rW_0 (Or.inl (by omega)) hn).trans (sp_L hn).1) 9 (v := .ref (rd 0)) rfl rfl (by decide) t_314 (fun _ z => z) d_SP_bodyOf_3 ?_
  refine x_get C hP rb rW_o 0 (v := .ref (rd 1)) rfl rfl (by decide) t_266 (fun _ z => z) d_SP_bodyOf_6 ?_
  obtain ⟨td, htd⟩ := rW_tz (G := G) (rb := rb) (n := n) (md := md) (rd := rd) (sd := sd) (w0 := spW G sd (.ref (rd 0)) n ms fl mn sc ar w0) (sc := sc) (ar := ar) (b := b)
  refine x_ro (x_cV C hP htd rfl (c_AL_size l G (cW G rb n md rd sd ms fl mn sc ar b w0) (rb + 1) (rd 1) td (nI n) md htd) t_151 t_4 t_431 t_149 t_150 hd_AL_size blind_Pro (pre_ro C hP va_S.rf) (As := []) (rest := [.int 0, .int a1]) rfl hl.1 rfl rfl rfl ⟨Nat.le_of_ble_eq_true rfl, Nat.le_of_ble_eq_true rfl⟩ (Nat.le_of_ble_eq_true rfl) ⟨Nat.le_of_ble_eq_true rfl, Nat.le_of_ble_eq_true rfl⟩ d_SP_bodyOf_9) ?_
  refine x_sx C b_SP_bodyOf_12_14 hl (L' := [(0, .ref (sd 0)), (1, .int a1)]) (st' := [.int ((nI n) - 1), .int 0, .int a1]) rfl (fun ls hl => ?_)
  refine x_ro (x_cS C (c_SP_isIn l G (cW G rb n md rd sd ms fl mn sc ar b w0) a1 0 ((nI n) - 1)) t_365 t_1 t_363 t_364 hd_SP_isIn blind_Pro (pre_ro C hP va_S.rf) (As := [.int a1, .int 0, .int ((nI n) - 1)]) (rest := []) rfl hl.1 rfl rfl rfl ⟨Nat.le_of_ble_eq_true rfl, Nat.le_of_ble_eq_true rfl⟩ (Nat.le_of_ble_eq_true rfl) ⟨Nat.le_of_ble_eq_true rfl, Nat.le_of_ble_eq_true rfl⟩ d_SP_bodyOf_14) ?_
  rw [p_in0 hv]
  refine t_S C (c_SP_need_t l G (cW G rb n md rd sd ms fl mn sc ar b w0) hfl) t_368 t_1 t_366 t_367 hd_SP_need blind_Pro (pre_ro C hP va_S.rf) (As := [.int 0]) (rest := []) rfl hl.1 rfl rfl rfl ⟨Nat.le_of_ble_eq_true rfl, Nat.le_of_ble_eq_true rfl⟩ (Nat.le_of_ble_eq_true rfl) ⟨(Nat.le_of_ble_eq_true rfl), (Nat.le_of_ble_eq_true rfl)⟩ d_SP_bodyOf_17 (fun x st t hst hW hq => t_out C hno (fun t2 ht2 => hq.up hst hW ht2))
