theorem b_SP_bodyOf_20_21 : decs prog_1_method_7_code [(.aload_n 0, 1)] 20 21 = true := by decide +kernel
theorem d_SP_bodyOf_21 : decode prog_1_method_7_code 21 = .ok (.getfield 46, 3) := by decide +kernel
theorem d_SP_bodyOf_24 : decode prog_1_method_7_code 24 = .ok (.getfield 56, 3) := by decide +kernel
theorem b_SP_bodyOf_27_28 : decs prog_1_method_7_code [(.iload_n 1, 1)] 27 28 = true := by decide +kernel
theorem d_SP_bodyOf_28 : decode prog_1_method_7_code 28 = .ok (.invokevirtual 71, 3) := by decide +kernel
theorem d_SP_bodyOf_31 : decode prog_1_method_7_code 31 = .ok (.checkcast 75, 3) := by decide +kernel
theorem d_SP_bodyOf_34 : decode prog_1_method_7_code 34 = .ok (.areturn, 1) := by decide +kernel
set_option maxRecDepth 100000 in
theorem c_SP_bodyOf (l : Launch) (G : GG) (rb n : Nat) (md : Int32) (rd sd : Nat → Nat) (ms : Nat → Int32) (fl mn : Nat → Nat) (sc : Nat → Int32) (ar : Nat → Nat → Int32) (b : Bt) (w0 : WF) (k : Nat) (hn : n ≤ 3) (hrb : 100 ≤ rb) (hk : k < n) : Met l y_SP_bodyOf (Cond.code y_SP_bodyOf prog_1_method_7_code 2 (some (FieldType.object "SweptPaths$Body")) :: wt) { frames := 7, cells := 0, slots := 0, locals := 110 } (Pro G (cW G rb n md rd sd ms fl mn sc ar b w0) [.ref (sd 0), .int (nI k)]) (Qro (.ref (rd (5 + k)))) 0 0 (fun _ => False) := by
  refine ro_of (by decide +kernel) (Nat.le_of_ble_eq_true rfl) ?_
  intro p e s m below meth c ls C hP hr hl
  have hl : lv_has ls 2 [(0, .ref (sd 0)), (1, .int (nI k))] := hl
  refine x_sx C b_SP_bodyOf_0_3 hl (L' := [(0, .ref (sd 0)), (1, .int (nI k))]) (st' := [.ref (sd 0), .int 0, .int (nI k)]) rfl (fun ls hl => ?_)
  refine x_get C hP 0 ((rW_0 (Or.inl (by omega)) hn).trans (sp_L hn).1) 9 (v := .ref (rd 0)) rfl rfl (by decide) t_314 (fun _ z => z) d_SP_bodyOf_3 ?_
  refine x_get C hP rb rW_o 0 (v := .ref (rd 1)) rfl rfl (by decide) t_266 (fun _ z => z) d_SP_bodyOf_6 ?_
  obtain ⟨td, htd⟩ := rW_tz (G := G) (rb := rb) (n := n) (md := md) (rd := rd) (sd := sd) (w0 := spW G sd (.ref (rd 0)) n ms fl mn sc ar w0) (sc := sc) (ar := ar) (b := b)
  refine x_ro (x_cV C hP htd rfl (c_AL_size l G (cW G rb n md rd sd ms fl mn sc ar b w0) (rb + 1) (rd 1) td (nI n) md htd) t_151 t_4 t_431 t_149 t_150 hd_AL_size blind_Pro (pre_ro C hP va_S.rf) (As := []) (rest := [.int 0, .int (nI k)]) rfl hl.1 rfl rfl rfl ⟨Nat.le_of_ble_eq_true rfl, Nat.le_of_ble_eq_true rfl⟩ (Nat.le_of_ble_eq_true rfl) ⟨Nat.zero_le _, Nat.zero_le _⟩ d_SP_bodyOf_9) ?_
  refine x_sx C b_SP_bodyOf_12_14 hl (L' := [(0, .ref (sd 0)), (1, .int (nI k))]) (st' := [.int ((nI n) - 1), .int 0, .int (nI k)]) rfl (fun ls hl => ?_)
  refine x_ro (x_cS C (c_SP_isIn l G (cW G rb n md rd sd ms fl mn sc ar b w0) (nI k) 0 ((nI n) - 1)) t_365 t_1 t_363 t_364 hd_SP_isIn blind_Pro (pre_ro C hP va_S.rf) (As := [.int (nI k), .int 0, .int ((nI n) - 1)]) (rest := []) rfl hl.1 rfl rfl rfl ⟨Nat.le_of_ble_eq_true rfl, Nat.le_of_ble_eq_true rfl⟩ (Nat.le_of_ble_eq_true rfl) ⟨Nat.zero_le _, Nat.zero_le _⟩ d_SP_bodyOf_14) ?_
  rw [ix_body hk hn]
  refine x_rv (x_cS C (c_SP_need l G (cW G rb n md rd sd ms fl mn sc ar b w0)) t_368 t_1 t_366 t_367 hd_SP_need blind_Pro (pre_ro C hP va_S.rf) (As := [.int 1]) (rest := []) rfl hl.1 rfl rfl rfl ⟨Nat.le_of_ble_eq_true rfl, Nat.le_of_ble_eq_true rfl⟩ (Nat.le_of_ble_eq_true rfl) ⟨Nat.zero_le _, Nat.zero_le _⟩ d_SP_bodyOf_17) ?_
  refine x_sx C b_SP_bodyOf_20_21 hl (L' := [(0, .ref (sd 0)), (1, .int (nI k))]) (st' := [.ref (sd 0)]) rfl (fun ls hl => ?_)
  refine x_get C hP 0 ((rW_0 (Or.inl (by omega)) hn).trans (sp_L hn).1) 9 (v := .ref (rd 0)) rfl rfl (by decide) t_314 (fun _ z => z) d_SP_bodyOf_21 ?_
  refine x_get C hP rb rW_o 0 (v := .ref (rd 1)) rfl rfl (by decide) t_266 (fun _ z => z) d_SP_bodyOf_24 ?_
  refine x_sx C b_SP_bodyOf_27_28 hl (L' := [(0, .ref (sd 0)), (1, .int (nI k))]) (st' := [.int (nI k), .ref (rd 1)]) rfl (fun ls hl => ?_)
  refine x_ro (x_cV C hP (rW_t (by omega)) rfl (c_AL_get l G (cW G rb n md rd sd ms fl mn sc ar b w0) (rb + 1) (rb + 2) (rd 1) (rd 2) n k (rd (5 + k)) md (tdF rd n) (rW_t (by omega)) (rW_d (by omega)) hk (by omega) (if_pos hk)) t_157 t_4 t_548 t_155 t_156 hd_AL_get blind_Pro (pre_ro C hP va_S.rf) (As := [.int (nI k)]) (rest := []) rfl hl.1 rfl rfl rfl ⟨Nat.le_of_ble_eq_true rfl, Nat.le_of_ble_eq_true rfl⟩ (Nat.le_of_ble_eq_true rfl) ⟨Nat.zero_le _, Nat.zero_le _⟩ d_SP_bodyOf_28) ?_
  refine x_cast C hP (rb + 5 + k) (rW_b hk) rfl t_549 d_SP_bodyOf_31 ?_
  exact x_aro C hr (Or.inl ⟨_, rfl⟩) (Or.inr ⟨_, rfl⟩) rfl d_SP_bodyOf_34
theorem b_SP_planOf_9_10 : decs prog_1_method_19_code [(.aload_n 0, 1)] 9 10 = true := by decide +kernel
theorem d_SP_planOf_10 : decode prog_1_method_19_code 10 = .ok (.getfield 24, 3) := by decide +kernel
theorem b_SP_planOf_13_14 : decs prog_1_method_19_code [(.iload_n 1, 1)] 13 14 = true := by decide +kernel
theorem d_SP_planOf_14 : decode prog_1_method_19_code 14 = .ok (.invokevirtual 71, 3) := by decide +kernel
theorem d_SP_planOf_17 : decode prog_1_method_19_code 17 = .ok (.checkcast 17, 3) := by decide +kernel
theorem d_SP_planOf_20 : decode prog_1_method_19_code 20 = .ok (.areturn, 1) := by decide +kernel
set_option maxRecDepth 100000 in
theorem c_SP_planOf (l : Launch) (G : GG) (rb n : Nat) (md : Int32) (rd sd : Nat → Nat) (ms : Nat → Int32) (fl mn : Nat → Nat) (sc : Nat → Int32) (ar : Nat → Nat → Int32) (b : Bt) (w0 : WF) (q : Nat) (hn : n ≤ 3) (hrb : 100 ≤ rb) (hq : q < 4) : Met l y_SP_planOf (Cond.code y_SP_planOf prog_1_method_19_code 2 (some (FieldType.object "java/util/ArrayList")) :: wt) { frames := 7, cells := 0, slots := 0, locals := 110 } (Pro G (cW G rb n md rd sd ms fl mn sc ar b w0) [.ref (sd 0), .int (nI q)]) (Qro (.ref (sd (10 + q)))) 0 0 (fun _ => False) := by
  refine ro_of (by decide +kernel) (Nat.le_of_ble_eq_true rfl) ?_
  intro p e s m below meth c ls C hP hr hl
  have hl : lv_has ls 2 [(0, .ref (sd 0)), (1, .int (nI q))] := hl
  refine x_sx C b_SP_planOf_0_3 hl (L' := [(0, .ref (sd 0)), (1, .int (nI q))]) (st' := [.int 3, .int 0, .int (nI q)]) rfl (fun ls hl => ?_)
  refine x_ro (x_cS C (c_SP_isIn l G (cW G rb n md rd sd ms fl mn sc ar b w0) (nI q) 0 3) t_365 t_1 t_363 t_364 hd_SP_isIn blind_Pro (pre_ro C hP va_S.rf) (As := [.int (nI q), .int 0, .int 3]) (rest := []) rfl hl.1 rfl rfl rfl ⟨Nat.le_of_ble_eq_true rfl, Nat.le_of_ble_eq_true rfl⟩ (Nat.le_of_ble_eq_true rfl) ⟨Nat.zero_le _, Nat.zero_le _⟩ d_SP_planOf_3) ?_
  rw [ix_plan hq]
  refine x_rv (x_cS C (c_SP_need l G (cW G rb n md rd sd ms fl mn sc ar b w0)) t_368 t_1 t_366 t_367 hd_SP_need blind_Pro (pre_ro C hP va_S.rf) (As := [.int 1]) (rest := []) rfl hl.1 rfl rfl rfl ⟨Nat.le_of_ble_eq_true rfl, Nat.le_of_ble_eq_true rfl⟩ (Nat.le_of_ble_eq_true rfl) ⟨Nat.zero_le _, Nat.zero_le _⟩ d_SP_planOf_6) ?_
  refine x_sx C b_SP_planOf_9_10 hl (L' := [(0, .ref (sd 0)), (1, .int (nI q))]) (st' := [.ref (sd 0)]) rfl (fun ls hl => ?_)
  refine x_get C hP 0 ((rW_0 (Or.inl (by omega)) hn).trans (sp_L hn).1) 1 (v := .ref (sd 5)) rfl rfl (by decide) t_299 (fun _ z => z) d_SP_planOf_10 ?_
  refine x_sx C b_SP_planOf_13_14 hl (L' := [(0, .ref (sd 0)), (1, .int (nI q))]) (st' := [.int (nI q), .ref (sd 5)]) rfl (fun ls hl => ?_)
  refine x_ro (x_cV C hP ((rW_0 (Or.inl (by omega)) hn).trans sp_5) rfl (c_AL_get l G (cW G rb n md rd sd ms fl mn sc ar b w0) 5 6 (sd 5) (sd 6) 4 q (sd (10 + q)) (ms 1) (plD sd) ((rW_0 (Or.inl (by omega)) hn).trans sp_5) ((rW_0 (Or.inl (by omega)) hn).trans sp_6) hq (by decide) (if_pos hq)) t_157 t_4 t_548 t_155 t_156 hd_AL_get blind_Pro (pre_ro C hP va_S.rf) (As := [.int (nI q)]) (rest := []) rfl hl.1 rfl rfl rfl ⟨Nat.le_of_ble_eq_true rfl, Nat.le_of_ble_eq_true rfl⟩ (Nat.le_of_ble_eq_true rfl) ⟨Nat.zero_le _, Nat.zero_le _⟩ d_SP_planOf_14) ?_
  refine x_cast C hP (10 + q) ((rW_0 (Or.inl (by omega)) hn).trans (sp_p hq)) rfl t_32 d_SP_planOf_17 ?_
  exact x_aro C hr (Or.inl ⟨_, rfl⟩) (Or.inr ⟨_, rfl⟩) rfl d_SP_planOf_20
theorem b_SP_body_62_63 : decs prog_1_method_8_code [(.aload_n 0, 1)] 62 63 = true := by decide +kernel
theorem d_SP_body_63 : decode prog_1_method_8_code 63 = .ok (.getfield 20, 3) := by decide +kernel
theorem d_SP_body_66 : decode prog_1_method_8_code 66 = .ok (.invokevirtual 59, 3) := by decide +kernel
theorem b_SP_body_69_70 : decs prog_1_method_8_code [(.iconst 3, 1)] 69 70 = true := by decide +kernel
theorem d_SP_body_70 : decode prog_1_method_8_code 70 = .ok (.if_icmp .ge 7, 3) := by decide +kernel
theorem b_SP_body_77_78 : decs prog_1_method_8_code [(.iconst 0, 1)] 77 78 = true := by decide +kernel
theorem d_SP_body_78 : decode prog_1_method_8_code 78 = .ok (.invokestatic 77, 3) := by decide +kernel
set_option maxRecDepth 100000 in
theorem c_SP_body_2 (l : Launch) (G : GG) (rb n : Nat) (md : Int32) (rd sd : Nat → Nat) (ms : Nat → Int32) (fl mn : Nat → Nat) (sc : Nat → Int32) (ar : Nat → Nat → Int32) (b : Bt) (w0 : WF) (a1 a2 a3 a4 a5 : Int32) (hfl : l.flags = pinnedFlags ++ [noTraceFlag]) (hn : n ≤ 3) (hrb : 100 ≤ rb) (hv : p_in a1 1 200 = 1 ∧ p_in a2 0 200 = 1 ∧ p_in a3 0 60 = 1 ∧ p_in a4 0 60 = 1 ∧ p_in a5 1 20 = 1) (h3 : n = 3) : MetT l y_SP_body (Cond.code y_SP_body prog_1_method_8_code 6 (some FieldType.int) :: wt) { frames := 7, cells := 1, slots := 6, locals := 110 } (Pro G (cW G rb n md rd sd ms fl mn sc ar b w0) [.ref (sd 0), .int a1, .int a2, .int a3, .int a4, .int a5]) (QtE "java/lang/IllegalStateException") 1 6 := by
  refine th_of (by decide +kernel) (Nat.le_of_ble_eq_true rfl) ?_
  intro p e s m below meth c ls C hP hno hl
  have hl : lv_has ls 6 [(0, .ref (sd 0)), (1, .int a1), (2, .int a2), (3, .int a3), (4, .int a4), (5, .int a5)] := hl
  refine x_sx C b_SP_body_0_5 hl (L' := [(0, .ref (sd 0)), (1, .int a1), (2, .int a2), (3, .int a3), (4, .int a4), (5, .int a5)]) (st' := [.int 200, .int 1, .int a1]) rfl (fun ls hl => ?_)
  refine x_ro (x_cS C (c_SP_isIn l G (cW G rb n md rd sd ms fl mn sc ar b w0) a1 1 200) t_365 t_1 t_363 t_364 hd_SP_isIn blind_Pro (pre_ro C hP va_S.rf) (As := [.int a1, .int 1, .int 200]) (rest := []) rfl hl.1 rfl rfl rfl ⟨Nat.le_of_ble_eq_true rfl, Nat.le_of_ble_eq_true rfl⟩ (Nat.le_of_ble_eq_true rfl) ⟨Nat.le_of_ble_eq_true rfl, Nat.le_of_ble_eq_true rfl⟩ d_SP_body_5) ?_
  refine lv_if_eq (tgt := 58) C.1 C.2.1 d_SP_body_8 (by decide) (fun h => absurd h (by rw [hv.1]; first | done | decide)) (fun _ => ?_)
  refine x_sx C b_SP_body_11_16 hl (L' := [(0, .ref (sd 0)), (1, .int a1), (2, .int a2), (3, .int a3), (4, .int a4), (5, .int a5)]) (st' := [.int 200, .int 0, .int a2]) rfl (fun ls hl => ?_)
  refine x_ro (x_cS C (c_SP_isIn l G (cW G rb n md rd sd ms fl mn sc ar b w0) a2 0 200) t_365 t_1 t_363 t_364 hd_SP_isIn blind_Pro (pre_ro C hP va_S.rf) (As := [.int a2, .int 0, .int 200]) (rest := []) rfl hl.1 rfl rfl rfl ⟨Nat.le_of_ble_eq_true rfl, Nat.le_of_ble_eq_true rfl⟩ (Nat.le_of_ble_eq_true rfl) ⟨Nat.le_of_ble_eq_true rfl, Nat.le_of_ble_eq_true rfl⟩ d_SP_body_16) ?_
  refine lv_if_eq (tgt := 58) C.1 C.2.1 d_SP_body_19 (by decide) (fun h => absurd h (by rw [hv.2.1]; first | done | decide)) (fun _ => ?_)
  refine x_sx C b_SP_body_22_26 hl (L' := [(0, .ref (sd 0)), (1, .int a1), (2, .int a2), (3, .int a3), (4, .int a4), (5, .int a5)]) (st' := [.int 60, .int 0, .int a3]) rfl (fun ls hl => ?_)
  refine x_ro (x_cS C (c_SP_isIn l G (cW G rb n md rd sd ms fl mn sc ar b w0) a3 0 60) t_365 t_1 t_363 t_364 hd_SP_isIn blind_Pro (pre_ro C hP va_S.rf) (As := [.int a3, .int 0, .int 60]) (rest := []) rfl hl.1 rfl rfl rfl ⟨Nat.le_of_ble_eq_true rfl, Nat.le_of_ble_eq_true rfl⟩ (Nat.le_of_ble_eq_true rfl) ⟨Nat.le_of_ble_eq_true rfl, Nat.le_of_ble_eq_true rfl⟩ d_SP_body_26) ?_
  refine lv_if_eq (tgt := 58) C.1 C.2.1 d_SP_body_29 (by decide) (fun h => absurd h (by rw [hv.2.2.1]; first | done | decide)) (fun _ => ?_)
  refine x_sx C b_SP_body_32_37 hl (L' := [(0, .ref (sd 0)), (1, .int a1), (2, .int a2), (3, .int a3), (4, .int a4), (5, .int a5)]) (st' := [.int 60, .int 0, .int a4]) rfl (fun ls hl => ?_)
  refine x_ro (x_cS C (c_SP_isIn l G (cW G rb n md rd sd ms fl mn sc ar b w0) a4 0 60) t_365 t_1 t_363 t_364 hd_SP_isIn blind_Pro (pre_ro C hP va_S.rf) (As := [.int a4, .int 0, .int 60]) (rest := []) rfl hl.1 rfl rfl rfl ⟨Nat.le_of_ble_eq_true rfl, Nat.le_of_ble_eq_true rfl⟩ (Nat.le_of_ble_eq_true rfl) ⟨Nat.le_of_ble_eq_true rfl, Nat.le_of_ble_eq_true rfl⟩ d_SP_body_37) ?_
  refine lv_if_eq (tgt := 58) C.1 C.2.1 d_SP_body_40 (by decide) (fun h => absurd h (by rw [hv.2.2.2.1]; first | done | decide)) (fun _ => ?_)
  refine x_sx C b_SP_body_43_48 hl (L' := [(0, .ref (sd 0)), (1, .int a1), (2, .int a2), (3, .int a3), (4, .int a4), (5, .int a5)]) (st' := [.int 20, .int 1, .int a5]) rfl (fun ls hl => ?_)
  refine x_ro (x_cS C (c_SP_isIn l G (cW G rb n md rd sd ms fl mn sc ar b w0) a5 1 20) t_365 t_1 t_363 t_364 hd_SP_isIn blind_Pro (pre_ro C hP va_S.rf) (As := [.int a5, .int 1, .int 20]) (rest := []) rfl hl.1 rfl rfl rfl ⟨Nat.le_of_ble_eq_true rfl, Nat.le_of_ble_eq_true rfl⟩ (Nat.le_of_ble_eq_true rfl) ⟨Nat.le_of_ble_eq_true rfl, Nat.le_of_ble_eq_true rfl⟩ d_SP_body_48) ?_
  refine lv_if_eq (tgt := 58) C.1 C.2.1 d_SP_body_51 (by decide) (fun h => absurd h (by rw [hv.2.2.2.2]; first | done | decide)) (fun _ => ?_)
  refine x_sx C b_SP_body_54_55 hl (L' := [(0, .ref (sd 0)), (1, .int a1), (2, .int a2), (3, .int a3), (4, .int a4), (5, .int a5)]) (st' := [.int 1]) rfl (fun ls hl => ?_)
  refine x_goto (tgt := 59) C d_SP_body_55 (by decide) ?_
  refine x_rv (x_cS C (c_SP_need l G (cW G rb n md rd sd ms fl mn sc ar b w0)) t_368 t_1 t_366 t_367 hd_SP_need blind_Pro (pre_ro C hP va_S.rf) (As := [.int 1]) (rest := []) rfl hl.1 rfl rfl rfl ⟨Nat.le_of_ble_eq_true rfl, Nat.le_of_ble_eq_true rfl⟩ (Nat.le_of_ble_eq_true rfl) ⟨Nat.le_of_ble_eq_true rfl, Nat.le_of_ble_eq_true rfl⟩ d_SP_body_59) ?_
  refine x_sx C b_SP_body_62_63 hl (L' := [(0, .ref (sd 0)), (1, .int a1), (2, .int a2), (3, .int a3), (4, .int a4), (5, .int a5)]) (st' := [.ref (sd 0)]) rfl (fun ls hl => ?_)
  refine x_get C hP 0 ((rW_0 (Or.inl (by omega)) hn).trans (sp_L hn).1) 0 (v := .ref (sd 3)) rfl rfl (by decide) t_298 (fun _ z => z) d_SP_body_63 ?_
  refine x_ro (x_cV C hP ((rW_0 (Or.inl (by omega)) hn).trans sp_3) rfl (c_AL_size l G (cW G rb n md rd sd ms fl mn sc ar b w0) 3 (sd 3) (if n = 0 then G.2.2 1 else sd 4) (nI n) (ms 0) ((rW_0 (Or.inl (by omega)) hn).trans sp_3)) t_151 t_4 t_431 t_149 t_150 hd_AL_size blind_Pro (pre_ro C hP va_S.rf) (As := []) (rest := []) rfl hl.1 rfl rfl rfl ⟨Nat.le_of_ble_eq_true rfl, Nat.le_of_ble_eq_true rfl⟩ (Nat.le_of_ble_eq_true rfl) ⟨Nat.le_of_ble_eq_true rfl, Nat.le_of_ble_eq_true rfl⟩ d_SP_body_66) ?_
  refine x_sx C b_SP_body_69_70 hl (L' := [(0, .ref (sd 0)), (1, .int a1), (2, .int a2), (3, .int a3), (4, .int a4), (5, .int a5)]) (st' := [.int 3, .int (nI n)]) rfl (fun ls hl => ?_)
  refine lv_icmp_ge (tgt := 77) C.1 C.2.1 d_SP_body_70 (by decide) (fun _ => ?_) (fun h => absurd (by rw [h3]; decide) h)
  refine x_sx C b_SP_body_77_78 hl (L' := [(0, .ref (sd 0)), (1, .int a1), (2, .int a2), (3, .int a3), (4, .int a4), (5, .int a5)]) (st' := [.int 0]) rfl (fun ls hl => ?_)
  refine t_S C (c_SP_may_t l G (cW G rb n md rd sd ms fl mn sc ar b w0) hfl) t_434 t_1 t_432 t_433 hd_SP_may blind_Pro (pre_ro C hP va_S.rf) (As := [.int 0]) (rest := []) rfl hl.1 rfl rfl rfl ⟨Nat.le_of_ble_eq_true rfl, Nat.le_of_ble_eq_true rfl⟩ (Nat.le_of_ble_eq_true rfl) ⟨(Nat.le_of_ble_eq_true rfl), (Nat.le_of_ble_eq_true rfl)⟩ d_SP_body_78 (fun x st t hst hW hq => t_out C hno (fun t2 ht2 => hq.up hst hW ht2))
theorem b_SP_pole_34_35 : decs prog_1_method_11_code [(.aload_n 0, 1)] 34 35 = true := by decide +kernel
theorem d_SP_pole_35 : decode prog_1_method_11_code 35 = .ok (.getfield 94, 3) := by decide +kernel
theorem b_SP_pole_38_40 : decs prog_1_method_11_code [(.bipush 20, 2)] 38 40 = true := by decide +kernel
theorem d_SP_pole_40 : decode prog_1_method_11_code 40 = .ok (.if_icmp .ge 7, 3) := by decide +kernel
theorem b_SP_pole_47_48 : decs prog_1_method_11_code [(.iconst 0, 1)] 47 48 = true := by decide +kernel
theorem d_SP_pole_48 : decode prog_1_method_11_code 48 = .ok (.invokestatic 77, 3) := by decide +kernel
set_option maxRecDepth 100000 in
theorem c_SP_pole_2 (l : Launch) (G : GG) (rb n : Nat) (md : Int32) (rd sd : Nat → Nat) (ms : Nat → Int32) (fl mn : Nat → Nat) (sc : Nat → Int32) (ar : Nat → Nat → Int32) (b : Bt) (w0 : WF) (a1 a2 : Int32) (hfl : l.flags = pinnedFlags ++ [noTraceFlag]) (hn : n ≤ 3) (hrb : 100 ≤ rb) (hv : p_in a1 (-1000) 1000 = 1 ∧ p_in a2 (-1000) 1000 = 1) (h6 : sc 6 = 20) : MetT l y_SP_pole (Cond.code y_SP_pole prog_1_method_11_code 3 (some FieldType.int) :: wt) { frames := 7, cells := 1, slots := 6, locals := 110 } (Pro G (cW G rb n md rd sd ms fl mn sc ar b w0) [.ref (sd 0), .int a1, .int a2]) (QtE "java/lang/IllegalStateException") 1 6 := by
  refine th_of (by decide +kernel) (Nat.le_of_ble_eq_true rfl) ?_
  intro p e s m below meth c ls C hP hno hl
  have hl : lv_has ls 3 [(0, .ref (sd 0)), (1, .int a1), (2, .int a2)] := hl
  refine x_sx C b_SP_pole_0_7 hl (L' := [(0, .ref (sd 0)), (1, .int a1), (2, .int a2)]) (st' := [.int 1000, .int (-1000), .int a1]) rfl (fun ls hl => ?_)
  refine x_ro (x_cS C (c_SP_isIn l G (cW G rb n md rd sd ms fl mn sc ar b w0) a1 (-1000) 1000) t_365 t_1 t_363 t_364 hd_SP_isIn blind_Pro (pre_ro C hP va_S.rf) (As := [.int a1, .int (-1000), .int 1000]) (rest := []) rfl hl.1 rfl rfl rfl ⟨Nat.le_of_ble_eq_true rfl, Nat.le_of_ble_eq_true rfl⟩ (Nat.le_of_ble_eq_true rfl) ⟨Nat.le_of_ble_eq_true rfl, Nat.le_of_ble_eq_true rfl⟩ d_SP_pole_7) ?_
  refine lv_if_eq (tgt := 30) C.1 C.2.1 d_SP_pole_10 (by decide) (fun h => absurd h (by rw [hv.1]; first | done | decide)) (fun _ => ?_)
  refine x_sx C b_SP_pole_13_20 hl (L' := [(0, .ref (sd 0)), (1, .int a1), (2, .int a2)]) (st' := [.int 1000, .int (-1000), .int a2]) rfl (fun ls hl => ?_)
  refine x_ro (x_cS C (c_SP_isIn l G (cW G rb n md rd sd ms fl mn sc ar b w0) a2 (-1000) 1000) t_365 t_1 t_363 t_364 hd_SP_isIn blind_Pro (pre_ro C hP va_S.rf) (As := [.int a2, .int (-1000), .int 1000]) (rest := []) rfl hl.1 rfl rfl rfl ⟨Nat.le_of_ble_eq_true rfl, Nat.le_of_ble_eq_true rfl⟩ (Nat.le_of_ble_eq_true rfl) ⟨Nat.le_of_ble_eq_true rfl, Nat.le_of_ble_eq_true rfl⟩ d_SP_pole_20) ?_
  refine lv_if_eq (tgt := 30) C.1 C.2.1 d_SP_pole_23 (by decide) (fun h => absurd h (by rw [hv.2]; first | done | decide)) (fun _ => ?_)
  refine x_sx C b_SP_pole_26_27 hl (L' := [(0, .ref (sd 0)), (1, .int a1), (2, .int a2)]) (st' := [.int 1]) rfl (fun ls hl => ?_)
  refine x_goto (tgt := 31) C d_SP_pole_27 (by decide) ?_
  refine x_rv (x_cS C (c_SP_need l G (cW G rb n md rd sd ms fl mn sc ar b w0)) t_368 t_1 t_366 t_367 hd_SP_need blind_Pro (pre_ro C hP va_S.rf) (As := [.int 1]) (rest := []) rfl hl.1 rfl rfl rfl ⟨Nat.le_of_ble_eq_true rfl, Nat.le_of_ble_eq_true rfl⟩ (Nat.le_of_ble_eq_true rfl) ⟨Nat.le_of_ble_eq_true rfl, Nat.le_of_ble_eq_true rfl⟩ d_SP_pole_31) ?_
  refine x_sx C b_SP_pole_34_35 hl (L' := [(0, .ref (sd 0)), (1, .int a1), (2, .int a2)]) (st' := [.ref (sd 0)]) rfl (fun ls hl => ?_)
  refine x_get C hP 0 ((rW_0 (Or.inl (by omega)) hn).trans (sp_L hn).1) 4 (v := .int (sc 6)) rfl rfl (by decide) t_305 (fun _ z => z) d_SP_pole_35 ?_
  refine x_sx C b_SP_pole_38_40 hl (L' := [(0, .ref (sd 0)), (1, .int a1), (2, .int a2)]) (st' := [.int 20, .int (sc 6)]) rfl (fun ls hl => ?_)
  refine lv_icmp_ge (tgt := 47) C.1 C.2.1 d_SP_pole_40 (by decide) (fun _ => ?_) (fun h => absurd (by rw [h6]; decide) h)
  refine x_sx C b_SP_pole_47_48 hl (L' := [(0, .ref (sd 0)), (1, .int a1), (2, .int a2)]) (st' := [.int 0]) rfl (fun ls hl => ?_)
  refine t_S C (c_SP_may_t l G (cW G rb n md rd sd ms fl mn sc ar b w0) hfl) t_434 t_1 t_432 t_433 hd_SP_may blind_Pro (pre_ro C hP va_S.rf) (As := [.int 0]) (rest := []) rfl hl.1 rfl rfl rfl ⟨Nat.le_of_ble_eq_true rfl, Nat.le_of_ble_eq_true rfl⟩ (Nat.le_of_ble_eq_true rfl) ⟨(Nat.le_of_ble_eq_true rfl), (Nat.le_of_ble_eq_true rfl)⟩ d_SP_pole_48 (fun x st t hst hW hq => t_out C hno (fun t2 ht2 => hq.up hst hW ht2))
theorem b_SP_go_29_30 : decs prog_1_method_12_code [(.aload_n 0, 1)] 29 30 = true := by decide +kernel
theorem d_SP_go_30 : decode prog_1_method_12_code 30 = .ok (.getfield 20, 3) := by decide +kernel
theorem d_SP_go_33 : decode prog_1_method_12_code 33 = .ok (.invokevirtual 97, 3) := by decide +kernel
theorem d_SP_go_36 : decode prog_1_method_12_code 36 = .ok (.ifCond .ne 7, 3) := by decide +kernel
theorem b_SP_go_43_44 : decs prog_1_method_12_code [(.iconst 0, 1)] 43 44 = true := by decide +kernel
theorem d_SP_go_44 : decode prog_1_method_12_code 44 = .ok (.invokestatic 77, 3) := by decide +kernel
set_option maxRecDepth 100000 in
theorem c_SP_go_2 (l : Launch) (G : GG) (rb n : Nat) (md : Int32) (rd sd : Nat → Nat) (ms : Nat → Int32) (fl mn : Nat → Nat) (sc : Nat → Int32) (ar : Nat → Nat → Int32) (b : Bt) (w0 : WF) (a1 a2 fw : Int32) (hfl : l.flags = pinnedFlags ++ [noTraceFlag]) (hn : n ≤ 3) (hrb : 100 ≤ rb) (hv : p_in a1 (-3) 3 = 1 ∧ p_in a2 1 200 = 1) (h0 : n = 0) : MetT l y_SP_go (Cond.code y_SP_go prog_1_method_12_code 4 (some FieldType.int) :: wt) { frames := 7, cells := 1, slots := 6, locals := 110 } (Pro G (cW G rb n md rd sd ms fl mn sc ar b w0) [.ref (sd 0), .int a1, .int a2, .int fw]) (QtE "java/lang/IllegalStateException") 1 6 := by
  refine th_of (by decide +kernel) (Nat.le_of_ble_eq_true rfl) ?_
  intro p e s m below meth c ls C hP hno hl
  have hl : lv_has ls 4 [(0, .ref (sd 0)), (1, .int a1), (2, .int a2), (3, .int fw)] := hl
  refine x_sx C b_SP_go_0_4 hl (L' := [(0, .ref (sd 0)), (1, .int a1), (2, .int a2), (3, .int fw)]) (st' := [.int 3, .int (-3), .int a1]) rfl (fun ls hl => ?_)
  refine x_ro (x_cS C (c_SP_isIn l G (cW G rb n md rd sd ms fl mn sc ar b w0) a1 (-3) 3) t_365 t_1 t_363 t_364 hd_SP_isIn blind_Pro (pre_ro C hP va_S.rf) (As := [.int a1, .int (-3), .int 3]) (rest := []) rfl hl.1 rfl rfl rfl ⟨Nat.le_of_ble_eq_true rfl, Nat.le_of_ble_eq_true rfl⟩ (Nat.le_of_ble_eq_true rfl) ⟨Nat.le_of_ble_eq_true rfl, Nat.le_of_ble_eq_true rfl⟩ d_SP_go_4) ?_
  refine lv_if_eq (tgt := 25) C.1 C.2.1 d_SP_go_7 (by decide) (fun h => absurd h (by rw [hv.1]; first | done | decide)) (fun _ => ?_)
  refine x_sx C b_SP_go_10_15 hl (L' := [(0, .ref (sd 0)), (1, .int a1), (2, .int a2), (3, .int fw)]) (st' := [.int 200, .int 1, .int a2]) rfl (fun ls hl => ?_)
  refine x_ro (x_cS C (c_SP_isIn l G (cW G rb n md rd sd ms fl mn sc ar b w0) a2 1 200) t_365 t_1 t_363 t_364 hd_SP_isIn blind_Pro (pre_ro C hP va_S.rf) (As := [.int a2, .int 1, .int 200]) (rest := []) rfl hl.1 rfl rfl rfl ⟨Nat.le_of_ble_eq_true rfl, Nat.le_of_ble_eq_true rfl⟩ (Nat.le_of_ble_eq_true rfl) ⟨Nat.le_of_ble_eq_true rfl, Nat.le_of_ble_eq_true rfl⟩ d_SP_go_15) ?_
  refine lv_if_eq (tgt := 25) C.1 C.2.1 d_SP_go_18 (by decide) (fun h => absurd h (by rw [hv.2]; first | done | decide)) (fun _ => ?_)
  refine x_sx C b_SP_go_21_22 hl (L' := [(0, .ref (sd 0)), (1, .int a1), (2, .int a2), (3, .int fw)]) (st' := [.int 1]) rfl (fun ls hl => ?_)
  refine x_goto (tgt := 26) C d_SP_go_22 (by decide) ?_
  refine x_rv (x_cS C (c_SP_need l G (cW G rb n md rd sd ms fl mn sc ar b w0)) t_368 t_1 t_366 t_367 hd_SP_need blind_Pro (pre_ro C hP va_S.rf) (As := [.int 1]) (rest := []) rfl hl.1 rfl rfl rfl ⟨Nat.le_of_ble_eq_true rfl, Nat.le_of_ble_eq_true rfl⟩ (Nat.le_of_ble_eq_true rfl) ⟨Nat.le_of_ble_eq_true rfl, Nat.le_of_ble_eq_true rfl⟩ d_SP_go_26) ?_
  refine x_sx C b_SP_go_29_30 hl (L' := [(0, .ref (sd 0)), (1, .int a1), (2, .int a2), (3, .int fw)]) (st' := [.ref (sd 0)]) rfl (fun ls hl => ?_)
  refine x_get C hP 0 ((rW_0 (Or.inl (by omega)) hn).trans (sp_L hn).1) 0 (v := .ref (sd 3)) rfl rfl (by decide) t_298 (fun _ z => z) d_SP_go_30 ?_
  refine x_ro (x_cV C hP ((rW_0 (Or.inl (by omega)) hn).trans sp_3) rfl (c_AL_isEmpty l G (cW G rb n md rd sd ms fl mn sc ar b w0) 3 (sd 3) (if n = 0 then G.2.2 1 else sd 4) (nI n) (ms 0) ((rW_0 (Or.inl (by omega)) hn).trans sp_3)) t_514 t_4 t_511 t_512 t_513 hd_AL_isEmpty blind_Pro (pre_ro C hP va_S.rf) (As := []) (rest := []) rfl hl.1 rfl rfl rfl ⟨Nat.le_of_ble_eq_true rfl, Nat.le_of_ble_eq_true rfl⟩ (Nat.le_of_ble_eq_true rfl) ⟨Nat.le_of_ble_eq_true rfl, Nat.le_of_ble_eq_true rfl⟩ d_SP_go_33) ?_
  refine lv_if_ne (tgt := 43) C.1 C.2.1 d_SP_go_36 (by decide) (fun _ => ?_) (fun h => absurd h (by rw [h0]; decide))
  refine x_sx C b_SP_go_43_44 hl (L' := [(0, .ref (sd 0)), (1, .int a1), (2, .int a2), (3, .int fw)]) (st' := [.int 0]) rfl (fun ls hl => ?_)
  refine t_S C (c_SP_may_t l G (cW G rb n md rd sd ms fl mn sc ar b w0) hfl) t_434 t_1 t_432 t_433 hd_SP_may blind_Pro (pre_ro C hP va_S.rf) (As := [.int 0]) (rest := []) rfl hl.1 rfl rfl rfl ⟨Nat.le_of_ble_eq_true rfl, Nat.le_of_ble_eq_true rfl⟩ (Nat.le_of_ble_eq_true rfl) ⟨(Nat.le_of_ble_eq_true rfl), (Nat.le_of_ble_eq_true rfl)⟩ d_SP_go_44 (fun x st t hst hW hq => t_out C hno (fun t2 ht2 => hq.up hst hW ht2))
theorem b_SP_best_0_1 : decs prog_1_method_23_code [(.aload_n 0, 1)] 0 1 = true := by decide +kernel
theorem d_SP_best_1 : decode prog_1_method_23_code 1 = .ok (.getfield 20, 3) := by decide +kernel
theorem d_SP_best_4 : decode prog_1_method_23_code 4 = .ok (.invokevirtual 97, 3) := by decide +kernel
theorem d_SP_best_7 : decode prog_1_method_23_code 7 = .ok (.ifCond .ne 7, 3) := by decide +kernel
theorem b_SP_best_14_15 : decs prog_1_method_23_code [(.iconst 0, 1)] 14 15 = true := by decide +kernel
theorem d_SP_best_15 : decode prog_1_method_23_code 15 = .ok (.invokestatic 77, 3) := by decide +kernel
set_option maxRecDepth 100000 in
theorem c_SP_best_1 (l : Launch) (G : GG) (rb n : Nat) (md : Int32) (rd sd : Nat → Nat) (ms : Nat → Int32) (fl mn : Nat → Nat) (sc : Nat → Int32) (ar : Nat → Nat → Int32) (b : Bt) (w0 : WF) (hfl : l.flags = pinnedFlags ++ [noTraceFlag]) (hn : n ≤ 3) (hrb : 100 ≤ rb) (h0 : n = 0) : MetT l y_SP_best (Cond.code y_SP_best prog_1_method_23_code 6 (some FieldType.int) :: wt) { frames := 7, cells := 1, slots := 6, locals := 110 } (Pro G (cW G rb n md rd sd ms fl mn sc ar b w0) [.ref (sd 0)]) (QtE "java/lang/IllegalStateException") 1 6 := by
  refine th_of (by decide +kernel) (Nat.le_of_ble_eq_true rfl) ?_
  intro p e s m below meth c ls C hP hno hl
  have hl : lv_has ls 6 [(0, .ref (sd 0))] := hl
  refine x_sx C b_SP_best_0_1 hl (L' := [(0, .ref (sd 0))]) (st' := [.ref (sd 0)]) rfl (fun ls hl => ?_)
  refine x_get C hP 0 ((rW_0 (Or.inl (by omega)) hn).trans (sp_L hn).1) 0 (v := .ref (sd 3)) rfl rfl (by decide) t_298 (fun _ z => z) d_SP_best_1 ?_
  refine x_ro (x_cV C hP ((rW_0 (Or.inl (by omega)) hn).trans sp_3) rfl (c_AL_isEmpty l G (cW G rb n md rd sd ms fl mn sc ar b w0) 3 (sd 3) (if n = 0 then G.2.2 1 else sd 4) (nI n) (ms 0) ((rW_0 (Or.inl (by omega)) hn).trans sp_3)) t_514 t_4 t_511 t_512 t_513 hd_AL_isEmpty blind_Pro (pre_ro C hP va_S.rf) (As := []) (rest := []) rfl hl.1 rfl rfl rfl ⟨Nat.le_of_ble_eq_true rfl, Nat.le_of_ble_eq_true rfl⟩ (Nat.le_of_ble_eq_true rfl) ⟨Nat.le_of_ble_eq_true rfl, Nat.le_of_ble_eq_true rfl⟩ d_SP_best_4) ?_
  refine lv_if_ne (tgt := 14) C.1 C.2.1 d_SP_best_7 (by decide) (fun _ => ?_) (fun h => absurd h (by rw [h0]; decide))
  refine x_sx C b_SP_best_14_15 hl (L' := [(0, .ref (sd 0))]) (st' := [.int 0]) rfl (fun ls hl => ?_)
  refine t_S C (c_SP_may_t l G (cW G rb n md rd sd ms fl mn sc ar b w0) hfl) t_434 t_1 t_432 t_433 hd_SP_may blind_Pro (pre_ro C hP va_S.rf) (As := [.int 0]) (rest := []) rfl hl.1 rfl rfl rfl ⟨Nat.le_of_ble_eq_true rfl, Nat.le_of_ble_eq_true rfl⟩ (Nat.le_of_ble_eq_true rfl) ⟨(Nat.le_of_ble_eq_true rfl), (Nat.le_of_ble_eq_true rfl)⟩ d_SP_best_15 (fun x st t hst hW hq => t_out C hno (fun t2 ht2 => hq.up hst hW ht2))
theorem b_SP_told_0_2 : decs prog_1_method_13_code [(.aload_n 0, 1), (.iload_n 1, 1)] 0 2 = true := by decide +kernel
theorem d_SP_told_2 : decode prog_1_method_13_code 2 = .ok (.invokevirtual 108, 3) := by decide +kernel
theorem b_SP_told_5_9 : decs prog_1_method_13_code [(.astore_n 3, 1), (.iload_n 2, 1), (.iconst 0, 1), (.iconst 4, 1)] 5 9 = true := by decide +kernel
theorem d_SP_told_9 : decode prog_1_method_13_code 9 = .ok (.invokestatic 63, 3) := by decide +kernel
theorem d_SP_told_12 : decode prog_1_method_13_code 12 = .ok (.invokestatic 67, 3) := by decide +kernel
set_option maxRecDepth 100000 in
theorem c_SP_told_1 (l : Launch) (G : GG) (rb n : Nat) (md : Int32) (rd sd : Nat → Nat) (ms : Nat → Int32) (fl mn : Nat → Nat) (sc : Nat → Int32) (ar : Nat → Nat → Int32) (b : Bt) (w0 : WF) (a1 a2 : Int32) (hfl : l.flags = pinnedFlags ++ [noTraceFlag]) (hn : n ≤ 3) (hrb : 100 ≤ rb) (hv : ¬ (p_in a1 0 (nI n - 1) = 1 ∧ p_in a2 0 4 = 1)) : MetT l y_SP_told (Cond.code y_SP_told prog_1_method_13_code 4 (some FieldType.int) :: wt) { frames := 8, cells := 1, slots := 6, locals := 131 } (Pro G (cW G rb n md rd sd ms fl mn sc ar b w0) [.ref (sd 0), .int a1, .int a2]) (QtE "java/lang/IllegalArgumentException") 1 6 := by
  refine th_of (by decide +kernel) (Nat.le_of_ble_eq_true rfl) ?_
  intro p e s m below meth c ls C hP hno hl
  have hl : lv_has ls 4 [(0, .ref (sd 0)), (1, .int a1), (2, .int a2)] := hl
  by_cases hf : p_in a1 0 (nI n - 1) = 1
  · obtain ⟨k, hk, rfl⟩ := body_ix hn hf
    refine x_sx C b_SP_told_0_2 hl (L' := [(0, .ref (sd 0)), (1, .int (nI k)), (2, .int a2)]) (st' := [.int (nI k), .ref (sd 0)]) rfl (fun ls hl => ?_)
    refine x_ro (x_cV C hP ((rW_0 (Or.inl (by omega)) hn).trans (sp_L hn).1) rfl (c_SP_bodyOf l G rb n md rd sd ms fl mn sc ar b w0 k hn hrb hk) t_547 t_1 t_544 t_546 ts_11 hd_SP_bodyOf blind_Pro (pre_ro C hP va_S.rf) (As := [.int (nI k)]) (rest := []) rfl hl.1 rfl rfl rfl ⟨Nat.le_of_ble_eq_true rfl, Nat.le_of_ble_eq_true rfl⟩ (Nat.le_of_ble_eq_true rfl) ⟨Nat.le_of_ble_eq_true rfl, Nat.le_of_ble_eq_true rfl⟩ d_SP_told_2) ?_
    refine x_sx C b_SP_told_5_9 hl (L' := [(3, .ref (rd (5 + k))), (0, .ref (sd 0)), (1, .int (nI k)), (2, .int a2)]) (st' := [.int 4, .int 0, .int a2]) rfl (fun ls hl => ?_)
    refine x_ro (x_cS C (c_SP_isIn l G (cW G rb n md rd sd ms fl mn sc ar b w0) a2 0 4) t_365 t_1 t_363 t_364 hd_SP_isIn blind_Pro (pre_ro C hP va_S.rf) (As := [.int a2, .int 0, .int 4]) (rest := []) rfl hl.1 rfl rfl rfl ⟨Nat.le_of_ble_eq_true rfl, Nat.le_of_ble_eq_true rfl⟩ (Nat.le_of_ble_eq_true rfl) ⟨Nat.le_of_ble_eq_true rfl, Nat.le_of_ble_eq_true rfl⟩ d_SP_told_9) ?_
    rw [p_in0 (fun y => hv ⟨hf, y⟩)]
    refine t_S C (c_SP_need_t l G (cW G rb n md rd sd ms fl mn sc ar b w0) hfl) t_368 t_1 t_366 t_367 hd_SP_need blind_Pro (pre_ro C hP va_S.rf) (As := [.int 0]) (rest := []) rfl hl.1 rfl rfl rfl ⟨Nat.le_of_ble_eq_true rfl, Nat.le_of_ble_eq_true rfl⟩ (Nat.le_of_ble_eq_true rfl) ⟨(Nat.le_of_ble_eq_true rfl), (Nat.le_of_ble_eq_true rfl)⟩ d_SP_told_12 (fun x st t hst hW hq => t_out C hno (fun t2 ht2 => hq.up hst hW ht2))
  · refine x_sx C b_SP_told_0_2 hl (L' := [(0, .ref (sd 0)), (1, .int a1), (2, .int a2)]) (st' := [.int a1, .ref (sd 0)]) rfl (fun ls hl => ?_)
    refine t_V C hP ((rW_0 (Or.inl (by omega)) hn).trans (sp_L hn).1) rfl (c_SP_bodyOf_1 l G rb n md rd sd ms fl mn sc ar b w0 a1 hfl hn hrb hf) t_547 t_1 t_544 t_546 ts_11 hd_SP_bodyOf blind_Pro (pre_ro C hP va_S.rf) (As := [.int a1]) (rest := []) rfl hl.1 rfl rfl rfl ⟨Nat.le_of_ble_eq_true rfl, Nat.le_of_ble_eq_true rfl⟩ (Nat.le_of_ble_eq_true rfl) ⟨(Nat.le_of_ble_eq_true rfl), (Nat.le_of_ble_eq_true rfl)⟩ d_SP_told_2 (fun x st t hst hW hq => t_out C hno (fun t2 ht2 => hq.up hst hW ht2))
theorem b_SP_corner_0_2 : decs prog_1_method_14_code [(.aload_n 0, 1), (.iload_n 1, 1)] 0 2 = true := by decide +kernel
theorem d_SP_corner_2 : decode prog_1_method_14_code 2 = .ok (.invokevirtual 108, 3) := by decide +kernel
theorem b_SP_corner_5_10 : decs prog_1_method_14_code [(.astore 4, 2), (.iload_n 2, 1), (.iconst 0, 1), (.iconst 3, 1)] 5 10 = true := by decide +kernel
theorem d_SP_corner_10 : decode prog_1_method_14_code 10 = .ok (.invokestatic 63, 3) := by decide +kernel
theorem d_SP_corner_13 : decode prog_1_method_14_code 13 = .ok (.ifCond .eq 16, 3) := by decide +kernel
theorem b_SP_corner_29_30 : decs prog_1_method_14_code [(.iconst 0, 1)] 29 30 = true := by decide +kernel
theorem d_SP_corner_30 : decode prog_1_method_14_code 30 = .ok (.invokestatic 67, 3) := by decide +kernel
theorem b_SP_corner_16_19 : decs prog_1_method_14_code [(.iload_n 3, 1), (.iconst 0, 1), (.iconst 1, 1)] 16 19 = true := by decide +kernel
theorem d_SP_corner_19 : decode prog_1_method_14_code 19 = .ok (.invokestatic 63, 3) := by decide +kernel
theorem d_SP_corner_22 : decode prog_1_method_14_code 22 = .ok (.ifCond .eq 7, 3) := by decide +kernel
theorem b_SP_corner_25_26 : decs prog_1_method_14_code [(.iconst 1, 1)] 25 26 = true := by decide +kernel
theorem d_SP_corner_26 : decode prog_1_method_14_code 26 = .ok (.goto 4, 3) := by decide +kernel
set_option maxRecDepth 100000 in
theorem c_SP_corner_1 (l : Launch) (G : GG) (rb n : Nat) (md : Int32) (rd sd : Nat → Nat) (ms : Nat → Int32) (fl mn : Nat → Nat) (sc : Nat → Int32) (ar : Nat → Nat → Int32) (b : Bt) (w0 : WF) (a1 a2 a3 : Int32) (hfl : l.flags = pinnedFlags ++ [noTraceFlag]) (hn : n ≤ 3) (hrb : 100 ≤ rb) (hv : ¬ (p_in a1 0 (nI n - 1) = 1 ∧ p_in a2 0 3 = 1 ∧ p_in a3 0 1 = 1)) : MetT l y_SP_corner (Cond.code y_SP_corner prog_1_method_14_code 9 (some FieldType.int) :: wt) { frames := 8, cells := 1, slots := 6, locals := 131 } (Pro G (cW G rb n md rd sd ms fl mn sc ar b w0) [.ref (sd 0), .int a1, .int a2, .int a3]) (QtE "java/lang/IllegalArgumentException") 1 6 := by
  refine th_of (by decide +kernel) (Nat.le_of_ble_eq_true rfl) ?_
  intro p e s m below meth c ls C hP hno hl
  have hl : lv_has ls 9 [(0, .ref (sd 0)), (1, .int a1), (2, .int a2), (3, .int a3)] := hl
  by_cases hf : p_in a1 0 (nI n - 1) = 1
  · obtain ⟨k, hk, rfl⟩ := body_ix hn hf
    refine x_sx C b_SP_corner_0_2 hl (L' := [(0, .ref (sd 0)), (1, .int (nI k)), (2, .int a2), (3, .int a3)]) (st' := [.int (nI k), .ref (sd 0)]) rfl (fun ls hl => ?_)
    refine x_ro (x_cV C hP ((rW_0 (Or.inl (by omega)) hn).trans (sp_L hn).1) rfl (c_SP_bodyOf l G rb n md rd sd ms fl mn sc ar b w0 k hn hrb hk) t_547 t_1 t_544 t_546 ts_11 hd_SP_bodyOf blind_Pro (pre_ro C hP va_S.rf) (As := [.int (nI k)]) (rest := []) rfl hl.1 rfl rfl rfl ⟨Nat.le_of_ble_eq_true rfl, Nat.le_of_ble_eq_true rfl⟩ (Nat.le_of_ble_eq_true rfl) ⟨Nat.le_of_ble_eq_true rfl, Nat.le_of_ble_eq_true rfl⟩ d_SP_corner_2) ?_
    refine x_sx C b_SP_corner_5_10 hl (L' := [(4, .ref (rd (5 + k))), (0, .ref (sd 0)), (1, .int (nI k)), (2, .int a2), (3, .int a3)]) (st' := [.int 3, .int 0, .int a2]) rfl (fun ls hl => ?_)
    refine x_ro (x_cS C (c_SP_isIn l G (cW G rb n md rd sd ms fl mn sc ar b w0) a2 0 3) t_365 t_1 t_363 t_364 hd_SP_isIn blind_Pro (pre_ro C hP va_S.rf) (As := [.int a2, .int 0, .int 3]) (rest := []) rfl hl.1 rfl rfl rfl ⟨Nat.le_of_ble_eq_true rfl, Nat.le_of_ble_eq_true rfl⟩ (Nat.le_of_ble_eq_true rfl) ⟨Nat.le_of_ble_eq_true rfl, Nat.le_of_ble_eq_true rfl⟩ d_SP_corner_10) ?_
    refine lv_if_eq (tgt := 29) C.1 C.2.1 d_SP_corner_13 (by decide) (fun h1 => ?_) (fun h1 => ?_)
    · refine x_sx C b_SP_corner_29_30 hl (L' := [(4, .ref (rd (5 + k))), (0, .ref (sd 0)), (1, .int (nI k)), (2, .int a2), (3, .int a3)]) (st' := [.int 0]) rfl (fun ls hl => ?_)
      refine t_S C (c_SP_need_t l G (cW G rb n md rd sd ms fl mn sc ar b w0) hfl) t_368 t_1 t_366 t_367 hd_SP_need blind_Pro (pre_ro C hP va_S.rf) (As := [.int 0]) (rest := []) rfl hl.1 rfl rfl rfl ⟨Nat.le_of_ble_eq_true rfl, Nat.le_of_ble_eq_true rfl⟩ (Nat.le_of_ble_eq_true rfl) ⟨(Nat.le_of_ble_eq_true rfl), (Nat.le_of_ble_eq_true rfl)⟩ d_SP_corner_30 (fun x st t hst hW hq => t_out C hno (fun t2 ht2 => hq.up hst hW ht2))
    · refine x_sx C b_SP_corner_16_19 hl (L' := [(4, .ref (rd (5 + k))), (0, .ref (sd 0)), (1, .int (nI k)), (2, .int a2), (3, .int a3)]) (st' := [.int 1, .int 0, .int a3]) rfl (fun ls hl => ?_)
      refine x_ro (x_cS C (c_SP_isIn l G (cW G rb n md rd sd ms fl mn sc ar b w0) a3 0 1) t_365 t_1 t_363 t_364 hd_SP_isIn blind_Pro (pre_ro C hP va_S.rf) (As := [.int a3, .int 0, .int 1]) (rest := []) rfl hl.1 rfl rfl rfl ⟨Nat.le_of_ble_eq_true rfl, Nat.le_of_ble_eq_true rfl⟩ (Nat.le_of_ble_eq_true rfl) ⟨Nat.le_of_ble_eq_true rfl, Nat.le_of_ble_eq_true rfl⟩ d_SP_corner_19) ?_
      refine lv_if_eq (tgt := 29) C.1 C.2.1 d_SP_corner_22 (by decide) (fun h2 => ?_) (fun h2 => ?_)
      · refine x_sx C b_SP_corner_29_30 hl (L' := [(4, .ref (rd (5 + k))), (0, .ref (sd 0)), (1, .int (nI k)), (2, .int a2), (3, .int a3)]) (st' := [.int 0]) rfl (fun ls hl => ?_)
        refine t_S C (c_SP_need_t l G (cW G rb n md rd sd ms fl mn sc ar b w0) hfl) t_368 t_1 t_366 t_367 hd_SP_need blind_Pro (pre_ro C hP va_S.rf) (As := [.int 0]) (rest := []) rfl hl.1 rfl rfl rfl ⟨Nat.le_of_ble_eq_true rfl, Nat.le_of_ble_eq_true rfl⟩ (Nat.le_of_ble_eq_true rfl) ⟨(Nat.le_of_ble_eq_true rfl), (Nat.le_of_ble_eq_true rfl)⟩ d_SP_corner_30 (fun x st t hst hW hq => t_out C hno (fun t2 ht2 => hq.up hst hW ht2))
      · refine x_sx C b_SP_corner_25_26 hl (L' := [(4, .ref (rd (5 + k))), (0, .ref (sd 0)), (1, .int (nI k)), (2, .int a2), (3, .int a3)]) (st' := [.int 1]) rfl (fun ls hl => ?_)
        refine x_goto (tgt := 30) C d_SP_corner_26 (by decide) ?_
        exact absurd ⟨hf, p_in1 h1, p_in1 h2⟩ hv
  · refine x_sx C b_SP_corner_0_2 hl (L' := [(0, .ref (sd 0)), (1, .int a1), (2, .int a2), (3, .int a3)]) (st' := [.int a1, .ref (sd 0)]) rfl (fun ls hl => ?_)
    refine t_V C hP ((rW_0 (Or.inl (by omega)) hn).trans (sp_L hn).1) rfl (c_SP_bodyOf_1 l G rb n md rd sd ms fl mn sc ar b w0 a1 hfl hn hrb hf) t_547 t_1 t_544 t_546 ts_11 hd_SP_bodyOf blind_Pro (pre_ro C hP va_S.rf) (As := [.int a1]) (rest := []) rfl hl.1 rfl rfl rfl ⟨Nat.le_of_ble_eq_true rfl, Nat.le_of_ble_eq_true rfl⟩ (Nat.le_of_ble_eq_true rfl) ⟨(Nat.le_of_ble_eq_true rfl), (Nat.le_of_ble_eq_true rfl)⟩ d_SP_corner_2 (fun x st t hst hW hq => t_out C hno (fun t2 ht2 => hq.up hst hW ht2))
theorem b_SP_part_0_2 : decs prog_1_method_20_code [(.aload_n 0, 1), (.iload_n 1, 1)] 0 2 = true := by decide +kernel
theorem d_SP_part_2 : decode prog_1_method_20_code 2 = .ok (.invokevirtual 168, 3) := by decide +kernel
theorem b_SP_part_5_11 : decs prog_1_method_20_code [(.astore 5, 2), (.iload_n 2, 1), (.bipush (-3), 2), (.iconst 3, 1)] 5 11 = true := by decide +kernel
theorem d_SP_part_11 : decode prog_1_method_20_code 11 = .ok (.invokestatic 63, 3) := by decide +kernel
theorem d_SP_part_14 : decode prog_1_method_20_code 14 = .ok (.ifCond .eq 17, 3) := by decide +kernel
theorem b_SP_part_31_32 : decs prog_1_method_20_code [(.iconst 0, 1)] 31 32 = true := by decide +kernel
theorem d_SP_part_32 : decode prog_1_method_20_code 32 = .ok (.invokestatic 67, 3) := by decide +kernel
theorem b_SP_part_17_21 : decs prog_1_method_20_code [(.iload_n 3, 1), (.iconst 1, 1), (.bipush 60, 2)] 17 21 = true := by decide +kernel
theorem d_SP_part_21 : decode prog_1_method_20_code 21 = .ok (.invokestatic 63, 3) := by decide +kernel
theorem d_SP_part_24 : decode prog_1_method_20_code 24 = .ok (.ifCond .eq 7, 3) := by decide +kernel
theorem b_SP_part_27_28 : decs prog_1_method_20_code [(.iconst 1, 1)] 27 28 = true := by decide +kernel
theorem d_SP_part_28 : decode prog_1_method_20_code 28 = .ok (.goto 4, 3) := by decide +kernel
set_option maxRecDepth 100000 in
theorem c_SP_part_1 (l : Launch) (G : GG) (rb n : Nat) (md : Int32) (rd sd : Nat → Nat) (ms : Nat → Int32) (fl mn : Nat → Nat) (sc : Nat → Int32) (ar : Nat → Nat → Int32) (b : Bt) (w0 : WF) (a1 a2 a3 fw : Int32) (hfl : l.flags = pinnedFlags ++ [noTraceFlag]) (hn : n ≤ 3) (hrb : 100 ≤ rb) (hv : ¬ (p_in a1 0 3 = 1 ∧ p_in a2 (-3) 3 = 1 ∧ p_in a3 1 60 = 1)) : MetT l y_SP_part (Cond.code y_SP_part prog_1_method_20_code 6 (some FieldType.int) :: wt) { frames := 8, cells := 1, slots := 6, locals := 131 } (Pro G (cW G rb n md rd sd ms fl mn sc ar b w0) [.ref (sd 0), .int a1, .int a2, .int a3, .int fw]) (QtE "java/lang/IllegalArgumentException") 1 6 := by
  refine th_of (by decide +kernel) (Nat.le_of_ble_eq_true rfl) ?_
  intro p e s m below meth c ls C hP hno hl
  have hl : lv_has ls 6 [(0, .ref (sd 0)), (1, .int a1), (2, .int a2), (3, .int a3), (4, .int fw)] := hl
  by_cases hf : p_in a1 0 3 = 1
  · obtain ⟨k, hk, rfl⟩ := plan_ix hf
    refine x_sx C b_SP_part_0_2 hl (L' := [(0, .ref (sd 0)), (1, .int (nI k)), (2, .int a2), (3, .int a3), (4, .int fw)]) (st' := [.int (nI k), .ref (sd 0)]) rfl (fun ls hl => ?_)
    refine x_ro (x_cV C hP ((rW_0 (Or.inl (by omega)) hn).trans (sp_L hn).1) rfl (c_SP_planOf l G rb n md rd sd ms fl mn sc ar b w0 k hn hrb hk) t_587 t_1 t_584 t_586 ts_12 hd_SP_planOf blind_Pro (pre_ro C hP va_S.rf) (As := [.int (nI k)]) (rest := []) rfl hl.1 rfl rfl rfl ⟨Nat.le_of_ble_eq_true rfl, Nat.le_of_ble_eq_true rfl⟩ (Nat.le_of_ble_eq_true rfl) ⟨Nat.le_of_ble_eq_true rfl, Nat.le_of_ble_eq_true rfl⟩ d_SP_part_2) ?_
    refine x_sx C b_SP_part_5_11 hl (L' := [(5, .ref (sd (10 + k))), (0, .ref (sd 0)), (1, .int (nI k)), (2, .int a2), (3, .int a3), (4, .int fw)]) (st' := [.int 3, .int (-3), .int a2]) rfl (fun ls hl => ?_)
    refine x_ro (x_cS C (c_SP_isIn l G (cW G rb n md rd sd ms fl mn sc ar b w0) a2 (-3) 3) t_365 t_1 t_363 t_364 hd_SP_isIn blind_Pro (pre_ro C hP va_S.rf) (As := [.int a2, .int (-3), .int 3]) (rest := []) rfl hl.1 rfl rfl rfl ⟨Nat.le_of_ble_eq_true rfl, Nat.le_of_ble_eq_true rfl⟩ (Nat.le_of_ble_eq_true rfl) ⟨Nat.le_of_ble_eq_true rfl, Nat.le_of_ble_eq_true rfl⟩ d_SP_part_11) ?_
    refine lv_if_eq (tgt := 31) C.1 C.2.1 d_SP_part_14 (by decide) (fun h1 => ?_) (fun h1 => ?_)
    · refine x_sx C b_SP_part_31_32 hl (L' := [(5, .ref (sd (10 + k))), (0, .ref (sd 0)), (1, .int (nI k)), (2, .int a2), (3, .int a3), (4, .int fw)]) (st' := [.int 0]) rfl (fun ls hl => ?_)
      refine t_S C (c_SP_need_t l G (cW G rb n md rd sd ms fl mn sc ar b w0) hfl) t_368 t_1 t_366 t_367 hd_SP_need blind_Pro (pre_ro C hP va_S.rf) (As := [.int 0]) (rest := []) rfl hl.1 rfl rfl rfl ⟨Nat.le_of_ble_eq_true rfl, Nat.le_of_ble_eq_true rfl⟩ (Nat.le_of_ble_eq_true rfl) ⟨(Nat.le_of_ble_eq_true rfl), (Nat.le_of_ble_eq_true rfl)⟩ d_SP_part_32 (fun x st t hst hW hq => t_out C hno (fun t2 ht2 => hq.up hst hW ht2))
    · refine x_sx C b_SP_part_17_21 hl (L' := [(5, .ref (sd (10 + k))), (0, .ref (sd 0)), (1, .int (nI k)), (2, .int a2), (3, .int a3), (4, .int fw)]) (st' := [.int 60, .int 1, .int a3]) rfl (fun ls hl => ?_)
      refine x_ro (x_cS C (c_SP_isIn l G (cW G rb n md rd sd ms fl mn sc ar b w0) a3 1 60) t_365 t_1 t_363 t_364 hd_SP_isIn blind_Pro (pre_ro C hP va_S.rf) (As := [.int a3, .int 1, .int 60]) (rest := []) rfl hl.1 rfl rfl rfl ⟨Nat.le_of_ble_eq_true rfl, Nat.le_of_ble_eq_true rfl⟩ (Nat.le_of_ble_eq_true rfl) ⟨Nat.le_of_ble_eq_true rfl, Nat.le_of_ble_eq_true rfl⟩ d_SP_part_21) ?_
      refine lv_if_eq (tgt := 31) C.1 C.2.1 d_SP_part_24 (by decide) (fun h2 => ?_) (fun h2 => ?_)
      · refine x_sx C b_SP_part_31_32 hl (L' := [(5, .ref (sd (10 + k))), (0, .ref (sd 0)), (1, .int (nI k)), (2, .int a2), (3, .int a3), (4, .int fw)]) (st' := [.int 0]) rfl (fun ls hl => ?_)
        refine t_S C (c_SP_need_t l G (cW G rb n md rd sd ms fl mn sc ar b w0) hfl) t_368 t_1 t_366 t_367 hd_SP_need blind_Pro (pre_ro C hP va_S.rf) (As := [.int 0]) (rest := []) rfl hl.1 rfl rfl rfl ⟨Nat.le_of_ble_eq_true rfl, Nat.le_of_ble_eq_true rfl⟩ (Nat.le_of_ble_eq_true rfl) ⟨(Nat.le_of_ble_eq_true rfl), (Nat.le_of_ble_eq_true rfl)⟩ d_SP_part_32 (fun x st t hst hW hq => t_out C hno (fun t2 ht2 => hq.up hst hW ht2))
      · refine x_sx C b_SP_part_27_28 hl (L' := [(5, .ref (sd (10 + k))), (0, .ref (sd 0)), (1, .int (nI k)), (2, .int a2), (3, .int a3), (4, .int fw)]) (st' := [.int 1]) rfl (fun ls hl => ?_)
        refine x_goto (tgt := 32) C d_SP_part_28 (by decide) ?_
        exact absurd ⟨hf, p_in1 h1, p_in1 h2⟩ hv
  · refine x_sx C b_SP_part_0_2 hl (L' := [(0, .ref (sd 0)), (1, .int a1), (2, .int a2), (3, .int a3), (4, .int fw)]) (st' := [.int a1, .ref (sd 0)]) rfl (fun ls hl => ?_)
    refine t_V C hP ((rW_0 (Or.inl (by omega)) hn).trans (sp_L hn).1) rfl (c_SP_planOf_1 l G rb n md rd sd ms fl mn sc ar b w0 a1 hfl hn hrb hf) t_587 t_1 t_584 t_586 ts_12 hd_SP_planOf blind_Pro (pre_ro C hP va_S.rf) (As := [.int a1]) (rest := []) rfl hl.1 rfl rfl rfl ⟨Nat.le_of_ble_eq_true rfl, Nat.le_of_ble_eq_true rfl⟩ (Nat.le_of_ble_eq_true rfl) ⟨(Nat.le_of_ble_eq_true rfl), (Nat.le_of_ble_eq_true rfl)⟩ d_SP_part_2 (fun x st t hst hW hq => t_out C hno (fun t2 ht2 => hq.up hst hW ht2))
theorem b_SP_clear_0_2 : decs prog_1_method_21_code [(.aload_n 0, 1), (.iload_n 1, 1)] 0 2 = true := by decide +kernel
theorem d_SP_clear_2 : decode prog_1_method_21_code 2 = .ok (.invokevirtual 168, 3) := by decide +kernel
set_option maxRecDepth 100000 in
theorem c_SP_clear_1 (l : Launch) (G : GG) (rb n : Nat) (md : Int32) (rd sd : Nat → Nat) (ms : Nat → Int32) (fl mn : Nat → Nat) (sc : Nat → Int32) (ar : Nat → Nat → Int32) (b : Bt) (w0 : WF) (a1 : Int32) (hfl : l.flags = pinnedFlags ++ [noTraceFlag]) (hn : n ≤ 3) (hrb : 100 ≤ rb) (hv : ¬ (p_in a1 0 3 = 1)) : MetT l y_SP_clear (Cond.code y_SP_clear prog_1_method_21_code 4 (some FieldType.int) :: wt) { frames := 8, cells := 1, slots := 6, locals := 131 } (Pro G (cW G rb n md rd sd ms fl mn sc ar b w0) [.ref (sd 0), .int a1]) (QtE "java/lang/IllegalArgumentException") 1 6 := by
  refine th_of (by decide +kernel) (Nat.le_of_ble_eq_true rfl) ?_
  intro p e s m below meth c ls C hP hno hl
  have hl : lv_has ls 4 [(0, .ref (sd 0)), (1, .int a1)] := hl
  refine x_sx C b_SP_clear_0_2 hl (L' := [(0, .ref (sd 0)), (1, .int a1)]) (st' := [.int a1, .ref (sd 0)]) rfl (fun ls hl => ?_)
  refine t_V C hP ((rW_0 (Or.inl (by omega)) hn).trans (sp_L hn).1) rfl (c_SP_planOf_1 l G rb n md rd sd ms fl mn sc ar b w0 a1 hfl hn hrb hv) t_587 t_1 t_584 t_586 ts_12 hd_SP_planOf blind_Pro (pre_ro C hP va_S.rf) (As := [.int a1]) (rest := []) rfl hl.1 rfl rfl rfl ⟨Nat.le_of_ble_eq_true rfl, Nat.le_of_ble_eq_true rfl⟩ (Nat.le_of_ble_eq_true rfl) ⟨(Nat.le_of_ble_eq_true rfl), (Nat.le_of_ble_eq_true rfl)⟩ d_SP_clear_2 (fun x st t hst hW hq => t_out C hno (fun t2 ht2 => hq.up hst hW ht2))
theorem b_SP_sweeps_0_2 : decs prog_1_method_24_code [(.aload_n 0, 1), (.iload_n 1, 1)] 0 2 = true := by decide +kernel
theorem d_SP_sweeps_2 : decode prog_1_method_24_code 2 = .ok (.invokevirtual 168, 3) := by decide +kernel
set_option maxRecDepth 100000 in
theorem c_SP_sweeps_1 (l : Launch) (G : GG) (rb n : Nat) (md : Int32) (rd sd : Nat → Nat) (ms : Nat → Int32) (fl mn : Nat → Nat) (sc : Nat → Int32) (ar : Nat → Nat → Int32) (b : Bt) (w0 : WF) (a1 : Int32) (hfl : l.flags = pinnedFlags ++ [noTraceFlag]) (hn : n ≤ 3) (hrb : 100 ≤ rb) (hv : ¬ (p_in a1 0 3 = 1)) : MetT l y_SP_sweeps (Cond.code y_SP_sweeps prog_1_method_24_code 3 (some FieldType.int) :: wt) { frames := 8, cells := 1, slots := 6, locals := 131 } (Pro G (cW G rb n md rd sd ms fl mn sc ar b w0) [.ref (sd 0), .int a1]) (QtE "java/lang/IllegalArgumentException") 1 6 := by
  refine th_of (by decide +kernel) (Nat.le_of_ble_eq_true rfl) ?_
  intro p e s m below meth c ls C hP hno hl
  have hl : lv_has ls 3 [(0, .ref (sd 0)), (1, .int a1)] := hl
  refine x_sx C b_SP_sweeps_0_2 hl (L' := [(0, .ref (sd 0)), (1, .int a1)]) (st' := [.int a1, .ref (sd 0)]) rfl (fun ls hl => ?_)
  refine t_V C hP ((rW_0 (Or.inl (by omega)) hn).trans (sp_L hn).1) rfl (c_SP_planOf_1 l G rb n md rd sd ms fl mn sc ar b w0 a1 hfl hn hrb hv) t_587 t_1 t_584 t_586 ts_12 hd_SP_planOf blind_Pro (pre_ro C hP va_S.rf) (As := [.int a1]) (rest := []) rfl hl.1 rfl rfl rfl ⟨Nat.le_of_ble_eq_true rfl, Nat.le_of_ble_eq_true rfl⟩ (Nat.le_of_ble_eq_true rfl) ⟨(Nat.le_of_ble_eq_true rfl), (Nat.le_of_ble_eq_true rfl)⟩ d_SP_sweeps_2 (fun x st t hst hW hq => t_out C hno (fun t2 ht2 => hq.up hst hW ht2))
theorem b_SP_part_35_37 : decs prog_1_method_20_code [(.aload 5, 2)] 35 37 = true := by decide +kernel
theorem d_SP_part_37 : decode prog_1_method_20_code 37 = .ok (.invokevirtual 59, 3) := by decide +kernel
theorem b_SP_part_40_42 : decs prog_1_method_20_code [(.bipush 6, 2)] 40 42 = true := by decide +kernel
theorem d_SP_part_42 : decode prog_1_method_20_code 42 = .ok (.if_icmp .ge 7, 3) := by decide +kernel
theorem b_SP_part_49_50 : decs prog_1_method_20_code [(.iconst 0, 1)] 49 50 = true := by decide +kernel
theorem d_SP_part_50 : decode prog_1_method_20_code 50 = .ok (.invokestatic 77, 3) := by decide +kernel
set_option maxRecDepth 100000 in
theorem c_SP_part_2 (l : Launch) (G : GG) (rb n : Nat) (md : Int32) (rd sd : Nat → Nat) (ms : Nat → Int32) (fl mn : Nat → Nat) (sc : Nat → Int32) (ar : Nat → Nat → Int32) (b : Bt) (w0 : WF) (q : Nat) (a2 a3 fw : Int32) (hfl : l.flags = pinnedFlags ++ [noTraceFlag]) (hn : n ≤ 3) (hrb : 100 ≤ rb) (hq : q < 4) (hv : p_in a2 (-3) 3 = 1 ∧ p_in a3 1 60 = 1) (h6 : mn q = 6) : MetT l y_SP_part (Cond.code y_SP_part prog_1_method_20_code 6 (some FieldType.int) :: wt) { frames := 8, cells := 1, slots := 6, locals := 131 } (Pro G (cW G rb n md rd sd ms fl mn sc ar b w0) [.ref (sd 0), .int (nI q), .int a2, .int a3, .int fw]) (QtE "java/lang/IllegalStateException") 1 6 := by
  refine th_of (by decide +kernel) (Nat.le_of_ble_eq_true rfl) ?_
  intro p e s m below meth c ls C hP hno hl
  have hl : lv_has ls 6 [(0, .ref (sd 0)), (1, .int (nI q)), (2, .int a2), (3, .int a3), (4, .int fw)] := hl
  refine x_sx C b_SP_part_0_2 hl (L' := [(0, .ref (sd 0)), (1, .int (nI q)), (2, .int a2), (3, .int a3), (4, .int fw)]) (st' := [.int (nI q), .ref (sd 0)]) rfl (fun ls hl => ?_)
  refine x_ro (x_cV C hP ((rW_0 (Or.inl (by omega)) hn).trans (sp_L hn).1) rfl (c_SP_planOf l G rb n md rd sd ms fl mn sc ar b w0 q hn hrb hq) t_587 t_1 t_584 t_586 ts_12 hd_SP_planOf blind_Pro (pre_ro C hP va_S.rf) (As := [.int (nI q)]) (rest := []) rfl hl.1 rfl rfl rfl ⟨Nat.le_of_ble_eq_true rfl, Nat.le_of_ble_eq_true rfl⟩ (Nat.le_of_ble_eq_true rfl) ⟨Nat.le_of_ble_eq_true rfl, Nat.le_of_ble_eq_true rfl⟩ d_SP_part_2) ?_
  refine x_sx C b_SP_part_5_11 hl (L' := [(5, .ref (sd (10 + q))), (0, .ref (sd 0)), (1, .int (nI q)), (2, .int a2), (3, .int a3), (4, .int fw)]) (st' := [.int 3, .int (-3), .int a2]) rfl (fun ls hl => ?_)
  refine x_ro (x_cS C (c_SP_isIn l G (cW G rb n md rd sd ms fl mn sc ar b w0) a2 (-3) 3) t_365 t_1 t_363 t_364 hd_SP_isIn blind_Pro (pre_ro C hP va_S.rf) (As := [.int a2, .int (-3), .int 3]) (rest := []) rfl hl.1 rfl rfl rfl ⟨Nat.le_of_ble_eq_true rfl, Nat.le_of_ble_eq_true rfl⟩ (Nat.le_of_ble_eq_true rfl) ⟨Nat.le_of_ble_eq_true rfl, Nat.le_of_ble_eq_true rfl⟩ d_SP_part_11) ?_
  refine lv_if_eq (tgt := 31) C.1 C.2.1 d_SP_part_14 (by decide) (fun h => absurd h (by rw [hv.1]; first | done | decide)) (fun _ => ?_)
  refine x_sx C b_SP_part_17_21 hl (L' := [(5, .ref (sd (10 + q))), (0, .ref (sd 0)), (1, .int (nI q)), (2, .int a2), (3, .int a3), (4, .int fw)]) (st' := [.int 60, .int 1, .int a3]) rfl (fun ls hl => ?_)
  refine x_ro (x_cS C (c_SP_isIn l G (cW G rb n md rd sd ms fl mn sc ar b w0) a3 1 60) t_365 t_1 t_363 t_364 hd_SP_isIn blind_Pro (pre_ro C hP va_S.rf) (As := [.int a3, .int 1, .int 60]) (rest := []) rfl hl.1 rfl rfl rfl ⟨Nat.le_of_ble_eq_true rfl, Nat.le_of_ble_eq_true rfl⟩ (Nat.le_of_ble_eq_true rfl) ⟨Nat.le_of_ble_eq_true rfl, Nat.le_of_ble_eq_true rfl⟩ d_SP_part_21) ?_
  refine lv_if_eq (tgt := 31) C.1 C.2.1 d_SP_part_24 (by decide) (fun h => absurd h (by rw [hv.2]; first | done | decide)) (fun _ => ?_)
  refine x_sx C b_SP_part_27_28 hl (L' := [(5, .ref (sd (10 + q))), (0, .ref (sd 0)), (1, .int (nI q)), (2, .int a2), (3, .int a3), (4, .int fw)]) (st' := [.int 1]) rfl (fun ls hl => ?_)
  refine x_goto (tgt := 32) C d_SP_part_28 (by decide) ?_
  refine x_rv (x_cS C (c_SP_need l G (cW G rb n md rd sd ms fl mn sc ar b w0)) t_368 t_1 t_366 t_367 hd_SP_need blind_Pro (pre_ro C hP va_S.rf) (As := [.int 1]) (rest := []) rfl hl.1 rfl rfl rfl ⟨Nat.le_of_ble_eq_true rfl, Nat.le_of_ble_eq_true rfl⟩ (Nat.le_of_ble_eq_true rfl) ⟨Nat.le_of_ble_eq_true rfl, Nat.le_of_ble_eq_true rfl⟩ d_SP_part_32) ?_
  refine x_sx C b_SP_part_35_37 hl (L' := [(5, .ref (sd (10 + q))), (0, .ref (sd 0)), (1, .int (nI q)), (2, .int a2), (3, .int a3), (4, .int fw)]) (st' := [.ref (sd (10 + q))]) rfl (fun ls hl => ?_)
  refine x_ro (x_cV C hP ((rW_0 (Or.inl (by omega)) hn).trans (sp_p hq)) rfl (c_AL_size l G (cW G rb n md rd sd ms fl mn sc ar b w0) (10 + q) (sd (10 + q)) (if fl q = 0 then G.2.2 1 else sd (14 + q)) (nI (mn q)) (ms (2 + q)) ((rW_0 (Or.inl (by omega)) hn).trans (sp_p hq))) t_151 t_4 t_431 t_149 t_150 hd_AL_size blind_Pro (pre_ro C hP va_S.rf) (As := []) (rest := []) rfl hl.1 rfl rfl rfl ⟨Nat.le_of_ble_eq_true rfl, Nat.le_of_ble_eq_true rfl⟩ (Nat.le_of_ble_eq_true rfl) ⟨Nat.le_of_ble_eq_true rfl, Nat.le_of_ble_eq_true rfl⟩ d_SP_part_37) ?_
  refine x_sx C b_SP_part_40_42 hl (L' := [(5, .ref (sd (10 + q))), (0, .ref (sd 0)), (1, .int (nI q)), (2, .int a2), (3, .int a3), (4, .int fw)]) (st' := [.int 6, .int (nI (mn q))]) rfl (fun ls hl => ?_)
  refine lv_icmp_ge (tgt := 49) C.1 C.2.1 d_SP_part_42 (by decide) (fun _ => ?_) (fun h => absurd (by rw [h6]; decide) h)
  refine x_sx C b_SP_part_49_50 hl (L' := [(5, .ref (sd (10 + q))), (0, .ref (sd 0)), (1, .int (nI q)), (2, .int a2), (3, .int a3), (4, .int fw)]) (st' := [.int 0]) rfl (fun ls hl => ?_)
  refine t_S C (c_SP_may_t l G (cW G rb n md rd sd ms fl mn sc ar b w0) hfl) t_434 t_1 t_432 t_433 hd_SP_may blind_Pro (pre_ro C hP va_S.rf) (As := [.int 0]) (rest := []) rfl hl.1 rfl rfl rfl ⟨Nat.le_of_ble_eq_true rfl, Nat.le_of_ble_eq_true rfl⟩ (Nat.le_of_ble_eq_true rfl) ⟨(Nat.le_of_ble_eq_true rfl), (Nat.le_of_ble_eq_true rfl)⟩ d_SP_part_50 (fun x st t hst hW hq => t_out C hno (fun t2 ht2 => hq.up hst hW ht2))
theorem b_SP_sweeps_5_7 : decs prog_1_method_24_code [(.astore_n 2, 1), (.aload_n 0, 1)] 5 7 = true := by decide +kernel
theorem d_SP_sweeps_7 : decode prog_1_method_24_code 7 = .ok (.getfield 20, 3) := by decide +kernel
theorem d_SP_sweeps_10 : decode prog_1_method_24_code 10 = .ok (.invokevirtual 97, 3) := by decide +kernel
theorem d_SP_sweeps_13 : decode prog_1_method_24_code 13 = .ok (.ifCond .ne 7, 3) := by decide +kernel
theorem b_SP_sweeps_20_21 : decs prog_1_method_24_code [(.iconst 0, 1)] 20 21 = true := by decide +kernel
theorem d_SP_sweeps_21 : decode prog_1_method_24_code 21 = .ok (.invokestatic 77, 3) := by decide +kernel
set_option maxRecDepth 100000 in
theorem c_SP_sweeps_2 (l : Launch) (G : GG) (rb n : Nat) (md : Int32) (rd sd : Nat → Nat) (ms : Nat → Int32) (fl mn : Nat → Nat) (sc : Nat → Int32) (ar : Nat → Nat → Int32) (b : Bt) (w0 : WF) (q : Nat) (hfl : l.flags = pinnedFlags ++ [noTraceFlag]) (hn : n ≤ 3) (hrb : 100 ≤ rb) (hq : q < 4) (h0 : n = 0) : MetT l y_SP_sweeps (Cond.code y_SP_sweeps prog_1_method_24_code 3 (some FieldType.int) :: wt) { frames := 8, cells := 1, slots := 6, locals := 131 } (Pro G (cW G rb n md rd sd ms fl mn sc ar b w0) [.ref (sd 0), .int (nI q)]) (QtE "java/lang/IllegalStateException") 1 6 := by
  refine th_of (by decide +kernel) (Nat.le_of_ble_eq_true rfl) ?_
  intro p e s m below meth c ls C hP hno hl
  have hl : lv_has ls 3 [(0, .ref (sd 0)), (1, .int (nI q))] := hl
  refine x_sx C b_SP_sweeps_0_2 hl (L' := [(0, .ref (sd 0)), (1, .int (nI q))]) (st' := [.int (nI q), .ref (sd 0)]) rfl (fun ls hl => ?_)
  refine x_ro (x_cV C hP ((rW_0 (Or.inl (by omega)) hn).trans (sp_L hn).1) rfl (c_SP_planOf l G rb n md rd sd ms fl mn sc ar b w0 q hn hrb hq) t_587 t_1 t_584 t_586 ts_12 hd_SP_planOf blind_Pro (pre_ro C hP va_S.rf) (As := [.int (nI q)]) (rest := []) rfl hl.1 rfl rfl rfl ⟨Nat.le_of_ble_eq_true rfl, Nat.le_of_ble_eq_true rfl⟩ (Nat.le_of_ble_eq_true rfl) ⟨Nat.le_of_ble_eq_true rfl, Nat.le_of_ble_eq_true rfl⟩ d_SP_sweeps_2) ?_
  refine x_sx C b_SP_sweeps_5_7 hl (L' := [(2, .ref (sd (10 + q))), (0, .ref (sd 0)), (1, .int (nI q))]) (st' := [.ref (sd 0)]) rfl (fun ls hl => ?_)
  refine x_get C hP 0 ((rW_0 (Or.inl (by omega)) hn).trans (sp_L hn).1) 0 (v := .ref (sd 3)) rfl rfl (by decide) t_298 (fun _ z => z) d_SP_sweeps_7 ?_
  refine x_ro (x_cV C hP ((rW_0 (Or.inl (by omega)) hn).trans sp_3) rfl (c_AL_isEmpty l G (cW G rb n md rd sd ms fl mn sc ar b w0) 3 (sd 3) (if n = 0 then G.2.2 1 else sd 4) (nI n) (ms 0) ((rW_0 (Or.inl (by omega)) hn).trans sp_3)) t_514 t_4 t_511 t_512 t_513 hd_AL_isEmpty blind_Pro (pre_ro C hP va_S.rf) (As := []) (rest := []) rfl hl.1 rfl rfl rfl ⟨Nat.le_of_ble_eq_true rfl, Nat.le_of_ble_eq_true rfl⟩ (Nat.le_of_ble_eq_true rfl) ⟨Nat.le_of_ble_eq_true rfl, Nat.le_of_ble_eq_true rfl⟩ d_SP_sweeps_10) ?_
  refine lv_if_ne (tgt := 20) C.1 C.2.1 d_SP_sweeps_13 (by decide) (fun _ => ?_) (fun h => absurd h (by rw [h0]; decide))
  refine x_sx C b_SP_sweeps_20_21 hl (L' := [(2, .ref (sd (10 + q))), (0, .ref (sd 0)), (1, .int (nI q))]) (st' := [.int 0]) rfl (fun ls hl => ?_)
  refine t_S C (c_SP_may_t l G (cW G rb n md rd sd ms fl mn sc ar b w0) hfl) t_434 t_1 t_432 t_433 hd_SP_may blind_Pro (pre_ro C hP va_S.rf) (As := [.int 0]) (rest := []) rfl hl.1 rfl rfl rfl ⟨Nat.le_of_ble_eq_true rfl, Nat.le_of_ble_eq_true rfl⟩ (Nat.le_of_ble_eq_true rfl) ⟨(Nat.le_of_ble_eq_true rfl), (Nat.le_of_ble_eq_true rfl)⟩ d_SP_sweeps_21 (fun x st t hst hW hq => t_out C hno (fun t2 ht2 => hq.up hst hW ht2))
