theorem b_Run_sweep_0_1 : decs prog_4_method_2_code [(.aload_n 1, 1)] 0 1 = true := by decide +kernel
theorem d_Run_sweep_1 : decode prog_4_method_2_code 1 = .ok (.getfield 85, 3) := by decide +kernel
theorem b_Run_sweep_4_6 : decs prog_4_method_2_code [(.astore_n 2, 1), (.aload_n 2, 1)] 4 6 = true := by decide +kernel
theorem d_Run_sweep_6 : decode prog_4_method_2_code 6 = .ok (.getfield 89, 3) := by decide +kernel
theorem b_Run_sweep_9_10 : decs prog_4_method_2_code [(.aload_n 2, 1)] 9 10 = true := by decide +kernel
theorem d_Run_sweep_10 : decode prog_4_method_2_code 10 = .ok (.getfield 92, 3) := by decide +kernel
theorem d_Run_sweep_13 : decode prog_4_method_2_code 13 = .ok (.invokestatic 95, 3) := by decide +kernel
theorem b_Run_sweep_16_17 : decs prog_4_method_2_code [(.aload_n 2, 1)] 16 17 = true := by decide +kernel
theorem d_Run_sweep_17 : decode prog_4_method_2_code 17 = .ok (.getfield 101, 3) := by decide +kernel
theorem b_Run_sweep_20_25 : decs prog_4_method_2_code [(.iadd, 1), (.iconst 2, 1), (.iadd, 1), (.istore_n 3, 1), (.aload_n 1, 1)] 20 25 = true := by decide +kernel
theorem d_Run_sweep_25 : decode prog_4_method_2_code 25 = .ok (.getfield 66, 3) := by decide +kernel
theorem b_Run_sweep_28_31 : decs prog_4_method_2_code [(.sipush 4096, 3)] 28 31 = true := by decide +kernel
theorem d_Run_sweep_31 : decode prog_4_method_2_code 31 = .ok (.invokestatic 104, 3) := by decide +kernel
theorem b_Run_sweep_34_38 : decs prog_4_method_2_code [(.iload_n 3, 1), (.isub, 1), (.bipush 8, 2)] 34 38 = true := by decide +kernel
theorem d_Run_sweep_38 : decode prog_4_method_2_code 38 = .ok (.invokestatic 104, 3) := by decide +kernel
theorem b_Run_sweep_41_44 : decs prog_4_method_2_code [(.istore 4, 2), (.aload_n 1, 1)] 41 44 = true := by decide +kernel
theorem d_Run_sweep_44 : decode prog_4_method_2_code 44 = .ok (.getfield 66, 3) := by decide +kernel
theorem b_Run_sweep_47_50 : decs prog_4_method_2_code [(.sipush 4096, 3)] 47 50 = true := by decide +kernel
theorem d_Run_sweep_50 : decode prog_4_method_2_code 50 = .ok (.invokestatic 104, 3) := by decide +kernel
theorem b_Run_sweep_53_57 : decs prog_4_method_2_code [(.iload_n 3, 1), (.iadd, 1), (.bipush 8, 2)] 53 57 = true := by decide +kernel
theorem d_Run_sweep_57 : decode prog_4_method_2_code 57 = .ok (.invokestatic 104, 3) := by decide +kernel
theorem b_Run_sweep_60_65 : decs prog_4_method_2_code [(.iconst 1, 1), (.iadd, 1), (.istore 5, 2), (.aload_n 1, 1)] 60 65 = true := by decide +kernel
theorem d_Run_sweep_65 : decode prog_4_method_2_code 65 = .ok (.getfield 72, 3) := by decide +kernel
theorem b_Run_sweep_68_71 : decs prog_4_method_2_code [(.sipush 4096, 3)] 68 71 = true := by decide +kernel
theorem d_Run_sweep_71 : decode prog_4_method_2_code 71 = .ok (.invokestatic 104, 3) := by decide +kernel
theorem b_Run_sweep_74_78 : decs prog_4_method_2_code [(.iload_n 3, 1), (.isub, 1), (.bipush 8, 2)] 74 78 = true := by decide +kernel
theorem d_Run_sweep_78 : decode prog_4_method_2_code 78 = .ok (.invokestatic 104, 3) := by decide +kernel
theorem b_Run_sweep_81_84 : decs prog_4_method_2_code [(.istore 6, 2), (.aload_n 1, 1)] 81 84 = true := by decide +kernel
theorem d_Run_sweep_84 : decode prog_4_method_2_code 84 = .ok (.getfield 72, 3) := by decide +kernel
theorem b_Run_sweep_87_90 : decs prog_4_method_2_code [(.sipush 4096, 3)] 87 90 = true := by decide +kernel
theorem d_Run_sweep_90 : decode prog_4_method_2_code 90 = .ok (.invokestatic 104, 3) := by decide +kernel
theorem b_Run_sweep_93_97 : decs prog_4_method_2_code [(.iload_n 3, 1), (.iadd, 1), (.bipush 8, 2)] 93 97 = true := by decide +kernel
theorem d_Run_sweep_97 : decode prog_4_method_2_code 97 = .ok (.invokestatic 104, 3) := by decide +kernel
theorem b_Run_sweep_100_108 : decs prog_4_method_2_code [(.iconst 1, 1), (.iadd, 1), (.istore 7, 2), (.iload 4, 2), (.bipush (-32), 2)] 100 108 = true := by decide +kernel
theorem d_Run_sweep_108 : decode prog_4_method_2_code 108 = .ok (.invokestatic 95, 3) := by decide +kernel
theorem b_Run_sweep_111_113 : decs prog_4_method_2_code [(.istore 8, 2)] 111 113 = true := by decide +kernel
theorem b_Run_sweep_113_119 : decs prog_4_method_2_code [(.iload 8, 2), (.iload 5, 2), (.bipush 31, 2)] 113 119 = true := by decide +kernel
theorem d_Run_sweep_119 : decode prog_4_method_2_code 119 = .ok (.invokestatic 107, 3) := by decide +kernel
theorem d_Run_sweep_122 : decode prog_4_method_2_code 122 = .ok (.if_icmp .gt 86, 3) := by decide +kernel
theorem d_Run_sweep_208 : decode prog_4_method_2_code 208 = .ok (.return_, 1) := by decide +kernel
theorem b_Run_sweep_125_129 : decs prog_4_method_2_code [(.iload 6, 2), (.bipush (-32), 2)] 125 129 = true := by decide +kernel
theorem d_Run_sweep_129 : decode prog_4_method_2_code 129 = .ok (.invokestatic 95, 3) := by decide +kernel
theorem b_Run_sweep_132_134 : decs prog_4_method_2_code [(.istore 9, 2)] 132 134 = true := by decide +kernel
theorem b_Run_sweep_134_140 : decs prog_4_method_2_code [(.iload 9, 2), (.iload 7, 2), (.bipush 31, 2)] 134 140 = true := by decide +kernel
theorem d_Run_sweep_140 : decode prog_4_method_2_code 140 = .ok (.invokestatic 107, 3) := by decide +kernel
theorem d_Run_sweep_143 : decode prog_4_method_2_code 143 = .ok (.if_icmp .gt 59, 3) := by decide +kernel
theorem b_Run_sweep_202_205 : decs prog_4_method_2_code [(.iinc 8 1, 3)] 202 205 = true := by decide +kernel
theorem d_Run_sweep_205 : decode prog_4_method_2_code 205 = .ok (.goto (-92), 3) := by decide +kernel
theorem b_Run_sweep_146_169 : decs prog_4_method_2_code [(.aload_n 1, 1), (.bipush 8, 2), (.iload 8, 2), (.imul, 1), (.iconst 4, 1), (.iadd, 1), (.sipush 4096, 3), (.imul, 1), (.bipush 8, 2), (.iload 9, 2), (.imul, 1), (.iconst 4, 1), (.iadd, 1), (.sipush 4096, 3), (.imul, 1)] 146 169 = true := by decide +kernel
theorem d_Run_sweep_169 : decode prog_4_method_2_code 169 = .ok (.invokevirtual 110, 3) := by decide +kernel
theorem d_Run_sweep_172 : decode prog_4_method_2_code 172 = .ok (.ifCond .eq 24, 3) := by decide +kernel
theorem b_Run_sweep_196_199 : decs prog_4_method_2_code [(.iinc 9 1, 3)] 196 199 = true := by decide +kernel
theorem d_Run_sweep_199 : decode prog_4_method_2_code 199 = .ok (.goto (-65), 3) := by decide +kernel
theorem b_Run_sweep_175_176 : decs prog_4_method_2_code [(.aload_n 0, 1)] 175 176 = true := by decide +kernel
theorem d_Run_sweep_176 : decode prog_4_method_2_code 176 = .ok (.getfield 25, 3) := by decide +kernel
theorem b_Run_sweep_179_193 : decs prog_4_method_2_code [(.bipush 64, 2), (.iload 8, 2), (.bipush 32, 2), (.iadd, 1), (.imul, 1), (.iload 9, 2), (.iadd, 1), (.bipush 32, 2), (.iadd, 1)] 179 193 = true := by decide +kernel
theorem d_Run_sweep_193 : decode prog_4_method_2_code 193 = .ok (.invokevirtual 114, 3) := by decide +kernel
set_option maxRecDepth 100000 in
set_option maxHeartbeats 4000000 in
theorem c_Run_sweep (l : Launch) (G : GG) (A : Nat → Prop) (rb n : Nat) (md : Int32) (rd sd : Nat → Nat) (w0 : WF) (rv : Value) (sc : Nat → Int32) (ar : Nat → Nat → Int32) (b : Bt) (k sz tz : Nat) (hn : n ≤ 3) (hk : k < n) (hrb : 100 ≤ rb) (hL : spL G w0 sd rv n sc ar) (hB : BR b (ar 17)) (hg : rgC ar k) : Met l y_Run_sweep (Cond.code y_Run_sweep prog_4_method_2_code 10 none :: wt) { frames := 5, cells := (pc6 b.2.1), slots := (ps6 b.2.1), locals := 132 } (Pre G A (rW G rb n md rd sd w0 sc ar b) (fun H => H.size = sz ∧ hTot H = tz) [.ref (rd 0), .ref (rd (5 + k))]) (Qx0 (X := Bt) A (fun x H => BR x (fSw ar k) ∧ rmP sz tz b.2.1 x.2.1 H) G (fun x => (rW G rb n md rd sd w0 sc ar x))) (pc6 b.2.1) (ps6 b.2.1) A := by
  refine mt_of (by decide) (Nat.le_of_ble_eq_true rfl) ?_
  intro p e s m below meth c ls C hH hA hE hr hmn hl
  have hl : lv_has ls 10 [(0, .ref (rd 0)), (1, .ref (rd (5 + k)))] := hl
  refine x_sx C b_Run_sweep_0_1 hl (L' := [(0, .ref (rd 0)), (1, .ref (rd (5 + k)))]) (st' := [.ref (rd (5 + k))]) rfl (fun ls hl => ?_)
  refine x_get C hH.1 (rb + 5 + k) (rW_b hk) 0 (v := .ref (sd (20 + k))) rfl rfl (by decide) t_174 (fun _ z => z) d_Run_sweep_1 ?_
  refine x_sx C b_Run_sweep_4_6 hl (L' := [(2, .ref (sd (20 + k))), (0, .ref (rd 0)), (1, .ref (rd (5 + k)))]) (st' := [.ref (sd (20 + k))]) rfl (fun ls hl => ?_)
  refine x_get C hH.1 (20 + k) ((rW_0 (Or.inl (by omega)) hn).trans (hL.2.2.2 k hk)) 2 (v := .int (ar 3 k)) rfl rfl (by decide) t_461 (fun _ z => z) d_Run_sweep_6 ?_
  refine x_sx C b_Run_sweep_9_10 hl (L' := [(2, .ref (sd (20 + k))), (0, .ref (rd 0)), (1, .ref (rd (5 + k)))]) (st' := [.ref (sd (20 + k)), .int (ar 3 k)]) rfl (fun ls hl => ?_)
  refine x_get C hH.1 (20 + k) ((rW_0 (Or.inl (by omega)) hn).trans (hL.2.2.2 k hk)) 3 (v := .int (ar 4 k)) rfl rfl (by decide) t_465 (fun _ z => z) d_Run_sweep_10 ?_
  refine x_ro (x_cS C (c_Math_max l G (rW G rb n md rd sd w0 sc ar b) (ar 3 k) (ar 4 k)) t_79 t_6 t_226 t_78 hd_Math_max blind_Pro (pre_ro C hH.1 hH.2.2) (As := [.int (ar 3 k), .int (ar 4 k)]) (rest := []) rfl hl.1 rfl rfl rfl ⟨Nat.le_of_ble_eq_true rfl, Nat.le_of_ble_eq_true rfl⟩ (Nat.le_of_ble_eq_true rfl) ⟨Nat.zero_le _, Nat.zero_le _⟩ d_Run_sweep_13) ?_
  refine x_sx C b_Run_sweep_16_17 hl (L' := [(2, .ref (sd (20 + k))), (0, .ref (rd 0)), (1, .ref (rd (5 + k)))]) (st' := [.ref (sd (20 + k)), .int (p_max (ar 3 k) (ar 4 k))]) rfl (fun ls hl => ?_)
  refine x_get C hH.1 (20 + k) ((rW_0 (Or.inl (by omega)) hn).trans (hL.2.2.2 k hk)) 4 (v := .int (ar 5 k)) rfl rfl (by decide) t_469 (fun _ z => z) d_Run_sweep_17 ?_
  refine x_sx C b_Run_sweep_20_25 hl (L' := [(3, .int (((p_max (ar 3 k) (ar 4 k)) + (ar 5 k)) + 2)), (2, .ref (sd (20 + k))), (0, .ref (rd 0)), (1, .ref (rd (5 + k)))]) (st' := [.ref (rd (5 + k))]) rfl (fun ls hl => ?_)
  refine x_get C hH.1 (rb + 5 + k) (rW_b hk) 2 (v := .int (ar 12 k)) rfl rfl (by decide) t_177 (fun _ z => z) d_Run_sweep_25 ?_
  refine x_sx C b_Run_sweep_28_31 hl (L' := [(3, .int (((p_max (ar 3 k) (ar 4 k)) + (ar 5 k)) + 2)), (2, .ref (sd (20 + k))), (0, .ref (rd 0)), (1, .ref (rd (5 + k)))]) (st' := [.int 4096, .int (ar 12 k)]) rfl (fun ls hl => ?_)
  refine x_ro (x_cS C (c_Math_floorDiv l G (rW G rb n md rd sd w0 sc ar b) (ar 12 k) 4096 (by decide)) t_229 t_6 t_227 t_228 hd_Math_floorDiv blind_Pro (pre_ro C hH.1 hH.2.2) (As := [.int (ar 12 k), .int 4096]) (rest := []) rfl hl.1 rfl rfl rfl ⟨Nat.le_of_ble_eq_true rfl, Nat.le_of_ble_eq_true rfl⟩ (Nat.le_of_ble_eq_true rfl) ⟨Nat.zero_le _, Nat.zero_le _⟩ d_Run_sweep_31) ?_
  refine x_sx C b_Run_sweep_34_38 hl (L' := [(3, .int (((p_max (ar 3 k) (ar 4 k)) + (ar 5 k)) + 2)), (2, .ref (sd (20 + k))), (0, .ref (rd 0)), (1, .ref (rd (5 + k)))]) (st' := [.int 8, .int ((p_fd (ar 12 k) 4096) - (((p_max (ar 3 k) (ar 4 k)) + (ar 5 k)) + 2))]) rfl (fun ls hl => ?_)
  refine x_ro (x_cS C (c_Math_floorDiv l G (rW G rb n md rd sd w0 sc ar b) ((p_fd (ar 12 k) 4096) - (((p_max (ar 3 k) (ar 4 k)) + (ar 5 k)) + 2)) 8 (by decide)) t_229 t_6 t_227 t_228 hd_Math_floorDiv blind_Pro (pre_ro C hH.1 hH.2.2) (As := [.int ((p_fd (ar 12 k) 4096) - (((p_max (ar 3 k) (ar 4 k)) + (ar 5 k)) + 2)), .int 8]) (rest := []) rfl hl.1 rfl rfl rfl ⟨Nat.le_of_ble_eq_true rfl, Nat.le_of_ble_eq_true rfl⟩ (Nat.le_of_ble_eq_true rfl) ⟨Nat.zero_le _, Nat.zero_le _⟩ d_Run_sweep_38) ?_
  refine x_sx C b_Run_sweep_41_44 hl (L' := [(4, .int (p_fd ((p_fd (ar 12 k) 4096) - (((p_max (ar 3 k) (ar 4 k)) + (ar 5 k)) + 2)) 8)), (3, .int (((p_max (ar 3 k) (ar 4 k)) + (ar 5 k)) + 2)), (2, .ref (sd (20 + k))), (0, .ref (rd 0)), (1, .ref (rd (5 + k)))]) (st' := [.ref (rd (5 + k))]) rfl (fun ls hl => ?_)
  refine x_get C hH.1 (rb + 5 + k) (rW_b hk) 2 (v := .int (ar 12 k)) rfl rfl (by decide) t_177 (fun _ z => z) d_Run_sweep_44 ?_
  refine x_sx C b_Run_sweep_47_50 hl (L' := [(4, .int (p_fd ((p_fd (ar 12 k) 4096) - (((p_max (ar 3 k) (ar 4 k)) + (ar 5 k)) + 2)) 8)), (3, .int (((p_max (ar 3 k) (ar 4 k)) + (ar 5 k)) + 2)), (2, .ref (sd (20 + k))), (0, .ref (rd 0)), (1, .ref (rd (5 + k)))]) (st' := [.int 4096, .int (ar 12 k)]) rfl (fun ls hl => ?_)
  refine x_ro (x_cS C (c_Math_floorDiv l G (rW G rb n md rd sd w0 sc ar b) (ar 12 k) 4096 (by decide)) t_229 t_6 t_227 t_228 hd_Math_floorDiv blind_Pro (pre_ro C hH.1 hH.2.2) (As := [.int (ar 12 k), .int 4096]) (rest := []) rfl hl.1 rfl rfl rfl ⟨Nat.le_of_ble_eq_true rfl, Nat.le_of_ble_eq_true rfl⟩ (Nat.le_of_ble_eq_true rfl) ⟨Nat.zero_le _, Nat.zero_le _⟩ d_Run_sweep_50) ?_
  refine x_sx C b_Run_sweep_53_57 hl (L' := [(4, .int (p_fd ((p_fd (ar 12 k) 4096) - (((p_max (ar 3 k) (ar 4 k)) + (ar 5 k)) + 2)) 8)), (3, .int (((p_max (ar 3 k) (ar 4 k)) + (ar 5 k)) + 2)), (2, .ref (sd (20 + k))), (0, .ref (rd 0)), (1, .ref (rd (5 + k)))]) (st' := [.int 8, .int ((p_fd (ar 12 k) 4096) + (((p_max (ar 3 k) (ar 4 k)) + (ar 5 k)) + 2))]) rfl (fun ls hl => ?_)
  refine x_ro (x_cS C (c_Math_floorDiv l G (rW G rb n md rd sd w0 sc ar b) ((p_fd (ar 12 k) 4096) + (((p_max (ar 3 k) (ar 4 k)) + (ar 5 k)) + 2)) 8 (by decide)) t_229 t_6 t_227 t_228 hd_Math_floorDiv blind_Pro (pre_ro C hH.1 hH.2.2) (As := [.int ((p_fd (ar 12 k) 4096) + (((p_max (ar 3 k) (ar 4 k)) + (ar 5 k)) + 2)), .int 8]) (rest := []) rfl hl.1 rfl rfl rfl ⟨Nat.le_of_ble_eq_true rfl, Nat.le_of_ble_eq_true rfl⟩ (Nat.le_of_ble_eq_true rfl) ⟨Nat.zero_le _, Nat.zero_le _⟩ d_Run_sweep_57) ?_
  refine x_sx C b_Run_sweep_60_65 hl (L' := [(5, .int ((p_fd ((p_fd (ar 12 k) 4096) + (((p_max (ar 3 k) (ar 4 k)) + (ar 5 k)) + 2)) 8) + 1)), (4, .int (p_fd ((p_fd (ar 12 k) 4096) - (((p_max (ar 3 k) (ar 4 k)) + (ar 5 k)) + 2)) 8)), (3, .int (((p_max (ar 3 k) (ar 4 k)) + (ar 5 k)) + 2)), (2, .ref (sd (20 + k))), (0, .ref (rd 0)), (1, .ref (rd (5 + k)))]) (st' := [.ref (rd (5 + k))]) rfl (fun ls hl => ?_)
  refine x_get C hH.1 (rb + 5 + k) (rW_b hk) 3 (v := .int (ar 13 k)) rfl rfl (by decide) t_180 (fun _ z => z) d_Run_sweep_65 ?_
  refine x_sx C b_Run_sweep_68_71 hl (L' := [(5, .int ((p_fd ((p_fd (ar 12 k) 4096) + (((p_max (ar 3 k) (ar 4 k)) + (ar 5 k)) + 2)) 8) + 1)), (4, .int (p_fd ((p_fd (ar 12 k) 4096) - (((p_max (ar 3 k) (ar 4 k)) + (ar 5 k)) + 2)) 8)), (3, .int (((p_max (ar 3 k) (ar 4 k)) + (ar 5 k)) + 2)), (2, .ref (sd (20 + k))), (0, .ref (rd 0)), (1, .ref (rd (5 + k)))]) (st' := [.int 4096, .int (ar 13 k)]) rfl (fun ls hl => ?_)
  refine x_ro (x_cS C (c_Math_floorDiv l G (rW G rb n md rd sd w0 sc ar b) (ar 13 k) 4096 (by decide)) t_229 t_6 t_227 t_228 hd_Math_floorDiv blind_Pro (pre_ro C hH.1 hH.2.2) (As := [.int (ar 13 k), .int 4096]) (rest := []) rfl hl.1 rfl rfl rfl ⟨Nat.le_of_ble_eq_true rfl, Nat.le_of_ble_eq_true rfl⟩ (Nat.le_of_ble_eq_true rfl) ⟨Nat.zero_le _, Nat.zero_le _⟩ d_Run_sweep_71) ?_
  refine x_sx C b_Run_sweep_74_78 hl (L' := [(5, .int ((p_fd ((p_fd (ar 12 k) 4096) + (((p_max (ar 3 k) (ar 4 k)) + (ar 5 k)) + 2)) 8) + 1)), (4, .int (p_fd ((p_fd (ar 12 k) 4096) - (((p_max (ar 3 k) (ar 4 k)) + (ar 5 k)) + 2)) 8)), (3, .int (((p_max (ar 3 k) (ar 4 k)) + (ar 5 k)) + 2)), (2, .ref (sd (20 + k))), (0, .ref (rd 0)), (1, .ref (rd (5 + k)))]) (st' := [.int 8, .int ((p_fd (ar 13 k) 4096) - (((p_max (ar 3 k) (ar 4 k)) + (ar 5 k)) + 2))]) rfl (fun ls hl => ?_)
  refine x_ro (x_cS C (c_Math_floorDiv l G (rW G rb n md rd sd w0 sc ar b) ((p_fd (ar 13 k) 4096) - (((p_max (ar 3 k) (ar 4 k)) + (ar 5 k)) + 2)) 8 (by decide)) t_229 t_6 t_227 t_228 hd_Math_floorDiv blind_Pro (pre_ro C hH.1 hH.2.2) (As := [.int ((p_fd (ar 13 k) 4096) - (((p_max (ar 3 k) (ar 4 k)) + (ar 5 k)) + 2)), .int 8]) (rest := []) rfl hl.1 rfl rfl rfl ⟨Nat.le_of_ble_eq_true rfl, Nat.le_of_ble_eq_true rfl⟩ (Nat.le_of_ble_eq_true rfl) ⟨Nat.zero_le _, Nat.zero_le _⟩ d_Run_sweep_78) ?_
  refine x_sx C b_Run_sweep_81_84 hl (L' := [(6, .int (p_fd ((p_fd (ar 13 k) 4096) - (((p_max (ar 3 k) (ar 4 k)) + (ar 5 k)) + 2)) 8)), (5, .int ((p_fd ((p_fd (ar 12 k) 4096) + (((p_max (ar 3 k) (ar 4 k)) + (ar 5 k)) + 2)) 8) + 1)), (4, .int (p_fd ((p_fd (ar 12 k) 4096) - (((p_max (ar 3 k) (ar 4 k)) + (ar 5 k)) + 2)) 8)), (3, .int (((p_max (ar 3 k) (ar 4 k)) + (ar 5 k)) + 2)), (2, .ref (sd (20 + k))), (0, .ref (rd 0)), (1, .ref (rd (5 + k)))]) (st' := [.ref (rd (5 + k))]) rfl (fun ls hl => ?_)
  refine x_get C hH.1 (rb + 5 + k) (rW_b hk) 3 (v := .int (ar 13 k)) rfl rfl (by decide) t_180 (fun _ z => z) d_Run_sweep_84 ?_
  refine x_sx C b_Run_sweep_87_90 hl (L' := [(6, .int (p_fd ((p_fd (ar 13 k) 4096) - (((p_max (ar 3 k) (ar 4 k)) + (ar 5 k)) + 2)) 8)), (5, .int ((p_fd ((p_fd (ar 12 k) 4096) + (((p_max (ar 3 k) (ar 4 k)) + (ar 5 k)) + 2)) 8) + 1)), (4, .int (p_fd ((p_fd (ar 12 k) 4096) - (((p_max (ar 3 k) (ar 4 k)) + (ar 5 k)) + 2)) 8)), (3, .int (((p_max (ar 3 k) (ar 4 k)) + (ar 5 k)) + 2)), (2, .ref (sd (20 + k))), (0, .ref (rd 0)), (1, .ref (rd (5 + k)))]) (st' := [.int 4096, .int (ar 13 k)]) rfl (fun ls hl => ?_)
  refine x_ro (x_cS C (c_Math_floorDiv l G (rW G rb n md rd sd w0 sc ar b) (ar 13 k) 4096 (by decide)) t_229 t_6 t_227 t_228 hd_Math_floorDiv blind_Pro (pre_ro C hH.1 hH.2.2) (As := [.int (ar 13 k), .int 4096]) (rest := []) rfl hl.1 rfl rfl rfl ⟨Nat.le_of_ble_eq_true rfl, Nat.le_of_ble_eq_true rfl⟩ (Nat.le_of_ble_eq_true rfl) ⟨Nat.zero_le _, Nat.zero_le _⟩ d_Run_sweep_90) ?_
  refine x_sx C b_Run_sweep_93_97 hl (L' := [(6, .int (p_fd ((p_fd (ar 13 k) 4096) - (((p_max (ar 3 k) (ar 4 k)) + (ar 5 k)) + 2)) 8)), (5, .int ((p_fd ((p_fd (ar 12 k) 4096) + (((p_max (ar 3 k) (ar 4 k)) + (ar 5 k)) + 2)) 8) + 1)), (4, .int (p_fd ((p_fd (ar 12 k) 4096) - (((p_max (ar 3 k) (ar 4 k)) + (ar 5 k)) + 2)) 8)), (3, .int (((p_max (ar 3 k) (ar 4 k)) + (ar 5 k)) + 2)), (2, .ref (sd (20 + k))), (0, .ref (rd 0)), (1, .ref (rd (5 + k)))]) (st' := [.int 8, .int ((p_fd (ar 13 k) 4096) + (((p_max (ar 3 k) (ar 4 k)) + (ar 5 k)) + 2))]) rfl (fun ls hl => ?_)
  refine x_ro (x_cS C (c_Math_floorDiv l G (rW G rb n md rd sd w0 sc ar b) ((p_fd (ar 13 k) 4096) + (((p_max (ar 3 k) (ar 4 k)) + (ar 5 k)) + 2)) 8 (by decide)) t_229 t_6 t_227 t_228 hd_Math_floorDiv blind_Pro (pre_ro C hH.1 hH.2.2) (As := [.int ((p_fd (ar 13 k) 4096) + (((p_max (ar 3 k) (ar 4 k)) + (ar 5 k)) + 2)), .int 8]) (rest := []) rfl hl.1 rfl rfl rfl ⟨Nat.le_of_ble_eq_true rfl, Nat.le_of_ble_eq_true rfl⟩ (Nat.le_of_ble_eq_true rfl) ⟨Nat.zero_le _, Nat.zero_le _⟩ d_Run_sweep_97) ?_
  refine x_sx C b_Run_sweep_100_108 hl (L' := [(7, .int ((p_fd ((p_fd (ar 13 k) 4096) + (((p_max (ar 3 k) (ar 4 k)) + (ar 5 k)) + 2)) 8) + 1)), (6, .int (p_fd ((p_fd (ar 13 k) 4096) - (((p_max (ar 3 k) (ar 4 k)) + (ar 5 k)) + 2)) 8)), (5, .int ((p_fd ((p_fd (ar 12 k) 4096) + (((p_max (ar 3 k) (ar 4 k)) + (ar 5 k)) + 2)) 8) + 1)), (4, .int (p_fd ((p_fd (ar 12 k) 4096) - (((p_max (ar 3 k) (ar 4 k)) + (ar 5 k)) + 2)) 8)), (3, .int (((p_max (ar 3 k) (ar 4 k)) + (ar 5 k)) + 2)), (2, .ref (sd (20 + k))), (0, .ref (rd 0)), (1, .ref (rd (5 + k)))]) (st' := [.int (-32), .int (p_fd ((p_fd (ar 12 k) 4096) - (((p_max (ar 3 k) (ar 4 k)) + (ar 5 k)) + 2)) 8)]) rfl (fun ls hl => ?_)
  refine x_ro (x_cS C (c_Math_max l G (rW G rb n md rd sd w0 sc ar b) (p_fd ((p_fd (ar 12 k) 4096) - (((p_max (ar 3 k) (ar 4 k)) + (ar 5 k)) + 2)) 8) (-32)) t_79 t_6 t_226 t_78 hd_Math_max blind_Pro (pre_ro C hH.1 hH.2.2) (As := [.int (p_fd ((p_fd (ar 12 k) 4096) - (((p_max (ar 3 k) (ar 4 k)) + (ar 5 k)) + 2)) 8), .int (-32)]) (rest := []) rfl hl.1 rfl rfl rfl ⟨Nat.le_of_ble_eq_true rfl, Nat.le_of_ble_eq_true rfl⟩ (Nat.le_of_ble_eq_true rfl) ⟨Nat.zero_le _, Nat.zero_le _⟩ d_Run_sweep_108) ?_
  refine x_sx C b_Run_sweep_111_113 hl (L' := [(8, .int (p_max (p_fd ((p_fd (ar 12 k) 4096) - (((p_max (ar 3 k) (ar 4 k)) + (ar 5 k)) + 2)) 8) (-32))), (7, .int ((p_fd ((p_fd (ar 13 k) 4096) + (((p_max (ar 3 k) (ar 4 k)) + (ar 5 k)) + 2)) 8) + 1)), (6, .int (p_fd ((p_fd (ar 13 k) 4096) - (((p_max (ar 3 k) (ar 4 k)) + (ar 5 k)) + 2)) 8)), (5, .int ((p_fd ((p_fd (ar 12 k) 4096) + (((p_max (ar 3 k) (ar 4 k)) + (ar 5 k)) + 2)) 8) + 1)), (4, .int (p_fd ((p_fd (ar 12 k) 4096) - (((p_max (ar 3 k) (ar 4 k)) + (ar 5 k)) + 2)) 8)), (3, .int (((p_max (ar 3 k) (ar 4 k)) + (ar 5 k)) + 2)), (2, .ref (sd (20 + k))), (0, .ref (rd 0)), (1, .ref (rd (5 + k)))]) (st' := []) rfl (fun ls hl => ?_)
  obtain ⟨aF, haF, eaF⟩ := mx_nat (fd8_lt (p_fd (ar 12 k) 4096 - rchC ar k))
  obtain ⟨bF, hbF, ebF⟩ := mx_nat (fd8_lt (p_fd (ar 13 k) 4096 - rchC ar k))
  have hl : lv_has ls 10 [(8, .int (zs aF)), (7, .int ((p_fd ((p_fd (ar 13 k) 4096) + (rchC ar k)) 8) + 1)), (6, .int (p_fd ((p_fd (ar 13 k) 4096) - (rchC ar k)) 8)), (5, .int ((p_fd ((p_fd (ar 12 k) 4096) + (rchC ar k)) 8) + 1)), (4, .int (p_fd ((p_fd (ar 12 k) 4096) - (rchC ar k)) 8)), (3, .int (rchC ar k)), (2, .ref (sd (20 + k))), (0, .ref (rd 0)), (1, .ref (rd (5 + k)))] := by rw [← eaF]; exact hl
  generalize eI1 : (p_fd ((p_fd (ar 12 k) 4096) + (rchC ar k)) 8) + 1 = I1 at hl
  generalize eJ0 : p_fd ((p_fd (ar 13 k) 4096) - (rchC ar k)) 8 = J0 at hl ebF
  generalize eJ1 : (p_fd ((p_fd (ar 13 k) 4096) + (rchC ar k)) 8) + 1 = J1 at hl
  generalize eI0 : p_fd ((p_fd (ar 12 k) 4096) - (rchC ar k)) 8 = I0 at eaF
  have hrg : ∀ t, t < 4096 → cvB ar k (cX t) (cY t) = 1 → swP ar k aF (mnE I1) bF (mnE J1) t := by
    intro t ht hv
    obtain ⟨q1, q2, q3, q4⟩ := hg t ht hv
    rw [eI0] at q1
    rw [eI1] at q2
    rw [eJ0] at q3
    rw [eJ1] at q4
    exact ⟨⟨mx_le haF eaF (by omega) q1, mn_lt (by omega) q2, mx_le hbF ebF (by omega) q3, mn_lt (by omega) q4⟩, hv⟩
  have hAE := mnE_le I1
  have hBE := mnE_le J1
  have hs0 : SWI (swP ar k aF (mnE I1) bF (mnE J1)) 0 63 0 63 (ar 17) (ar 17) (64 * aF) := SWI.skip SWI.start (by omega) (fun t h1 h2 h3 h4 h5 => by have := h5.1.1; omega)
  refine x_loopC (X := Nat × Bt × (Nat → Int32)) (fun x => 64 - x.1) (fun x H locs cells slots => x.1 < 2 ^ 29 ∧ SWI (swP ar k aF (mnE I1) bF (mnE J1)) 0 63 0 63 (ar 17) x.2.2 (64 * x.1) ∧ BR x.2.1 x.2.2 ∧ cells + pc6 x.2.1.2.1 ≤ pc6 b.2.1 ∧ slots + ps6 x.2.1.2.1 ≤ ps6 b.2.1 ∧ b.2.1 ≤ x.2.1.2.1 ∧ Hw G A s (rW G rb n md rd sd w0 sc ar x.2.1) H locs) (fun x => [(0, .ref (rd 0)), (1, .ref (rd (5 + k))), (5, .int I1), (6, .int J0), (7, .int J1), (8, .int (zs x.1))]) 113 ?_ (aF, b, ar 17) _ _ _ _ _ ⟨haF, hs0, hB, by show 0 + pc6 b.2.1 ≤ pc6 b.2.1; omega, by show 0 + ps6 b.2.1 ≤ ps6 b.2.1; omega, Nat.le_refl _, hH⟩ (lv_sub hl [7, 8, 3, 2, 1, 0] rfl)
  intro x H locs cells slots ls hI hl IH1
  obtain ⟨i1, ⟨d, L, u, f⟩, g⟩ := x
  obtain ⟨ha29, hsw, hb2, hc1, hc2, hbL, hH⟩ := hI
  dsimp only at ha29 hsw hb2 hc1 hc2 hbL hH IH1
  have hl : lv_has ls 10 [(0, .ref (rd 0)), (1, .ref (rd (5 + k))), (5, .int I1), (6, .int J0), (7, .int J1), (8, .int (zs i1))] := hl
  have hc3 : cells + 0 ≤ pc6 b.2.1 := by omega
  have hc4 : slots + 0 ≤ ps6 b.2.1 := by omega
  refine x_sx C b_Run_sweep_113_119 hl (L' := [(0, .ref (rd 0)), (1, .ref (rd (5 + k))), (5, .int I1), (6, .int J0), (7, .int J1), (8, .int (zs i1))]) (st' := [.int 31, .int I1, .int (zs i1)]) rfl (fun ls hl => ?_)
  refine x_ro (x_cS C (c_Math_min l G (rW G rb n md rd sd w0 sc ar (d, L, u, f)) I1 31) t_109 t_6 t_230 t_108 hd_Math_min blind_Pro (pre_ro C hH.1 hH.2.2) (As := [.int I1, .int 31]) (rest := [.int (zs i1)]) rfl hl.1 rfl rfl rfl ⟨Nat.le_of_ble_eq_true rfl, Nat.le_of_ble_eq_true rfl⟩ (Nat.le_of_ble_eq_true rfl) ⟨hc3, hc4⟩ d_Run_sweep_119) ?_
  refine lv_icmp_gt (tgt := 208) C.1 C.2.1 d_Run_sweep_122 (by decide) (fun hb => ?_) (fun hb => ?_)
  · rw [mnE_lt (by omega)] at hb
    have hb3 : BR (d, L, u, f) (fSw ar k) := by
      refine hb2.congr (fun t ht => ?_)
      obtain ⟨q1, q2⟩ := hsw t ht
      unfold fSw
      by_cases hv : cvB ar k (cX t) (cY t) = 1
      · have hp := hrg t ht hv
        have := hp.1.2.1
        rw [if_pos hv, q1 ⟨by omega, sw_all ht, hp⟩]
      · rw [if_neg hv, q2 (fun y => hv y.2.2.2)]
    refine W.know (fun k1 k2 _ _ => ?_)
    exact x_vrt C hr hH.2.2 ⟨(d, L, u, f), rfl, ⟨hb3, hbL, by have := hE.1; show H.size + pc6 L ≤ _; omega, by have := hE.2; show hTot H + ps6 L ≤ _; omega⟩, hH.1, hH.2.1⟩ (by omega) (by omega) d_Run_sweep_208
  · rw [mnE_lt (by omega)] at hb
    refine x_sx C b_Run_sweep_125_129 hl (L' := [(0, .ref (rd 0)), (1, .ref (rd (5 + k))), (5, .int I1), (6, .int J0), (7, .int J1), (8, .int (zs i1))]) (st' := [.int (-32), .int J0]) rfl (fun ls hl => ?_)
    refine x_ro (x_cS C (c_Math_max l G (rW G rb n md rd sd w0 sc ar (d, L, u, f)) J0 (-32)) t_79 t_6 t_226 t_78 hd_Math_max blind_Pro (pre_ro C hH.1 hH.2.2) (As := [.int J0, .int (-32)]) (rest := []) rfl hl.1 rfl rfl rfl ⟨Nat.le_of_ble_eq_true rfl, Nat.le_of_ble_eq_true rfl⟩ (Nat.le_of_ble_eq_true rfl) ⟨hc3, hc4⟩ d_Run_sweep_129) ?_
    rw [ebF]
    refine x_sx C b_Run_sweep_132_134 hl (L' := [(9, .int (zs bF)), (0, .ref (rd 0)), (1, .ref (rd (5 + k))), (5, .int I1), (6, .int J0), (7, .int J1), (8, .int (zs i1))]) (st' := []) rfl (fun ls hl => ?_)
    have hs1 : SWI (swP ar k aF (mnE I1) bF (mnE J1)) 0 63 0 63 (ar 17) g (64 * i1 + min bF 64) := hsw.skip (by omega) (fun t h1 h2 h3 h4 h5 => by have := h5.1.2.2.1; omega)
    refine x_loopC (X := Nat × Bt × (Nat → Int32)) (fun x => 64 - x.1) (fun x H locs cells slots => x.1 < 2 ^ 29 ∧ (bF ≤ x.1 ∧ SWI (swP ar k aF (mnE I1) bF (mnE J1)) 0 63 0 63 (ar 17) x.2.2 (64 * i1 + min x.1 64)) ∧ BR x.2.1 x.2.2 ∧ cells + pc6 x.2.1.2.1 ≤ pc6 b.2.1 ∧ slots + ps6 x.2.1.2.1 ≤ ps6 b.2.1 ∧ b.2.1 ≤ x.2.1.2.1 ∧ Hw G A s (rW G rb n md rd sd w0 sc ar x.2.1) H locs) (fun x => [(0, .ref (rd 0)), (1, .ref (rd (5 + k))), (5, .int I1), (6, .int J0), (7, .int J1), (8, .int (zs i1)), (9, .int (zs x.1))]) 134 ?_ (bF, (d, L, u, f), g) _ _ _ _ _ ⟨hbF, ⟨Nat.le_refl _, hs1⟩, hb2, hc1, hc2, hbL, hH⟩ (lv_sub hl [1, 2, 3, 4, 5, 6, 0] rfl)
    clear hs1 hsw hb2 hc1 hc2 hc3 hc4 hbL hH
    intro x H locs cells slots ls hI hl IH2
    obtain ⟨j1, ⟨d, L, u, f⟩, g⟩ := x
    obtain ⟨ha29, hsw, hb2, hc1, hc2, hbL, hH⟩ := hI
    dsimp only at ha29 hsw hb2 hc1 hc2 hbL hH IH2
    have hl : lv_has ls 10 [(0, .ref (rd 0)), (1, .ref (rd (5 + k))), (5, .int I1), (6, .int J0), (7, .int J1), (8, .int (zs i1)), (9, .int (zs j1))] := hl
    have hc3 : cells + 0 ≤ pc6 b.2.1 := by omega
    have hc4 : slots + 0 ≤ ps6 b.2.1 := by omega
    obtain ⟨hbF2, hsw⟩ := hsw
    refine x_sx C b_Run_sweep_134_140 hl (L' := [(0, .ref (rd 0)), (1, .ref (rd (5 + k))), (5, .int I1), (6, .int J0), (7, .int J1), (8, .int (zs i1)), (9, .int (zs j1))]) (st' := [.int 31, .int J1, .int (zs j1)]) rfl (fun ls hl => ?_)
    refine x_ro (x_cS C (c_Math_min l G (rW G rb n md rd sd w0 sc ar (d, L, u, f)) J1 31) t_109 t_6 t_230 t_108 hd_Math_min blind_Pro (pre_ro C hH.1 hH.2.2) (As := [.int J1, .int 31]) (rest := [.int (zs j1)]) rfl hl.1 rfl rfl rfl ⟨Nat.le_of_ble_eq_true rfl, Nat.le_of_ble_eq_true rfl⟩ (Nat.le_of_ble_eq_true rfl) ⟨hc3, hc4⟩ d_Run_sweep_140) ?_
    refine lv_icmp_gt (tgt := 202) C.1 C.2.1 d_Run_sweep_143 (by decide) (fun hb2' => ?_) (fun hb2' => ?_)
    · rw [mnE_lt (by omega)] at hb2'
      refine x_sx C b_Run_sweep_202_205 hl (L' := [(8, .int ((zs i1) + 1)), (0, .ref (rd 0)), (1, .ref (rd (5 + k))), (5, .int I1), (6, .int J0), (7, .int J1), (9, .int (zs j1))]) (st' := []) rfl (fun ls hl => ?_)
      refine x_goto (tgt := 113) C d_Run_sweep_205 (by decide) ?_
      exact IH1 (i1 + 1, (d, L, u, f), g) _ _ _ _ _ (by show 64 - (i1 + 1) < 64 - i1; omega) ⟨by show i1 + 1 < _; omega, hsw.skip (by show _ ≤ 64 * (i1 + 1); omega) (fun t h1 h2 h3 h4 h5 => by have h2 : t < 64 * (i1 + 1) := h2; have := h5.1.2.2.2; omega), hb2, hc1, hc2, hbL, hH⟩ (by rw [← zs_inc]; exact (lv_sub hl [1, 2, 3, 4, 5, 0] rfl))
    · rw [mnE_lt (by omega)] at hb2'
      have ht : 64 * i1 + j1 < 4096 := by omega
      refine x_sx C b_Run_sweep_146_169 hl (L' := [(0, .ref (rd 0)), (1, .ref (rd (5 + k))), (5, .int I1), (6, .int J0), (7, .int J1), (8, .int (zs i1)), (9, .int (zs j1))]) (st' := [.int (((8 * (zs j1)) + 4) * 4096), .int (((8 * (zs i1)) + 4) * 4096), .ref (rd (5 + k))]) rfl (fun ls hl => ?_)
      refine x_ro (x_cV C hH.1 (rW_b hk) rfl (c_Body_has l G (rW G rb n md rd sd w0 sc ar (d, L, u, f)) (rb + 5 + k) (20 + k) (rd (5 + k)) (sd (20 + k)) (bfV rd k) (ar 12 k) (ar 13 k) (ar 14 k) (ar 15 k) (ar 16 k) (ar 1 k) (ar 2 k) (ar 3 k) (ar 4 k) (ar 5 k) (((8 * (zs i1)) + 4) * 4096) (((8 * (zs j1)) + 4) * 4096) (rW_b hk) ((rW_0 (Or.inl (by omega)) hn).trans (hL.2.2.2 k hk))) t_234 t_11 t_231 t_232 t_233 hd_Body_has blind_Pro (pre_ro C hH.1 hH.2.2) (As := [.int (((8 * (zs i1)) + 4) * 4096), .int (((8 * (zs j1)) + 4) * 4096)]) (rest := []) rfl hl.1 rfl rfl rfl ⟨Nat.le_of_ble_eq_true rfl, Nat.le_of_ble_eq_true rfl⟩ (Nat.le_of_ble_eq_true rfl) ⟨hc3, hc4⟩ d_Run_sweep_169) ?_
      rw [cM, cM, ← cX_at (b := j1) (by omega), ← cY_at (a := i1) (by omega)]
      refine lv_if_eq (tgt := 196) C.1 C.2.1 d_Run_sweep_172 (by decide) (fun hv => ?_) (fun hv => ?_)
      · refine x_sx C b_Run_sweep_196_199 hl (L' := [(9, .int ((zs j1) + 1)), (0, .ref (rd 0)), (1, .ref (rd (5 + k))), (5, .int I1), (6, .int J0), (7, .int J1), (8, .int (zs i1))]) (st' := []) rfl (fun ls hl => ?_)
        refine x_goto (tgt := 134) C d_Run_sweep_199 (by decide) ?_
        exact IH2 (j1 + 1, (d, L, u, f), g) _ _ _ _ _ (by show 64 - (j1 + 1) < 64 - j1; omega) ⟨by show j1 + 1 < _; omega, ⟨by show bF ≤ j1 + 1; omega, hsw.skip (by show _ ≤ 64 * i1 + min (j1 + 1) 64; omega) (fun t h1 h2 h3 h4 h5 => by have h2 : t < 64 * i1 + min (j1 + 1) 64 := h2; have e : t = 64 * i1 + j1 := (by omega); rw [e] at h5; exact absurd (hv.symm.trans h5.2) (by decide))⟩, hb2, hc1, hc2, hbL, hH⟩ (by rw [← zs_inc]; exact (lv_sub hl [1, 2, 3, 4, 5, 6, 0] rfl))
      · refine W.know (fun k1 k2 _ _ => ?_)
        have kk0 : H.size + pc6 L ≤ s.heap.size + pc6 b.2.1 ∧ hTot H + ps6 L ≤ hTot s.heap + ps6 b.2.1 := ⟨by omega, by omega⟩
        have hv1 : cvB ar k (cX (64 * i1 + j1)) (cY (64 * i1 + j1)) = 1 := cov_1 hv
        have hp1 := hrg _ ht hv1
        refine x_sx C b_Run_sweep_175_176 hl (L' := [(0, .ref (rd 0)), (1, .ref (rd (5 + k))), (5, .int I1), (6, .int J0), (7, .int J1), (8, .int (zs i1)), (9, .int (zs j1))]) (st' := [.ref (rd 0)]) rfl (fun ls hl => ?_)
        refine x_get C hH.1 rb rW_o 1 (v := .ref (rd 3)) rfl rfl (by decide) t_267 (fun _ z => z) d_Run_sweep_176 ?_
        refine x_sx C b_Run_sweep_179_193 hl (L' := [(0, .ref (rd 0)), (1, .ref (rd (5 + k))), (5, .int I1), (6, .int J0), (7, .int J1), (8, .int (zs i1)), (9, .int (zs j1))]) (st' := [.int (((64 * ((zs i1) + 32)) + (zs j1)) + 32), .ref (rd 3)]) rfl (fun ls hl => ?_)
        rw [zs_at]
        refine x_q0 (x_cV C hH.1 rW_s rfl (c_BS_set l G A (rW G rb n md rd sd w0 sc ar (d, L, u, f)) (rb + 3) (rb + 4) (rd 3) d L u f (64 * i1 + j1) H.size (hTot H) (by omega) rW_s rW_w hb2.1 hb2.2.1 hb2.2.2.1 (fun k z => hb2.2.2.2.1 k (Nat.le_trans (Nat.min_le_left _ _) z)) ht) t_239 t_10 t_236 t_237 t_238 hd_BS_set blind_Pre (pre_mt C hH hA ⟨rfl, rfl⟩) (As := [.int (nI (64 * i1 + j1))]) (rest := []) rfl hl.1 rfl rfl rfl ⟨Nat.le_of_ble_eq_true rfl, Nat.le_of_ble_eq_true rfl⟩ (Nat.le_of_ble_eq_true rfl) ⟨(by show cells + pc6 L ≤ pc6 b.2.1; omega), (by show slots + ps6 L ≤ ps6 b.2.1; omega)⟩ d_Run_sweep_193) hH.2.2 (fun x H locs hx hH hz => ?_)
        obtain ⟨hx1, hx2, hx3, hx4, hx5⟩ := hx
        rw [rW_bits (b' := (x.1, x.2, max u ((64 * i1 + j1) / 64 + 1), vp_updL f ((64 * i1 + j1) / 64) (f ((64 * i1 + j1) / 64) ||| (1 <<< ((nI (64 * i1 + j1)).toInt64 &&& 63))))) rfl] at hH
        refine W.know (fun _ _ k3 k4 => ?_)
        obtain ⟨kz, ky⟩ := kk0
        refine W.tight (k := H.size - s.heap.size) (n := hTot H - hTot s.heap) (by omega) (by omega) ?_
        refine x_sx C b_Run_sweep_196_199 hl (L' := [(9, .int ((zs j1) + 1)), (0, .ref (rd 0)), (1, .ref (rd (5 + k))), (5, .int I1), (6, .int J0), (7, .int J1), (8, .int (zs i1))]) (st' := []) rfl (fun ls hl => ?_)
        refine x_goto (tgt := 134) C d_Run_sweep_199 (by decide) ?_
        exact IH2 (j1 + 1, (x.1, x.2, max u ((64 * i1 + j1) / 64 + 1), vp_updL f ((64 * i1 + j1) / 64) (f ((64 * i1 + j1) / 64) ||| (1 <<< ((nI (64 * i1 + j1)).toInt64 &&& 63)))), (upd g (64 * i1 + j1) 1)) _ _ _ _ _ (by show 64 - (j1 + 1) < 64 - j1; omega) ⟨by show j1 + 1 < _; omega, ⟨by show bF ≤ j1 + 1; omega, (by have h := hsw; rw [show 64 * i1 + min j1 64 = 64 * i1 + j1 by omega] at h; show SWI _ _ _ _ _ _ _ (64 * i1 + min (j1 + 1) 64); rw [show 64 * i1 + min (j1 + 1) 64 = 64 * i1 + j1 + 1 by omega]; exact h.set (sw_all ht) hp1)⟩, hb2.set ht hx1 hx2 hx3, (by show H.size - s.heap.size + pc6 x.2 ≤ pc6 b.2.1; omega), (by show hTot H - hTot s.heap + ps6 x.2 ≤ ps6 b.2.1; omega), (by show b.2.1 ≤ x.2; omega), hH⟩ (by rw [← zs_inc]; exact (lv_sub hl [1, 2, 3, 4, 5, 6, 0] rfl))
theorem hd_Run_sweep : hdP y_Run_sweep 1 := ⟨by decide +kernel, by decide +kernel, by decide +kernel⟩
