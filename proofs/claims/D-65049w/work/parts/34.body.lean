/-! The component's directions, bodies, shapes and parts. -/
theorem dy_eq (h : Int32) : p_dx (h - 16) = p_dy h := by
  unfold p_dy p_dx
  have e : (h - 16) &&& 63 = (h + 48) &&& 63 := by
    apply Int32.toBitVec_inj.mp
    rw [Int32.toBitVec_and, Int32.toBitVec_and, Int32.toBitVec_sub, Int32.toBitVec_add]
    generalize h.toBitVec = x
    show (x - 16#32) &&& 63#32 = (x + 48#32) &&& 63#32
    apply BitVec.eq_of_toNat_eq
    simp only [BitVec.toNat_and, BitVec.toNat_sub, BitVec.toNat_add, BitVec.toNat_ofNat]
    show (2 ^ 32 - 16 % 2 ^ 32 + x.toNat) % 2 ^ 32 &&& (2 ^ 6 - 1) = (x.toNat + 48 % 2 ^ 32) % 2 ^ 32 &&& (2 ^ 6 - 1)
    rw [Nat.and_two_pow_sub_one_eq_mod, Nat.and_two_pow_sub_one_eq_mod]
    omega
  rw [e]
theorem b_SP_dx_0_5 : decs prog_1_method_1_code [(.iload_n 0, 1), (.bipush 63, 2), (.iand, 1), (.istore_n 1, 1)] 0 5 = true := by decide +kernel
theorem b_SP_dx_5_8 : decs prog_1_method_1_code [(.iload_n 1, 1), (.bipush 32, 2)] 5 8 = true := by decide +kernel
theorem d_SP_dx_8 : decode prog_1_method_1_code 8 = .ok (.if_icmp .le 10, 3) := by decide +kernel
theorem b_SP_dx_18_19 : decs prog_1_method_1_code [(.iload_n 1, 1)] 18 19 = true := by decide +kernel
theorem b_SP_dx_19_23 : decs prog_1_method_1_code [(.istore_n 2, 1), (.iload_n 2, 1), (.bipush 16, 2)] 19 23 = true := by decide +kernel
theorem d_SP_dx_23 : decode prog_1_method_1_code 23 = .ok (.if_icmp .le 15, 3) := by decide +kernel
theorem d_SP_dx_38 : decode prog_1_method_1_code 38 = .ok (.getstatic 3, 3) := by decide +kernel
theorem b_SP_dx_41_42 : decs prog_1_method_1_code [(.iload_n 2, 1)] 41 42 = true := by decide +kernel
theorem d_SP_dx_42 : decode prog_1_method_1_code 42 = .ok (.iaload, 1) := by decide +kernel
theorem d_SP_dx_43 : decode prog_1_method_1_code 43 = .ok (.ireturn, 1) := by decide +kernel
theorem d_SP_dx_26 : decode prog_1_method_1_code 26 = .ok (.getstatic 3, 3) := by decide +kernel
theorem b_SP_dx_29_33 : decs prog_1_method_1_code [(.bipush 32, 2), (.iload_n 2, 1), (.isub, 1)] 29 33 = true := by decide +kernel
theorem d_SP_dx_33 : decode prog_1_method_1_code 33 = .ok (.iaload, 1) := by decide +kernel
theorem b_SP_dx_34_35 : decs prog_1_method_1_code [(.ineg, 1)] 34 35 = true := by decide +kernel
theorem d_SP_dx_35 : decode prog_1_method_1_code 35 = .ok (.goto 8, 3) := by decide +kernel
theorem b_SP_dx_11_15 : decs prog_1_method_1_code [(.bipush 64, 2), (.iload_n 1, 1), (.isub, 1)] 11 15 = true := by decide +kernel
theorem d_SP_dx_15 : decode prog_1_method_1_code 15 = .ok (.goto 4, 3) := by decide +kernel
set_option maxRecDepth 100000 in
theorem c_SP_dx (l : Launch) (G : GG) (w : WF) (h : Int32) : Met l y_SP_dx (Cond.code y_SP_dx prog_1_method_1_code 3 (some FieldType.int) :: wt) { frames := 0, cells := 0, slots := 0, locals := 0 } (Pro G w [.int h]) (Qro (.int (p_dx h))) 0 0 (fun _ => False) := by
  refine ro_of (by decide +kernel) (Nat.le_of_ble_eq_true rfl) ?_
  intro p e s m below meth c ls C hP hr hl
  have hl : lv_has ls 3 [(0, .int h)] := hl
  obtain ⟨j, hj, ej⟩ := and63 h
  rw [dxN hj ej]
  refine x_sx C b_SP_dx_0_5 hl (L' := [(1, .int (h &&& 63)), (0, .int h)]) (st' := []) rfl (fun ls hl => ?_)
  have hl : lv_has ls 3 [(1, .int (nI j)), (0, .int h)] := by rw [← ej]; exact hl
  refine x_sx C b_SP_dx_5_8 hl (L' := [(1, .int (nI j)), (0, .int h)]) (st' := [.int 32, .int (nI j)]) rfl (fun ls hl => ?_)
  refine lv_icmp_le (tgt := 18) C.1 C.2.1 d_SP_dx_8 (by decide) (fun h1 => ?_) (fun h1 => ?_)
  · have h1 : j ≤ 32 := by have q := h1; simp only [Int32.lt_iff_toInt_lt, Int32.le_iff_toInt_le, nI_toInt (show j < 2 ^ 31 by omega), Int32.reduceToInt] at q; omega
    refine x_sx C b_SP_dx_18_19 hl (L' := [(1, .int (nI j)), (0, .int h)]) (st' := [.int (nI j)]) rfl (fun ls hl => ?_)
    refine x_sx C b_SP_dx_19_23 hl (L' := [(2, .int (nI j)), (1, .int (nI j)), (0, .int h)]) (st' := [.int 16, .int (nI j)]) rfl (fun ls hl => ?_)
    refine lv_icmp_le (tgt := 38) C.1 C.2.1 d_SP_dx_23 (by decide) (fun h2 => ?_) (fun h2 => ?_)
    · have h2 : j ≤ 16 := by have q := h2; simp only [Int32.lt_iff_toInt_lt, Int32.le_iff_toInt_le, nI_toInt (show j < 2 ^ 31 by omega), Int32.reduceToInt] at q; omega
      refine x_gs C C.Z.1 va_S.rf t_211 (fun _ z => z) d_SP_dx_38 ?_
      refine x_sx C b_SP_dx_41_42 hl (L' := [(2, .int (nI j)), (1, .int (nI j)), (0, .int h)]) (st' := [.int (nI j), .ref (G.2.2 0)]) rfl (fun ls hl => ?_)
      refine va_ti C.1 C.2.1 C.Z.2.1 va_S.rf (vp_in_nI (by omega) (by decide)) (v := .int (cosT j)) (by rw [nI_clamp (by omega)]) d_SP_dx_42 ?_
      exact x_iro C hr (by unfold csN; rw [if_pos h2]) d_SP_dx_43
    · have h2 : 16 < j := by have q := h2; simp only [Int32.lt_iff_toInt_lt, Int32.le_iff_toInt_le, nI_toInt (show j < 2 ^ 31 by omega), Int32.reduceToInt] at q; omega
      refine x_gs C C.Z.1 va_S.rf t_211 (fun _ z => z) d_SP_dx_26 ?_
      refine x_sx C b_SP_dx_29_33 hl (L' := [(2, .int (nI j)), (1, .int (nI j)), (0, .int h)]) (st' := [.int (32 - (nI j)), .ref (G.2.2 0)]) rfl (fun ls hl => ?_)
      have e3 : 32 - nI j = nI (32 - j) := pk_sub (a := 32) (b := j) (by omega)
      rw [e3]
      refine va_ti C.1 C.2.1 C.Z.2.1 va_S.rf (vp_in_nI (show 32 - j < 17 by omega) (by decide)) (v := .int (cosT (32 - j))) (by rw [nI_clamp (by omega)]) d_SP_dx_33 ?_
      refine x_sx C b_SP_dx_34_35 hl (L' := [(2, .int (nI j)), (1, .int (nI j)), (0, .int h)]) (st' := [.int (-(cosT (32 - j)))]) rfl (fun ls hl => ?_)
      refine x_goto (tgt := 43) C d_SP_dx_35 (by decide) ?_
      exact x_iro C hr (by unfold csN; rw [if_neg (by omega), if_pos h1]) d_SP_dx_43
  · have h1 : 32 < j := by have q := h1; simp only [Int32.lt_iff_toInt_lt, Int32.le_iff_toInt_le, nI_toInt (show j < 2 ^ 31 by omega), Int32.reduceToInt] at q; omega
    refine x_sx C b_SP_dx_11_15 hl (L' := [(1, .int (nI j)), (0, .int h)]) (st' := [.int (64 - (nI j))]) rfl (fun ls hl => ?_)
    refine x_goto (tgt := 19) C d_SP_dx_15 (by decide) ?_
    have e2 : 64 - nI j = nI (64 - j) := pk_sub (a := 64) (b := j) (by omega)
    rw [e2]
    refine x_sx C b_SP_dx_19_23 hl (L' := [(2, .int (nI (64 - j))), (1, .int (nI j)), (0, .int h)]) (st' := [.int 16, .int (nI (64 - j))]) rfl (fun ls hl => ?_)
    refine lv_icmp_le (tgt := 38) C.1 C.2.1 d_SP_dx_23 (by decide) (fun h2 => ?_) (fun h2 => ?_)
    · have h2 : 64 - j ≤ 16 := by have q := h2; simp only [Int32.lt_iff_toInt_lt, Int32.le_iff_toInt_le, nI_toInt (show (64 - j) < 2 ^ 31 by omega), Int32.reduceToInt] at q; omega
      refine x_gs C C.Z.1 va_S.rf t_211 (fun _ z => z) d_SP_dx_38 ?_
      refine x_sx C b_SP_dx_41_42 hl (L' := [(2, .int (nI (64 - j))), (1, .int (nI j)), (0, .int h)]) (st' := [.int (nI (64 - j)), .ref (G.2.2 0)]) rfl (fun ls hl => ?_)
      refine va_ti C.1 C.2.1 C.Z.2.1 va_S.rf (vp_in_nI (by omega) (by decide)) (v := .int (cosT (64 - j))) (by rw [nI_clamp (by omega)]) d_SP_dx_42 ?_
      exact x_iro C hr (by unfold csN; rw [if_neg (by omega), if_neg (by omega)]; split; (have e4 : j = 48 := by omega); (subst e4; decide); rfl) d_SP_dx_43
    · have h2 : 16 < 64 - j := by have q := h2; simp only [Int32.lt_iff_toInt_lt, Int32.le_iff_toInt_le, nI_toInt (show (64 - j) < 2 ^ 31 by omega), Int32.reduceToInt] at q; omega
      refine x_gs C C.Z.1 va_S.rf t_211 (fun _ z => z) d_SP_dx_26 ?_
      refine x_sx C b_SP_dx_29_33 hl (L' := [(2, .int (nI (64 - j))), (1, .int (nI j)), (0, .int h)]) (st' := [.int (32 - (nI (64 - j))), .ref (G.2.2 0)]) rfl (fun ls hl => ?_)
      have e3 : 32 - nI (64 - j) = nI (32 - (64 - j)) := pk_sub (a := 32) (b := (64 - j)) (by omega)
      rw [e3]
      refine va_ti C.1 C.2.1 C.Z.2.1 va_S.rf (vp_in_nI (show 32 - (64 - j) < 17 by omega) (by decide)) (v := .int (cosT (32 - (64 - j)))) (by rw [nI_clamp (by omega)]) d_SP_dx_33 ?_
      refine x_sx C b_SP_dx_34_35 hl (L' := [(2, .int (nI (64 - j))), (1, .int (nI j)), (0, .int h)]) (st' := [.int (-(cosT (32 - (64 - j))))]) rfl (fun ls hl => ?_)
      refine x_goto (tgt := 43) C d_SP_dx_35 (by decide) ?_
      exact x_iro C hr (by unfold csN; rw [if_neg (by omega), if_neg (by omega), if_pos (by omega), show 32 - (64 - j) = j - 32 by omega]) d_SP_dx_43
theorem hd_SP_dx : hdP y_SP_dx 1 := ⟨by decide +kernel, by decide +kernel, by decide +kernel⟩
theorem b_SP_dy_0_4 : decs prog_1_method_2_code [(.iload_n 0, 1), (.bipush 16, 2), (.isub, 1)] 0 4 = true := by decide +kernel
theorem d_SP_dy_4 : decode prog_1_method_2_code 4 = .ok (.invokestatic 7, 3) := by decide +kernel
theorem d_SP_dy_7 : decode prog_1_method_2_code 7 = .ok (.ireturn, 1) := by decide +kernel
set_option maxRecDepth 100000 in
theorem c_SP_dy (l : Launch) (G : GG) (w : WF) (h : Int32) : Met l y_SP_dy (Cond.code y_SP_dy prog_1_method_2_code 1 (some FieldType.int) :: wt) { frames := 1, cells := 0, slots := 0, locals := 22 } (Pro G w [.int h]) (Qro (.int (p_dy h))) 0 0 (fun _ => False) := by
  refine ro_of (by decide +kernel) (Nat.le_of_ble_eq_true rfl) ?_
  intro p e s m below meth c ls C hP hr hl
  have hl : lv_has ls 1 [(0, .int h)] := hl
  refine x_sx C b_SP_dy_0_4 hl (L' := [(0, .int h)]) (st' := [.int (h - 16)]) rfl (fun ls hl => ?_)
  refine x_ro (x_cS C (c_SP_dx l G w (h - 16)) t_210 t_1 t_216 t_209 hd_SP_dx blind_Pro (pre_ro C hP va_S.rf) (As := [.int (h - 16)]) (rest := []) rfl hl.1 rfl rfl rfl ⟨Nat.le_of_ble_eq_true rfl, Nat.le_of_ble_eq_true rfl⟩ (Nat.le_of_ble_eq_true rfl) ⟨Nat.zero_le _, Nat.zero_le _⟩ d_SP_dy_4) ?_
  exact x_iro C hr (dy_eq h) d_SP_dy_7
theorem hd_SP_dy : hdP y_SP_dy 1 := ⟨by decide +kernel, by decide +kernel, by decide +kernel⟩
theorem b_Body_has_0_2 : decs prog_2_method_5_code [(.iload_n 1, 1), (.aload_n 0, 1)] 0 2 = true := by decide +kernel
theorem d_Body_has_2 : decode prog_2_method_5_code 2 = .ok (.getfield 23, 3) := by decide +kernel
theorem b_Body_has_5_10 : decs prog_2_method_5_code [(.isub, 1), (.i2l, 1), (.lstore_n 3, 1), (.iload_n 2, 1), (.aload_n 0, 1)] 5 10 = true := by decide +kernel
theorem d_Body_has_10 : decode prog_2_method_5_code 10 = .ok (.getfield 38, 3) := by decide +kernel
theorem b_Body_has_13_19 : decs prog_2_method_5_code [(.isub, 1), (.i2l, 1), (.lstore 5, 2), (.lload_n 3, 1), (.aload_n 0, 1)] 13 19 = true := by decide +kernel
theorem d_Body_has_19 : decode prog_2_method_5_code 19 = .ok (.getfield 19, 3) := by decide +kernel
theorem d_Body_has_22 : decode prog_2_method_5_code 22 = .ok (.invokestatic 31, 3) := by decide +kernel
theorem b_Body_has_25_30 : decs prog_2_method_5_code [(.i2l, 1), (.lmul, 1), (.lload 5, 2), (.aload_n 0, 1)] 25 30 = true := by decide +kernel
theorem d_Body_has_30 : decode prog_2_method_5_code 30 = .ok (.getfield 19, 3) := by decide +kernel
theorem d_Body_has_33 : decode prog_2_method_5_code 33 = .ok (.invokestatic 41, 3) := by decide +kernel
theorem b_Body_has_36_44 : decs prog_2_method_5_code [(.i2l, 1), (.lmul, 1), (.ladd, 1), (.lstore 7, 2), (.lload 5, 2), (.aload_n 0, 1)] 36 44 = true := by decide +kernel
theorem d_Body_has_44 : decode prog_2_method_5_code 44 = .ok (.getfield 19, 3) := by decide +kernel
theorem d_Body_has_47 : decode prog_2_method_5_code 47 = .ok (.invokestatic 31, 3) := by decide +kernel
theorem b_Body_has_50_54 : decs prog_2_method_5_code [(.i2l, 1), (.lmul, 1), (.lload_n 3, 1), (.aload_n 0, 1)] 50 54 = true := by decide +kernel
theorem d_Body_has_54 : decode prog_2_method_5_code 54 = .ok (.getfield 19, 3) := by decide +kernel
theorem d_Body_has_57 : decode prog_2_method_5_code 57 = .ok (.invokestatic 41, 3) := by decide +kernel
theorem b_Body_has_60_65 : decs prog_2_method_5_code [(.i2l, 1), (.lmul, 1), (.lsub, 1), (.lstore 9, 2)] 60 65 = true := by decide +kernel
theorem d_Body_has_65 : decode prog_2_method_5_code 65 = .ok (.ldc2_w 51, 3) := by decide +kernel
theorem b_Body_has_68_73 : decs prog_2_method_5_code [(.lstore 11, 2), (.lload 7, 2), (.aload_n 0, 1)] 68 73 = true := by decide +kernel
theorem d_Body_has_73 : decode prog_2_method_5_code 73 = .ok (.getfield 9, 3) := by decide +kernel
theorem d_Body_has_76 : decode prog_2_method_5_code 76 = .ok (.getfield 53, 3) := by decide +kernel
theorem b_Body_has_79_85 : decs prog_2_method_5_code [(.ineg, 1), (.i2l, 1), (.lload 11, 2), (.lmul, 1), (.lcmp, 1)] 79 85 = true := by decide +kernel
theorem d_Body_has_85 : decode prog_2_method_5_code 85 = .ok (.ifCond .lt 59, 3) := by decide +kernel
theorem b_Body_has_144_145 : decs prog_2_method_5_code [(.iconst 0, 1)] 144 145 = true := by decide +kernel
theorem d_Body_has_145 : decode prog_2_method_5_code 145 = .ok (.ireturn, 1) := by decide +kernel
theorem b_Body_has_88_91 : decs prog_2_method_5_code [(.lload 7, 2), (.aload_n 0, 1)] 88 91 = true := by decide +kernel
theorem d_Body_has_91 : decode prog_2_method_5_code 91 = .ok (.getfield 9, 3) := by decide +kernel
theorem d_Body_has_94 : decode prog_2_method_5_code 94 = .ok (.getfield 56, 3) := by decide +kernel
theorem b_Body_has_97_102 : decs prog_2_method_5_code [(.i2l, 1), (.lload 11, 2), (.lmul, 1), (.lcmp, 1)] 97 102 = true := by decide +kernel
theorem d_Body_has_102 : decode prog_2_method_5_code 102 = .ok (.ifCond .gt 42, 3) := by decide +kernel
theorem b_Body_has_105_108 : decs prog_2_method_5_code [(.lload 9, 2), (.aload_n 0, 1)] 105 108 = true := by decide +kernel
theorem d_Body_has_108 : decode prog_2_method_5_code 108 = .ok (.getfield 9, 3) := by decide +kernel
theorem d_Body_has_111 : decode prog_2_method_5_code 111 = .ok (.getfield 59, 3) := by decide +kernel
theorem b_Body_has_114_120 : decs prog_2_method_5_code [(.ineg, 1), (.i2l, 1), (.lload 11, 2), (.lmul, 1), (.lcmp, 1)] 114 120 = true := by decide +kernel
theorem d_Body_has_120 : decode prog_2_method_5_code 120 = .ok (.ifCond .lt 24, 3) := by decide +kernel
theorem b_Body_has_123_126 : decs prog_2_method_5_code [(.lload 9, 2), (.aload_n 0, 1)] 123 126 = true := by decide +kernel
theorem d_Body_has_126 : decode prog_2_method_5_code 126 = .ok (.getfield 9, 3) := by decide +kernel
theorem d_Body_has_129 : decode prog_2_method_5_code 129 = .ok (.getfield 59, 3) := by decide +kernel
theorem b_Body_has_132_137 : decs prog_2_method_5_code [(.i2l, 1), (.lload 11, 2), (.lmul, 1), (.lcmp, 1)] 132 137 = true := by decide +kernel
theorem d_Body_has_137 : decode prog_2_method_5_code 137 = .ok (.ifCond .gt 7, 3) := by decide +kernel
theorem b_Body_has_140_141 : decs prog_2_method_5_code [(.iconst 1, 1)] 140 141 = true := by decide +kernel
theorem d_Body_has_141 : decode prog_2_method_5_code 141 = .ok (.goto 4, 3) := by decide +kernel
set_option maxRecDepth 100000 in
theorem c_Body_has (l : Launch) (G : GG) (w : WF) (nb ns a sa : Nat) (bv : Value) (x0 y0 h rs wo ln hi fr re ha px py : Int32) (he : w nb = some (a, .inr (2, [.ref sa, bv, .int x0, .int y0, .int h, .int rs, .int wo]))) (hs : w ns = some (sa, .inr (1, [.int ln, .int hi, .int fr, .int re, .int ha]))) : Met l y_Body_has (Cond.code y_Body_has prog_2_method_5_code 13 (some FieldType.boolean) :: wt) { frames := 2, cells := 0, slots := 0, locals := 42 } (Pro G w [.ref a, .int px, .int py]) (Qro (.int (p_cov x0 y0 h fr re ha px py))) 0 0 (fun _ => False) := by
  refine ro_of (by decide +kernel) (Nat.le_of_ble_eq_true rfl) ?_
  intro p e s m below meth c ls C hP hr hl
  have hl : lv_has ls 13 [(0, .ref a), (1, .int px), (2, .int py)] := hl
  refine x_sx C b_Body_has_0_2 hl (L' := [(0, .ref a), (1, .int px), (2, .int py)]) (st' := [.ref a, .int px]) rfl (fun ls hl => ?_)
  refine x_get C hP nb he 2 (v := .int x0) rfl rfl (by decide) t_178 (fun _ z => z) d_Body_has_2 ?_
  refine x_sx C b_Body_has_5_10 hl (L' := [(3, .long (px - x0).toInt64), (0, .ref a), (1, .int px), (2, .int py)]) (st' := [.ref a, .int py]) rfl (fun ls hl => ?_)
  refine x_get C hP nb he 3 (v := .int y0) rfl rfl (by decide) t_181 (fun _ z => z) d_Body_has_10 ?_
  refine x_sx C b_Body_has_13_19 hl (L' := [(5, .long (py - y0).toInt64), (3, .long (px - x0).toInt64), (0, .ref a), (1, .int px), (2, .int py)]) (st' := [.ref a, .long (px - x0).toInt64]) rfl (fun ls hl => ?_)
  refine x_get C hP nb he 4 (v := .int h) rfl rfl (by decide) t_184 (fun _ z => z) d_Body_has_19 ?_
  refine x_ro (x_cSN C (c_SP_dx l G w h) t_210 t_1 t_208 t_209 hd_SP_dx blind_Pro (pre_ro C hP va_S.rf) (As := [.int h]) (rest := [.long (px - x0).toInt64]) rfl hl.1 rfl rfl rfl ⟨Nat.le_of_ble_eq_true rfl, Nat.le_of_ble_eq_true rfl⟩ (Nat.le_of_ble_eq_true rfl) ⟨Nat.zero_le _, Nat.zero_le _⟩ d_Body_has_22) ?_
  refine x_sx C b_Body_has_25_30 hl (L' := [(5, .long (py - y0).toInt64), (3, .long (px - x0).toInt64), (0, .ref a), (1, .int px), (2, .int py)]) (st' := [.ref a, .long (py - y0).toInt64, .long ((px - x0).toInt64 * (p_dx h).toInt64)]) rfl (fun ls hl => ?_)
  refine x_get C hP nb he 4 (v := .int h) rfl rfl (by decide) t_184 (fun _ z => z) d_Body_has_30 ?_
  refine x_ro (x_cSN C (c_SP_dy l G w h) t_215 t_1 t_213 t_214 hd_SP_dy blind_Pro (pre_ro C hP va_S.rf) (As := [.int h]) (rest := [.long (py - y0).toInt64, .long ((px - x0).toInt64 * (p_dx h).toInt64)]) rfl hl.1 rfl rfl rfl ⟨Nat.le_of_ble_eq_true rfl, Nat.le_of_ble_eq_true rfl⟩ (Nat.le_of_ble_eq_true rfl) ⟨Nat.zero_le _, Nat.zero_le _⟩ d_Body_has_33) ?_
  refine x_sx C b_Body_has_36_44 hl (L' := [(7, .long (((px - x0).toInt64 * (p_dx h).toInt64) + ((py - y0).toInt64 * (p_dy h).toInt64))), (5, .long (py - y0).toInt64), (3, .long (px - x0).toInt64), (0, .ref a), (1, .int px), (2, .int py)]) (st' := [.ref a, .long (py - y0).toInt64]) rfl (fun ls hl => ?_)
  refine x_get C hP nb he 4 (v := .int h) rfl rfl (by decide) t_184 (fun _ z => z) d_Body_has_44 ?_
  refine x_ro (x_cSN C (c_SP_dx l G w h) t_210 t_1 t_208 t_209 hd_SP_dx blind_Pro (pre_ro C hP va_S.rf) (As := [.int h]) (rest := [.long (py - y0).toInt64]) rfl hl.1 rfl rfl rfl ⟨Nat.le_of_ble_eq_true rfl, Nat.le_of_ble_eq_true rfl⟩ (Nat.le_of_ble_eq_true rfl) ⟨Nat.zero_le _, Nat.zero_le _⟩ d_Body_has_47) ?_
  refine x_sx C b_Body_has_50_54 hl (L' := [(7, .long (((px - x0).toInt64 * (p_dx h).toInt64) + ((py - y0).toInt64 * (p_dy h).toInt64))), (5, .long (py - y0).toInt64), (3, .long (px - x0).toInt64), (0, .ref a), (1, .int px), (2, .int py)]) (st' := [.ref a, .long (px - x0).toInt64, .long ((py - y0).toInt64 * (p_dx h).toInt64)]) rfl (fun ls hl => ?_)
  refine x_get C hP nb he 4 (v := .int h) rfl rfl (by decide) t_184 (fun _ z => z) d_Body_has_54 ?_
  refine x_ro (x_cSN C (c_SP_dy l G w h) t_215 t_1 t_213 t_214 hd_SP_dy blind_Pro (pre_ro C hP va_S.rf) (As := [.int h]) (rest := [.long (px - x0).toInt64, .long ((py - y0).toInt64 * (p_dx h).toInt64)]) rfl hl.1 rfl rfl rfl ⟨Nat.le_of_ble_eq_true rfl, Nat.le_of_ble_eq_true rfl⟩ (Nat.le_of_ble_eq_true rfl) ⟨Nat.zero_le _, Nat.zero_le _⟩ d_Body_has_57) ?_
  refine x_sx C b_Body_has_60_65 hl (L' := [(9, .long (((py - y0).toInt64 * (p_dx h).toInt64) - ((px - x0).toInt64 * (p_dy h).toInt64))), (7, .long (((px - x0).toInt64 * (p_dx h).toInt64) + ((py - y0).toInt64 * (p_dy h).toInt64))), (5, .long (py - y0).toInt64), (3, .long (px - x0).toInt64), (0, .ref a), (1, .int px), (2, .int py)]) (st' := []) rfl (fun ls hl => ?_)
  refine lv_ldc2 C.1 C.2.1 C.2.2.2.1 (C.ts t_235) d_Body_has_65 ?_
  refine x_sx C b_Body_has_68_73 hl (L' := [(11, .long 16777216), (9, .long (((py - y0).toInt64 * (p_dx h).toInt64) - ((px - x0).toInt64 * (p_dy h).toInt64))), (7, .long (((px - x0).toInt64 * (p_dx h).toInt64) + ((py - y0).toInt64 * (p_dy h).toInt64))), (5, .long (py - y0).toInt64), (3, .long (px - x0).toInt64), (0, .ref a), (1, .int px), (2, .int py)]) (st' := [.ref a, .long (((px - x0).toInt64 * (p_dx h).toInt64) + ((py - y0).toInt64 * (p_dy h).toInt64))]) rfl (fun ls hl => ?_)
  refine x_get C hP nb he 0 (v := .ref sa) rfl rfl (by decide) t_173 (fun _ z => z) d_Body_has_73 ?_
  refine x_get C hP ns hs 3 (v := .int re) rfl rfl (by decide) t_466 (fun _ z => z) d_Body_has_76 ?_
  refine x_sx C b_Body_has_79_85 hl (L' := [(11, .long 16777216), (9, .long (((py - y0).toInt64 * (p_dx h).toInt64) - ((px - x0).toInt64 * (p_dy h).toInt64))), (7, .long (((px - x0).toInt64 * (p_dx h).toInt64) + ((py - y0).toInt64 * (p_dy h).toInt64))), (5, .long (py - y0).toInt64), (3, .long (px - x0).toInt64), (0, .ref a), (1, .int px), (2, .int py)]) (st' := [.int (lg_cmp (((px - x0).toInt64 * (p_dx h).toInt64) + ((py - y0).toInt64 * (p_dy h).toInt64)) ((-re).toInt64 * 16777216))]) rfl (fun ls hl => ?_)
  refine lv_if_lt (tgt := 144) C.1 C.2.1 d_Body_has_85 (by decide) (fun h1 => ?_) (fun h1 => ?_)
  · refine x_sx C b_Body_has_144_145 hl (L' := [(11, .long 16777216), (9, .long (((py - y0).toInt64 * (p_dx h).toInt64) - ((px - x0).toInt64 * (p_dy h).toInt64))), (7, .long (((px - x0).toInt64 * (p_dx h).toInt64) + ((py - y0).toInt64 * (p_dy h).toInt64))), (5, .long (py - y0).toInt64), (3, .long (px - x0).toInt64), (0, .ref a), (1, .int px), (2, .int py)]) (st' := [.int 0]) rfl (fun ls hl => ?_)
    exact x_zro C hr rfl (by unfold p_cov; simp only [lgl, lgg, Decidable.not_not] at h1; simp [*]) d_Body_has_145
  · refine x_sx C b_Body_has_88_91 hl (L' := [(11, .long 16777216), (9, .long (((py - y0).toInt64 * (p_dx h).toInt64) - ((px - x0).toInt64 * (p_dy h).toInt64))), (7, .long (((px - x0).toInt64 * (p_dx h).toInt64) + ((py - y0).toInt64 * (p_dy h).toInt64))), (5, .long (py - y0).toInt64), (3, .long (px - x0).toInt64), (0, .ref a), (1, .int px), (2, .int py)]) (st' := [.ref a, .long (((px - x0).toInt64 * (p_dx h).toInt64) + ((py - y0).toInt64 * (p_dy h).toInt64))]) rfl (fun ls hl => ?_)
    refine x_get C hP nb he 0 (v := .ref sa) rfl rfl (by decide) t_173 (fun _ z => z) d_Body_has_91 ?_
    refine x_get C hP ns hs 2 (v := .int fr) rfl rfl (by decide) t_462 (fun _ z => z) d_Body_has_94 ?_
    refine x_sx C b_Body_has_97_102 hl (L' := [(11, .long 16777216), (9, .long (((py - y0).toInt64 * (p_dx h).toInt64) - ((px - x0).toInt64 * (p_dy h).toInt64))), (7, .long (((px - x0).toInt64 * (p_dx h).toInt64) + ((py - y0).toInt64 * (p_dy h).toInt64))), (5, .long (py - y0).toInt64), (3, .long (px - x0).toInt64), (0, .ref a), (1, .int px), (2, .int py)]) (st' := [.int (lg_cmp (((px - x0).toInt64 * (p_dx h).toInt64) + ((py - y0).toInt64 * (p_dy h).toInt64)) (fr.toInt64 * 16777216))]) rfl (fun ls hl => ?_)
    refine lv_if_gt (tgt := 144) C.1 C.2.1 d_Body_has_102 (by decide) (fun h2 => ?_) (fun h2 => ?_)
    · refine x_sx C b_Body_has_144_145 hl (L' := [(11, .long 16777216), (9, .long (((py - y0).toInt64 * (p_dx h).toInt64) - ((px - x0).toInt64 * (p_dy h).toInt64))), (7, .long (((px - x0).toInt64 * (p_dx h).toInt64) + ((py - y0).toInt64 * (p_dy h).toInt64))), (5, .long (py - y0).toInt64), (3, .long (px - x0).toInt64), (0, .ref a), (1, .int px), (2, .int py)]) (st' := [.int 0]) rfl (fun ls hl => ?_)
      exact x_zro C hr rfl (by unfold p_cov; simp only [lgl, lgg, Decidable.not_not] at h1 h2; simp [*]) d_Body_has_145
    · refine x_sx C b_Body_has_105_108 hl (L' := [(11, .long 16777216), (9, .long (((py - y0).toInt64 * (p_dx h).toInt64) - ((px - x0).toInt64 * (p_dy h).toInt64))), (7, .long (((px - x0).toInt64 * (p_dx h).toInt64) + ((py - y0).toInt64 * (p_dy h).toInt64))), (5, .long (py - y0).toInt64), (3, .long (px - x0).toInt64), (0, .ref a), (1, .int px), (2, .int py)]) (st' := [.ref a, .long (((py - y0).toInt64 * (p_dx h).toInt64) - ((px - x0).toInt64 * (p_dy h).toInt64))]) rfl (fun ls hl => ?_)
      refine x_get C hP nb he 0 (v := .ref sa) rfl rfl (by decide) t_173 (fun _ z => z) d_Body_has_108 ?_
      refine x_get C hP ns hs 4 (v := .int ha) rfl rfl (by decide) t_470 (fun _ z => z) d_Body_has_111 ?_
      refine x_sx C b_Body_has_114_120 hl (L' := [(11, .long 16777216), (9, .long (((py - y0).toInt64 * (p_dx h).toInt64) - ((px - x0).toInt64 * (p_dy h).toInt64))), (7, .long (((px - x0).toInt64 * (p_dx h).toInt64) + ((py - y0).toInt64 * (p_dy h).toInt64))), (5, .long (py - y0).toInt64), (3, .long (px - x0).toInt64), (0, .ref a), (1, .int px), (2, .int py)]) (st' := [.int (lg_cmp (((py - y0).toInt64 * (p_dx h).toInt64) - ((px - x0).toInt64 * (p_dy h).toInt64)) ((-ha).toInt64 * 16777216))]) rfl (fun ls hl => ?_)
      refine lv_if_lt (tgt := 144) C.1 C.2.1 d_Body_has_120 (by decide) (fun h3 => ?_) (fun h3 => ?_)
      · refine x_sx C b_Body_has_144_145 hl (L' := [(11, .long 16777216), (9, .long (((py - y0).toInt64 * (p_dx h).toInt64) - ((px - x0).toInt64 * (p_dy h).toInt64))), (7, .long (((px - x0).toInt64 * (p_dx h).toInt64) + ((py - y0).toInt64 * (p_dy h).toInt64))), (5, .long (py - y0).toInt64), (3, .long (px - x0).toInt64), (0, .ref a), (1, .int px), (2, .int py)]) (st' := [.int 0]) rfl (fun ls hl => ?_)
        exact x_zro C hr rfl (by unfold p_cov; simp only [lgl, lgg, Decidable.not_not] at h1 h2 h3; simp [*]) d_Body_has_145
      · refine x_sx C b_Body_has_123_126 hl (L' := [(11, .long 16777216), (9, .long (((py - y0).toInt64 * (p_dx h).toInt64) - ((px - x0).toInt64 * (p_dy h).toInt64))), (7, .long (((px - x0).toInt64 * (p_dx h).toInt64) + ((py - y0).toInt64 * (p_dy h).toInt64))), (5, .long (py - y0).toInt64), (3, .long (px - x0).toInt64), (0, .ref a), (1, .int px), (2, .int py)]) (st' := [.ref a, .long (((py - y0).toInt64 * (p_dx h).toInt64) - ((px - x0).toInt64 * (p_dy h).toInt64))]) rfl (fun ls hl => ?_)
        refine x_get C hP nb he 0 (v := .ref sa) rfl rfl (by decide) t_173 (fun _ z => z) d_Body_has_126 ?_
        refine x_get C hP ns hs 4 (v := .int ha) rfl rfl (by decide) t_470 (fun _ z => z) d_Body_has_129 ?_
        refine x_sx C b_Body_has_132_137 hl (L' := [(11, .long 16777216), (9, .long (((py - y0).toInt64 * (p_dx h).toInt64) - ((px - x0).toInt64 * (p_dy h).toInt64))), (7, .long (((px - x0).toInt64 * (p_dx h).toInt64) + ((py - y0).toInt64 * (p_dy h).toInt64))), (5, .long (py - y0).toInt64), (3, .long (px - x0).toInt64), (0, .ref a), (1, .int px), (2, .int py)]) (st' := [.int (lg_cmp (((py - y0).toInt64 * (p_dx h).toInt64) - ((px - x0).toInt64 * (p_dy h).toInt64)) (ha.toInt64 * 16777216))]) rfl (fun ls hl => ?_)
        refine lv_if_gt (tgt := 144) C.1 C.2.1 d_Body_has_137 (by decide) (fun h4 => ?_) (fun h4 => ?_)
        · refine x_sx C b_Body_has_144_145 hl (L' := [(11, .long 16777216), (9, .long (((py - y0).toInt64 * (p_dx h).toInt64) - ((px - x0).toInt64 * (p_dy h).toInt64))), (7, .long (((px - x0).toInt64 * (p_dx h).toInt64) + ((py - y0).toInt64 * (p_dy h).toInt64))), (5, .long (py - y0).toInt64), (3, .long (px - x0).toInt64), (0, .ref a), (1, .int px), (2, .int py)]) (st' := [.int 0]) rfl (fun ls hl => ?_)
          exact x_zro C hr rfl (by unfold p_cov; simp only [lgl, lgg, Decidable.not_not] at h1 h2 h3 h4; simp [*]) d_Body_has_145
        · refine x_sx C b_Body_has_140_141 hl (L' := [(11, .long 16777216), (9, .long (((py - y0).toInt64 * (p_dx h).toInt64) - ((px - x0).toInt64 * (p_dy h).toInt64))), (7, .long (((px - x0).toInt64 * (p_dx h).toInt64) + ((py - y0).toInt64 * (p_dy h).toInt64))), (5, .long (py - y0).toInt64), (3, .long (px - x0).toInt64), (0, .ref a), (1, .int px), (2, .int py)]) (st' := [.int 1]) rfl (fun ls hl => ?_)
          refine x_goto (tgt := 145) C d_Body_has_141 (by decide) ?_
          exact x_zro C hr rfl (by unfold p_cov; simp only [lgl, lgg, Decidable.not_not] at h1 h2 h3 h4; simp [*]) d_Body_has_145
theorem hd_Body_has : hdP y_Body_has 2 := ⟨by decide +kernel, by decide +kernel, by decide +kernel⟩
theorem b_Body_askew_0_1 : decs prog_2_method_2_code [(.aload_n 0, 1)] 0 1 = true := by decide +kernel
theorem d_Body_askew_1 : decode prog_2_method_2_code 1 = .ok (.getfield 15, 3) := by decide +kernel
theorem d_Body_askew_4 : decode prog_2_method_2_code 4 = .ok (.ifnonnull 7, 3) := by decide +kernel
theorem b_Body_askew_7_8 : decs prog_2_method_2_code [(.iconst 0, 1)] 7 8 = true := by decide +kernel
theorem d_Body_askew_8 : decode prog_2_method_2_code 8 = .ok (.goto 24, 3) := by decide +kernel
theorem d_Body_askew_32 : decode prog_2_method_2_code 32 = .ok (.ireturn, 1) := by decide +kernel
set_option maxRecDepth 100000 in
theorem c_Body_askew_0 (l : Launch) (G : GG) (w : WF) (nb a : Nat) (sv : Value) (x0 y0 h rs wo : Int32) (he : w nb = some (a, .inr (2, [sv, .null, .int x0, .int y0, .int h, .int rs, .int wo]))) : Met l y_Body_askew (Cond.code y_Body_askew prog_2_method_2_code 1 (some FieldType.int) :: wt) { frames := 0, cells := 0, slots := 0, locals := 0 } (Pro G w [.ref a]) (Qro (.int 0)) 0 0 (fun _ => False) := by
  refine ro_of (by decide +kernel) (Nat.le_of_ble_eq_true rfl) ?_
  intro p e s m below meth c ls C hP hr hl
  have hl : lv_has ls 1 [(0, .ref a)] := hl
  refine x_sx C b_Body_askew_0_1 hl (L' := [(0, .ref a)]) (st' := [.ref a]) rfl (fun ls hl => ?_)
  refine x_get C hP nb he 1 (v := .null) rfl rfl (by decide) t_176 (fun _ z => z) d_Body_askew_1 ?_
  refine lv_ifnonnullN C.1 C.2.1 d_Body_askew_4 ?_
  refine x_sx C b_Body_askew_7_8 hl (L' := [(0, .ref a)]) (st' := [.int 0]) rfl (fun ls hl => ?_)
  refine x_goto (tgt := 32) C d_Body_askew_8 (by decide) ?_
  exact x_iro C hr rfl d_Body_askew_32
theorem hd_Body_askew : hdP y_Body_askew 0 := ⟨by decide +kernel, by decide +kernel, by decide +kernel⟩
theorem b_Body_askew_11_12 : decs prog_2_method_2_code [(.aload_n 0, 1)] 11 12 = true := by decide +kernel
theorem d_Body_askew_12 : decode prog_2_method_2_code 12 = .ok (.getfield 15, 3) := by decide +kernel
theorem d_Body_askew_15 : decode prog_2_method_2_code 15 = .ok (.getfield 19, 3) := by decide +kernel
theorem b_Body_askew_18_19 : decs prog_2_method_2_code [(.aload_n 0, 1)] 18 19 = true := by decide +kernel
theorem d_Body_askew_19 : decode prog_2_method_2_code 19 = .ok (.getfield 19, 3) := by decide +kernel
theorem b_Body_askew_22_32 : decs prog_2_method_2_code [(.isub, 1), (.bipush 32, 2), (.iadd, 1), (.bipush 63, 2), (.iand, 1), (.bipush 32, 2), (.isub, 1)] 22 32 = true := by decide +kernel
set_option maxRecDepth 100000 in
theorem c_Body_askew (l : Launch) (G : GG) (w : WF) (nb nc a b sa sb : Nat) (bv : Value) (x0 y0 h rs wo x1 y1 h1 rs1 wo1 : Int32) (he : w nb = some (a, .inr (2, [.ref sa, .ref b, .int x0, .int y0, .int h, .int rs, .int wo]))) (hb : w nc = some (b, .inr (2, [.ref sb, bv, .int x1, .int y1, .int h1, .int rs1, .int wo1]))) : Met l y_Body_askew (Cond.code y_Body_askew prog_2_method_2_code 1 (some FieldType.int) :: wt) { frames := 0, cells := 0, slots := 0, locals := 0 } (Pro G w [.ref a]) (Qro (.int (p_wr (h1 - h)))) 0 0 (fun _ => False) := by
  refine ro_of (by decide +kernel) (Nat.le_of_ble_eq_true rfl) ?_
  intro p e s m below meth c ls C hP hr hl
  have hl : lv_has ls 1 [(0, .ref a)] := hl
  refine x_sx C b_Body_askew_0_1 hl (L' := [(0, .ref a)]) (st' := [.ref a]) rfl (fun ls hl => ?_)
  refine x_get C hP nb he 1 (v := .ref b) rfl rfl (by decide) t_176 (fun _ z => z) d_Body_askew_1 ?_
  refine lv_ifnonnull (tgt := 11) C.1 C.2.1 d_Body_askew_4 (by decide) ?_
  refine x_sx C b_Body_askew_11_12 hl (L' := [(0, .ref a)]) (st' := [.ref a]) rfl (fun ls hl => ?_)
  refine x_get C hP nb he 1 (v := .ref b) rfl rfl (by decide) t_176 (fun _ z => z) d_Body_askew_12 ?_
  refine x_get C hP nc hb 4 (v := .int h1) rfl rfl (by decide) t_184 (fun _ z => z) d_Body_askew_15 ?_
  refine x_sx C b_Body_askew_18_19 hl (L' := [(0, .ref a)]) (st' := [.ref a, .int h1]) rfl (fun ls hl => ?_)
  refine x_get C hP nb he 4 (v := .int h) rfl rfl (by decide) t_184 (fun _ z => z) d_Body_askew_19 ?_
  refine x_sx C b_Body_askew_22_32 hl (L' := [(0, .ref a)]) (st' := [.int ((((h1 - h) + 32) &&& 63) - 32)]) rfl (fun ls hl => ?_)
  exact x_iro C hr rfl d_Body_askew_32
theorem b_Body_follow_0_2 : decs prog_2_method_3_code [(.aload_n 0, 1), (.aload_n 0, 1)] 0 2 = true := by decide +kernel
theorem d_Body_follow_2 : decode prog_2_method_3_code 2 = .ok (.getfield 15, 3) := by decide +kernel
theorem d_Body_follow_5 : decode prog_2_method_3_code 5 = .ok (.getfield 23, 3) := by decide +kernel
theorem b_Body_follow_8_9 : decs prog_2_method_3_code [(.aload_n 0, 1)] 8 9 = true := by decide +kernel
theorem d_Body_follow_9 : decode prog_2_method_3_code 9 = .ok (.getfield 15, 3) := by decide +kernel
theorem d_Body_follow_12 : decode prog_2_method_3_code 12 = .ok (.getfield 9, 3) := by decide +kernel
theorem d_Body_follow_15 : decode prog_2_method_3_code 15 = .ok (.getfield 26, 3) := by decide +kernel
theorem b_Body_follow_18_19 : decs prog_2_method_3_code [(.aload_n 0, 1)] 18 19 = true := by decide +kernel
theorem d_Body_follow_19 : decode prog_2_method_3_code 19 = .ok (.getfield 15, 3) := by decide +kernel
theorem d_Body_follow_22 : decode prog_2_method_3_code 22 = .ok (.getfield 19, 3) := by decide +kernel
theorem d_Body_follow_25 : decode prog_2_method_3_code 25 = .ok (.invokestatic 31, 3) := by decide +kernel
theorem b_Body_follow_28_31 : decs prog_2_method_3_code [(.imul, 1), (.isub, 1), (.aload_n 0, 1)] 28 31 = true := by decide +kernel
theorem d_Body_follow_31 : decode prog_2_method_3_code 31 = .ok (.getfield 9, 3) := by decide +kernel
theorem d_Body_follow_34 : decode prog_2_method_3_code 34 = .ok (.getfield 35, 3) := by decide +kernel
theorem b_Body_follow_37_38 : decs prog_2_method_3_code [(.aload_n 0, 1)] 37 38 = true := by decide +kernel
theorem d_Body_follow_38 : decode prog_2_method_3_code 38 = .ok (.getfield 19, 3) := by decide +kernel
theorem d_Body_follow_41 : decode prog_2_method_3_code 41 = .ok (.invokestatic 31, 3) := by decide +kernel
theorem b_Body_follow_44_46 : decs prog_2_method_3_code [(.imul, 1), (.isub, 1)] 44 46 = true := by decide +kernel
theorem d_Body_follow_46 : decode prog_2_method_3_code 46 = .ok (.putfield 23, 3) := by decide +kernel
theorem b_Body_follow_49_51 : decs prog_2_method_3_code [(.aload_n 0, 1), (.aload_n 0, 1)] 49 51 = true := by decide +kernel
theorem d_Body_follow_51 : decode prog_2_method_3_code 51 = .ok (.getfield 15, 3) := by decide +kernel
theorem d_Body_follow_54 : decode prog_2_method_3_code 54 = .ok (.getfield 38, 3) := by decide +kernel
theorem b_Body_follow_57_58 : decs prog_2_method_3_code [(.aload_n 0, 1)] 57 58 = true := by decide +kernel
theorem d_Body_follow_58 : decode prog_2_method_3_code 58 = .ok (.getfield 15, 3) := by decide +kernel
theorem d_Body_follow_61 : decode prog_2_method_3_code 61 = .ok (.getfield 9, 3) := by decide +kernel
theorem d_Body_follow_64 : decode prog_2_method_3_code 64 = .ok (.getfield 26, 3) := by decide +kernel
theorem b_Body_follow_67_68 : decs prog_2_method_3_code [(.aload_n 0, 1)] 67 68 = true := by decide +kernel
theorem d_Body_follow_68 : decode prog_2_method_3_code 68 = .ok (.getfield 15, 3) := by decide +kernel
theorem d_Body_follow_71 : decode prog_2_method_3_code 71 = .ok (.getfield 19, 3) := by decide +kernel
theorem d_Body_follow_74 : decode prog_2_method_3_code 74 = .ok (.invokestatic 41, 3) := by decide +kernel
theorem b_Body_follow_77_80 : decs prog_2_method_3_code [(.imul, 1), (.isub, 1), (.aload_n 0, 1)] 77 80 = true := by decide +kernel
theorem d_Body_follow_80 : decode prog_2_method_3_code 80 = .ok (.getfield 9, 3) := by decide +kernel
theorem d_Body_follow_83 : decode prog_2_method_3_code 83 = .ok (.getfield 35, 3) := by decide +kernel
theorem b_Body_follow_86_87 : decs prog_2_method_3_code [(.aload_n 0, 1)] 86 87 = true := by decide +kernel
theorem d_Body_follow_87 : decode prog_2_method_3_code 87 = .ok (.getfield 19, 3) := by decide +kernel
theorem d_Body_follow_90 : decode prog_2_method_3_code 90 = .ok (.invokestatic 41, 3) := by decide +kernel
theorem b_Body_follow_93_95 : decs prog_2_method_3_code [(.imul, 1), (.isub, 1)] 93 95 = true := by decide +kernel
theorem d_Body_follow_95 : decode prog_2_method_3_code 95 = .ok (.putfield 38, 3) := by decide +kernel
theorem d_Body_follow_98 : decode prog_2_method_3_code 98 = .ok (.return_, 1) := by decide +kernel
set_option maxRecDepth 100000 in
set_option maxHeartbeats 4000000 in
theorem c_Body_follow (l : Launch) (G : GG) (A : Nat → Prop) (w : WF) (nb nc ns nsb a b sa sb : Nat) (bv : Value) (x0 y0 h rs wo x1 y1 h1 rs1 wo1 ln hi fr re ha ln1 hi1 fr1 re1 ha1 : Int32) (d1 : nb ≠ nc) (d2 : nb ≠ ns) (d3 : nb ≠ nsb) (he : w nb = some (a, .inr (2, [.ref sa, .ref b, .int x0, .int y0, .int h, .int rs, .int wo]))) (hb : w nc = some (b, .inr (2, [.ref sb, bv, .int x1, .int y1, .int h1, .int rs1, .int wo1]))) (hs : w ns = some (sa, .inr (1, [.int ln, .int hi, .int fr, .int re, .int ha]))) (hsb : w nsb = some (sb, .inr (1, [.int ln1, .int hi1, .int fr1, .int re1, .int ha1]))) : Met l y_Body_follow (Cond.code y_Body_follow prog_2_method_3_code 1 none :: wt) { frames := 2, cells := 0, slots := 0, locals := 42 } (Pre G A w (fun _ => True) [.ref a]) (Qx0 (X := Unit) A (fun _ _ => True) G (fun _ => (va_up w nb (some (a, .inr (2, [.ref sa, .ref b, .int ((x1 - hi1 * p_dx h1) - ln * p_dx h), .int ((y1 - hi1 * p_dy h1) - ln * p_dy h), .int h, .int rs, .int wo])))))) 0 0 A := by
  refine mt_of (by decide) (Nat.le_of_ble_eq_true rfl) ?_
  intro p e s m below meth c ls C hH hA hE hr hmn hl
  have hl : lv_has ls 1 [(0, .ref a)] := hl
  refine x_sx C b_Body_follow_0_2 hl (L' := [(0, .ref a)]) (st' := [.ref a, .ref a]) rfl (fun ls hl => ?_)
  refine x_get C hH.1 nb he 1 (v := .ref b) rfl rfl (by decide) t_176 (fun _ z => z) d_Body_follow_2 ?_
  refine x_get C hH.1 nc hb 2 (v := .int x1) rfl rfl (by decide) t_178 (fun _ z => z) d_Body_follow_5 ?_
  refine x_sx C b_Body_follow_8_9 hl (L' := [(0, .ref a)]) (st' := [.ref a, .int x1, .ref a]) rfl (fun ls hl => ?_)
  refine x_get C hH.1 nb he 1 (v := .ref b) rfl rfl (by decide) t_176 (fun _ z => z) d_Body_follow_9 ?_
  refine x_get C hH.1 nc hb 0 (v := .ref sb) rfl rfl (by decide) t_173 (fun _ z => z) d_Body_follow_12 ?_
  refine x_get C hH.1 nsb hsb 1 (v := .int hi1) rfl rfl (by decide) t_459 (fun _ z => z) d_Body_follow_15 ?_
  refine x_sx C b_Body_follow_18_19 hl (L' := [(0, .ref a)]) (st' := [.ref a, .int hi1, .int x1, .ref a]) rfl (fun ls hl => ?_)
  refine x_get C hH.1 nb he 1 (v := .ref b) rfl rfl (by decide) t_176 (fun _ z => z) d_Body_follow_19 ?_
  refine x_get C hH.1 nc hb 4 (v := .int h1) rfl rfl (by decide) t_184 (fun _ z => z) d_Body_follow_22 ?_
  refine x_ro (x_cSN C (c_SP_dx l G w h1) t_210 t_1 t_208 t_209 hd_SP_dx blind_Pro (pre_ro C hH.1 hH.2.2) (As := [.int h1]) (rest := [.int hi1, .int x1, .ref a]) rfl hl.1 rfl rfl rfl ⟨Nat.le_of_ble_eq_true rfl, Nat.le_of_ble_eq_true rfl⟩ (Nat.le_of_ble_eq_true rfl) ⟨Nat.zero_le _, Nat.zero_le _⟩ d_Body_follow_25) ?_
  refine x_sx C b_Body_follow_28_31 hl (L' := [(0, .ref a)]) (st' := [.ref a, .int (x1 - (hi1 * (p_dx h1))), .ref a]) rfl (fun ls hl => ?_)
  refine x_get C hH.1 nb he 0 (v := .ref sa) rfl rfl (by decide) t_173 (fun _ z => z) d_Body_follow_31 ?_
  refine x_get C hH.1 ns hs 0 (v := .int ln) rfl rfl (by decide) t_457 (fun _ z => z) d_Body_follow_34 ?_
  refine x_sx C b_Body_follow_37_38 hl (L' := [(0, .ref a)]) (st' := [.ref a, .int ln, .int (x1 - (hi1 * (p_dx h1))), .ref a]) rfl (fun ls hl => ?_)
  refine x_get C hH.1 nb he 4 (v := .int h) rfl rfl (by decide) t_184 (fun _ z => z) d_Body_follow_38 ?_
  refine x_ro (x_cSN C (c_SP_dx l G w h) t_210 t_1 t_208 t_209 hd_SP_dx blind_Pro (pre_ro C hH.1 hH.2.2) (As := [.int h]) (rest := [.int ln, .int (x1 - (hi1 * (p_dx h1))), .ref a]) rfl hl.1 rfl rfl rfl ⟨Nat.le_of_ble_eq_true rfl, Nat.le_of_ble_eq_true rfl⟩ (Nat.le_of_ble_eq_true rfl) ⟨Nat.zero_le _, Nat.zero_le _⟩ d_Body_follow_41) ?_
  refine x_sx C b_Body_follow_44_46 hl (L' := [(0, .ref a)]) (st' := [.int ((x1 - (hi1 * (p_dx h1))) - (ln * (p_dx h))), .ref a]) rfl (fun ls hl => ?_)
  refine x_put C hH nb he 2 (v := .int ((x1 - (hi1 * (p_dx h1))) - (ln * (p_dx h)))) (by simp) rfl (by decide) t_178 (fun _ z => z) rfl rfl rfl d_Body_follow_46 (fun H locs hH => ?_)
  have hH : Hw G A s (va_up w nb (some (a, .inr (2, [.ref sa, .ref b, .int ((x1 - (hi1 * (p_dx h1))) - (ln * (p_dx h))), .int y0, .int h, .int rs, .int wo])))) H _ := hH
  have g1 : (va_up w nb (some (a, .inr (2, [.ref sa, .ref b, .int ((x1 - (hi1 * (p_dx h1))) - (ln * (p_dx h))), .int y0, .int h, .int rs, .int wo])))) nb = (some (a, .inr (2, [.ref sa, .ref b, .int ((x1 - (hi1 * (p_dx h1))) - (ln * (p_dx h))), .int y0, .int h, .int rs, .int wo]))) := up_s _ _ _
  have g2 : (va_up w nb (some (a, .inr (2, [.ref sa, .ref b, .int ((x1 - (hi1 * (p_dx h1))) - (ln * (p_dx h))), .int y0, .int h, .int rs, .int wo])))) nc = (some (b, .inr (2, [.ref sb, bv, .int x1, .int y1, .int h1, .int rs1, .int wo1]))) := (up_n _ _ (by omega)).trans hb
  have g3 : (va_up w nb (some (a, .inr (2, [.ref sa, .ref b, .int ((x1 - (hi1 * (p_dx h1))) - (ln * (p_dx h))), .int y0, .int h, .int rs, .int wo])))) ns = (some (sa, .inr (1, [.int ln, .int hi, .int fr, .int re, .int ha]))) := (up_n _ _ (by omega)).trans hs
  have g4 : (va_up w nb (some (a, .inr (2, [.ref sa, .ref b, .int ((x1 - (hi1 * (p_dx h1))) - (ln * (p_dx h))), .int y0, .int h, .int rs, .int wo])))) nsb = (some (sb, .inr (1, [.int ln1, .int hi1, .int fr1, .int re1, .int ha1]))) := (up_n _ _ (by omega)).trans hsb
  refine x_sx C b_Body_follow_49_51 hl (L' := [(0, .ref a)]) (st' := [.ref a, .ref a]) rfl (fun ls hl => ?_)
  refine x_get C hH.1 nb g1 1 (v := .ref b) rfl rfl (by decide) t_176 (fun _ z => z) d_Body_follow_51 ?_
  refine x_get C hH.1 nc g2 3 (v := .int y1) rfl rfl (by decide) t_181 (fun _ z => z) d_Body_follow_54 ?_
  refine x_sx C b_Body_follow_57_58 hl (L' := [(0, .ref a)]) (st' := [.ref a, .int y1, .ref a]) rfl (fun ls hl => ?_)
  refine x_get C hH.1 nb g1 1 (v := .ref b) rfl rfl (by decide) t_176 (fun _ z => z) d_Body_follow_58 ?_
  refine x_get C hH.1 nc g2 0 (v := .ref sb) rfl rfl (by decide) t_173 (fun _ z => z) d_Body_follow_61 ?_
  refine x_get C hH.1 nsb g4 1 (v := .int hi1) rfl rfl (by decide) t_459 (fun _ z => z) d_Body_follow_64 ?_
  refine x_sx C b_Body_follow_67_68 hl (L' := [(0, .ref a)]) (st' := [.ref a, .int hi1, .int y1, .ref a]) rfl (fun ls hl => ?_)
  refine x_get C hH.1 nb g1 1 (v := .ref b) rfl rfl (by decide) t_176 (fun _ z => z) d_Body_follow_68 ?_
  refine x_get C hH.1 nc g2 4 (v := .int h1) rfl rfl (by decide) t_184 (fun _ z => z) d_Body_follow_71 ?_
  refine x_ro (x_cSN C (c_SP_dy l G (va_up w nb (some (a, .inr (2, [.ref sa, .ref b, .int ((x1 - (hi1 * (p_dx h1))) - (ln * (p_dx h))), .int y0, .int h, .int rs, .int wo])))) h1) t_215 t_1 t_213 t_214 hd_SP_dy blind_Pro (pre_ro C hH.1 hH.2.2) (As := [.int h1]) (rest := [.int hi1, .int y1, .ref a]) rfl hl.1 rfl rfl rfl ⟨Nat.le_of_ble_eq_true rfl, Nat.le_of_ble_eq_true rfl⟩ (Nat.le_of_ble_eq_true rfl) ⟨Nat.zero_le _, Nat.zero_le _⟩ d_Body_follow_74) ?_
  refine x_sx C b_Body_follow_77_80 hl (L' := [(0, .ref a)]) (st' := [.ref a, .int (y1 - (hi1 * (p_dy h1))), .ref a]) rfl (fun ls hl => ?_)
  refine x_get C hH.1 nb g1 0 (v := .ref sa) rfl rfl (by decide) t_173 (fun _ z => z) d_Body_follow_80 ?_
  refine x_get C hH.1 ns g3 0 (v := .int ln) rfl rfl (by decide) t_457 (fun _ z => z) d_Body_follow_83 ?_
  refine x_sx C b_Body_follow_86_87 hl (L' := [(0, .ref a)]) (st' := [.ref a, .int ln, .int (y1 - (hi1 * (p_dy h1))), .ref a]) rfl (fun ls hl => ?_)
  refine x_get C hH.1 nb g1 4 (v := .int h) rfl rfl (by decide) t_184 (fun _ z => z) d_Body_follow_87 ?_
  refine x_ro (x_cSN C (c_SP_dy l G (va_up w nb (some (a, .inr (2, [.ref sa, .ref b, .int ((x1 - (hi1 * (p_dx h1))) - (ln * (p_dx h))), .int y0, .int h, .int rs, .int wo])))) h) t_215 t_1 t_213 t_214 hd_SP_dy blind_Pro (pre_ro C hH.1 hH.2.2) (As := [.int h]) (rest := [.int ln, .int (y1 - (hi1 * (p_dy h1))), .ref a]) rfl hl.1 rfl rfl rfl ⟨Nat.le_of_ble_eq_true rfl, Nat.le_of_ble_eq_true rfl⟩ (Nat.le_of_ble_eq_true rfl) ⟨Nat.zero_le _, Nat.zero_le _⟩ d_Body_follow_90) ?_
  refine x_sx C b_Body_follow_93_95 hl (L' := [(0, .ref a)]) (st' := [.int ((y1 - (hi1 * (p_dy h1))) - (ln * (p_dy h))), .ref a]) rfl (fun ls hl => ?_)
  refine x_put C hH nb g1 3 (v := .int ((y1 - (hi1 * (p_dy h1))) - (ln * (p_dy h)))) (by simp) rfl (by decide) t_181 (fun _ z => z) rfl rfl rfl d_Body_follow_95 (fun H locs hH => ?_)
  have hH : Hw G A s (va_up (va_up w nb (some (a, .inr (2, [.ref sa, .ref b, .int ((x1 - (hi1 * (p_dx h1))) - (ln * (p_dx h))), .int y0, .int h, .int rs, .int wo])))) nb (some (a, .inr (2, [.ref sa, .ref b, .int ((x1 - (hi1 * (p_dx h1))) - (ln * (p_dx h))), .int ((y1 - (hi1 * (p_dy h1))) - (ln * (p_dy h))), .int h, .int rs, .int wo])))) H _ := hH
  have g5 : (va_up (va_up w nb (some (a, .inr (2, [.ref sa, .ref b, .int ((x1 - (hi1 * (p_dx h1))) - (ln * (p_dx h))), .int y0, .int h, .int rs, .int wo])))) nb (some (a, .inr (2, [.ref sa, .ref b, .int ((x1 - (hi1 * (p_dx h1))) - (ln * (p_dx h))), .int ((y1 - (hi1 * (p_dy h1))) - (ln * (p_dy h))), .int h, .int rs, .int wo])))) nb = (some (a, .inr (2, [.ref sa, .ref b, .int ((x1 - (hi1 * (p_dx h1))) - (ln * (p_dx h))), .int ((y1 - (hi1 * (p_dy h1))) - (ln * (p_dy h))), .int h, .int rs, .int wo]))) := up_s _ _ _
  have g6 : (va_up (va_up w nb (some (a, .inr (2, [.ref sa, .ref b, .int ((x1 - (hi1 * (p_dx h1))) - (ln * (p_dx h))), .int y0, .int h, .int rs, .int wo])))) nb (some (a, .inr (2, [.ref sa, .ref b, .int ((x1 - (hi1 * (p_dx h1))) - (ln * (p_dx h))), .int ((y1 - (hi1 * (p_dy h1))) - (ln * (p_dy h))), .int h, .int rs, .int wo])))) nc = (some (b, .inr (2, [.ref sb, bv, .int x1, .int y1, .int h1, .int rs1, .int wo1]))) := (up_n _ _ (by omega)).trans g2
  have g7 : (va_up (va_up w nb (some (a, .inr (2, [.ref sa, .ref b, .int ((x1 - (hi1 * (p_dx h1))) - (ln * (p_dx h))), .int y0, .int h, .int rs, .int wo])))) nb (some (a, .inr (2, [.ref sa, .ref b, .int ((x1 - (hi1 * (p_dx h1))) - (ln * (p_dx h))), .int ((y1 - (hi1 * (p_dy h1))) - (ln * (p_dy h))), .int h, .int rs, .int wo])))) ns = (some (sa, .inr (1, [.int ln, .int hi, .int fr, .int re, .int ha]))) := (up_n _ _ (by omega)).trans g3
  have g8 : (va_up (va_up w nb (some (a, .inr (2, [.ref sa, .ref b, .int ((x1 - (hi1 * (p_dx h1))) - (ln * (p_dx h))), .int y0, .int h, .int rs, .int wo])))) nb (some (a, .inr (2, [.ref sa, .ref b, .int ((x1 - (hi1 * (p_dx h1))) - (ln * (p_dx h))), .int ((y1 - (hi1 * (p_dy h1))) - (ln * (p_dy h))), .int h, .int rs, .int wo])))) nsb = (some (sb, .inr (1, [.int ln1, .int hi1, .int fr1, .int re1, .int ha1]))) := (up_n _ _ (by omega)).trans g4
  rw [up_up] at hH
  exact x_vrt C hr hH.2.2 ⟨(), rfl, trivial, hH.1, hH.2.1⟩ (Nat.le_of_ble_eq_true rfl) (Nat.le_of_ble_eq_true rfl) d_Body_follow_98
theorem hd_Body_follow : hdP y_Body_follow 0 := ⟨by decide +kernel, by decide +kernel, by decide +kernel⟩
theorem b_Body_swing_0_2 : decs prog_2_method_4_code [(.aload_n 0, 1), (.dup, 1)] 0 2 = true := by decide +kernel
theorem d_Body_swing_2 : decode prog_2_method_4_code 2 = .ok (.getfield 44, 3) := by decide +kernel
theorem b_Body_swing_5_6 : decs prog_2_method_4_code [(.aload_n 0, 1)] 5 6 = true := by decide +kernel
theorem d_Body_swing_6 : decode prog_2_method_4_code 6 = .ok (.invokevirtual 47, 3) := by decide +kernel
theorem b_Body_swing_9_12 : decs prog_2_method_4_code [(.iload_n 1, 1), (.imul, 1), (.iadd, 1)] 9 12 = true := by decide +kernel
theorem d_Body_swing_12 : decode prog_2_method_4_code 12 = .ok (.putfield 44, 3) := by decide +kernel
theorem b_Body_swing_15_16 : decs prog_2_method_4_code [(.aload_n 0, 1)] 15 16 = true := by decide +kernel
theorem d_Body_swing_16 : decode prog_2_method_4_code 16 = .ok (.getfield 44, 3) := by decide +kernel
theorem b_Body_swing_19_20 : decs prog_2_method_4_code [(.aload_n 0, 1)] 19 20 = true := by decide +kernel
theorem d_Body_swing_20 : decode prog_2_method_4_code 20 = .ok (.getfield 9, 3) := by decide +kernel
theorem d_Body_swing_23 : decode prog_2_method_4_code 23 = .ok (.getfield 35, 3) := by decide +kernel
theorem d_Body_swing_26 : decode prog_2_method_4_code 26 = .ok (.idiv, 1) := by decide +kernel
theorem b_Body_swing_27_30 : decs prog_2_method_4_code [(.istore_n 2, 1), (.aload_n 0, 1), (.dup, 1)] 27 30 = true := by decide +kernel
theorem d_Body_swing_30 : decode prog_2_method_4_code 30 = .ok (.getfield 44, 3) := by decide +kernel
theorem b_Body_swing_33_35 : decs prog_2_method_4_code [(.iload_n 2, 1), (.aload_n 0, 1)] 33 35 = true := by decide +kernel
theorem d_Body_swing_35 : decode prog_2_method_4_code 35 = .ok (.getfield 9, 3) := by decide +kernel
theorem d_Body_swing_38 : decode prog_2_method_4_code 38 = .ok (.getfield 35, 3) := by decide +kernel
theorem b_Body_swing_41_43 : decs prog_2_method_4_code [(.imul, 1), (.isub, 1)] 41 43 = true := by decide +kernel
theorem d_Body_swing_43 : decode prog_2_method_4_code 43 = .ok (.putfield 44, 3) := by decide +kernel
theorem b_Body_swing_46_48 : decs prog_2_method_4_code [(.aload_n 0, 1), (.aload_n 0, 1)] 46 48 = true := by decide +kernel
theorem d_Body_swing_48 : decode prog_2_method_4_code 48 = .ok (.getfield 19, 3) := by decide +kernel
theorem b_Body_swing_51_56 : decs prog_2_method_4_code [(.iload_n 2, 1), (.iadd, 1), (.bipush 63, 2), (.iand, 1)] 51 56 = true := by decide +kernel
theorem d_Body_swing_56 : decode prog_2_method_4_code 56 = .ok (.putfield 19, 3) := by decide +kernel
theorem d_Body_swing_59 : decode prog_2_method_4_code 59 = .ok (.return_, 1) := by decide +kernel
set_option maxRecDepth 100000 in
set_option maxHeartbeats 4000000 in
theorem c_Body_swing (l : Launch) (G : GG) (A : Nat → Prop) (w : WF) (nb nc ns a b sa sb : Nat) (bv : Value) (x0 y0 h rs wo x1 y1 h1 rs1 wo1 ln hi fr re ha by_ : Int32) (d1 : nb ≠ nc) (d2 : nb ≠ ns) (hln : ¬ ln = 0) (he : w nb = some (a, .inr (2, [.ref sa, .ref b, .int x0, .int y0, .int h, .int rs, .int wo]))) (hb : w nc = some (b, .inr (2, [.ref sb, bv, .int x1, .int y1, .int h1, .int rs1, .int wo1]))) (hs : w ns = some (sa, .inr (1, [.int ln, .int hi, .int fr, .int re, .int ha]))) : Met l y_Body_swing (Cond.code y_Body_swing prog_2_method_4_code 3 none :: wt) { frames := 1, cells := 0, slots := 0, locals := 20 } (Pre G A w (fun _ => True) [.ref a, .int by_]) (Qx0 (X := Unit) A (fun _ _ => True) G (fun _ => (va_up w nb (some (a, .inr (2, [.ref sa, .ref b, .int x0, .int y0, .int ((h + (rs + p_wr (h1 - h) * by_) / ln) &&& 63), .int ((rs + p_wr (h1 - h) * by_) - (rs + p_wr (h1 - h) * by_) / ln * ln), .int wo])))))) 0 0 A := by
  refine mt_of (by decide) (Nat.le_of_ble_eq_true rfl) ?_
  intro p e s m below meth c ls C hH hA hE hr hmn hl
  have hl : lv_has ls 3 [(0, .ref a), (1, .int by_)] := hl
  refine x_sx C b_Body_swing_0_2 hl (L' := [(0, .ref a), (1, .int by_)]) (st' := [.ref a, .ref a]) rfl (fun ls hl => ?_)
  refine x_get C hH.1 nb he 5 (v := .int rs) rfl rfl (by decide) t_186 (fun _ z => z) d_Body_swing_2 ?_
  refine x_sx C b_Body_swing_5_6 hl (L' := [(0, .ref a), (1, .int by_)]) (st' := [.ref a, .int rs, .ref a]) rfl (fun ls hl => ?_)
  refine x_ro (x_cV C hH.1 he rfl (c_Body_askew l G w nb nc a b sa sb bv x0 y0 h rs wo x1 y1 h1 rs1 wo1 he hb) t_532 t_11 t_529 t_530 t_531 hd_Body_askew blind_Pro (pre_ro C hH.1 hH.2.2) (As := []) (rest := [.int rs, .ref a]) rfl hl.1 rfl rfl rfl ⟨Nat.le_of_ble_eq_true rfl, Nat.le_of_ble_eq_true rfl⟩ (Nat.le_of_ble_eq_true rfl) ⟨Nat.zero_le _, Nat.zero_le _⟩ d_Body_swing_6) ?_
  refine x_sx C b_Body_swing_9_12 hl (L' := [(0, .ref a), (1, .int by_)]) (st' := [.int (rs + ((p_wr (h1 - h)) * by_)), .ref a]) rfl (fun ls hl => ?_)
  refine x_put C hH nb he 5 (v := .int (rs + ((p_wr (h1 - h)) * by_))) (by simp) rfl (by decide) t_186 (fun _ z => z) rfl rfl rfl d_Body_swing_12 (fun H locs hH => ?_)
  have hH : Hw G A s (va_up w nb (some (a, .inr (2, [.ref sa, .ref b, .int x0, .int y0, .int h, .int (rs + ((p_wr (h1 - h)) * by_)), .int wo])))) H _ := hH
  have g1 : (va_up w nb (some (a, .inr (2, [.ref sa, .ref b, .int x0, .int y0, .int h, .int (rs + ((p_wr (h1 - h)) * by_)), .int wo])))) nb = (some (a, .inr (2, [.ref sa, .ref b, .int x0, .int y0, .int h, .int (rs + ((p_wr (h1 - h)) * by_)), .int wo]))) := up_s _ _ _
  have g2 : (va_up w nb (some (a, .inr (2, [.ref sa, .ref b, .int x0, .int y0, .int h, .int (rs + ((p_wr (h1 - h)) * by_)), .int wo])))) nc = (some (b, .inr (2, [.ref sb, bv, .int x1, .int y1, .int h1, .int rs1, .int wo1]))) := (up_n _ _ (by omega)).trans hb
  have g3 : (va_up w nb (some (a, .inr (2, [.ref sa, .ref b, .int x0, .int y0, .int h, .int (rs + ((p_wr (h1 - h)) * by_)), .int wo])))) ns = (some (sa, .inr (1, [.int ln, .int hi, .int fr, .int re, .int ha]))) := (up_n _ _ (by omega)).trans hs
  refine x_sx C b_Body_swing_15_16 hl (L' := [(0, .ref a), (1, .int by_)]) (st' := [.ref a]) rfl (fun ls hl => ?_)
  refine x_get C hH.1 nb g1 5 (v := .int (rs + ((p_wr (h1 - h)) * by_))) rfl rfl (by decide) t_186 (fun _ z => z) d_Body_swing_16 ?_
  refine x_sx C b_Body_swing_19_20 hl (L' := [(0, .ref a), (1, .int by_)]) (st' := [.ref a, .int (rs + ((p_wr (h1 - h)) * by_))]) rfl (fun ls hl => ?_)
  refine x_get C hH.1 nb g1 0 (v := .ref sa) rfl rfl (by decide) t_173 (fun _ z => z) d_Body_swing_20 ?_
  refine x_get C hH.1 ns g3 0 (v := .int ln) rfl rfl (by decide) t_457 (fun _ z => z) d_Body_swing_23 ?_
  refine lv_idiv C.1 C.2.1 d_Body_swing_26 hln ?_
  refine x_sx C b_Body_swing_27_30 hl (L' := [(2, .int ((rs + ((p_wr (h1 - h)) * by_)) / ln)), (0, .ref a), (1, .int by_)]) (st' := [.ref a, .ref a]) rfl (fun ls hl => ?_)
  refine x_get C hH.1 nb g1 5 (v := .int (rs + ((p_wr (h1 - h)) * by_))) rfl rfl (by decide) t_186 (fun _ z => z) d_Body_swing_30 ?_
  refine x_sx C b_Body_swing_33_35 hl (L' := [(2, .int ((rs + ((p_wr (h1 - h)) * by_)) / ln)), (0, .ref a), (1, .int by_)]) (st' := [.ref a, .int ((rs + ((p_wr (h1 - h)) * by_)) / ln), .int (rs + ((p_wr (h1 - h)) * by_)), .ref a]) rfl (fun ls hl => ?_)
  refine x_get C hH.1 nb g1 0 (v := .ref sa) rfl rfl (by decide) t_173 (fun _ z => z) d_Body_swing_35 ?_
  refine x_get C hH.1 ns g3 0 (v := .int ln) rfl rfl (by decide) t_457 (fun _ z => z) d_Body_swing_38 ?_
  refine x_sx C b_Body_swing_41_43 hl (L' := [(2, .int ((rs + ((p_wr (h1 - h)) * by_)) / ln)), (0, .ref a), (1, .int by_)]) (st' := [.int ((rs + ((p_wr (h1 - h)) * by_)) - (((rs + ((p_wr (h1 - h)) * by_)) / ln) * ln)), .ref a]) rfl (fun ls hl => ?_)
  refine x_put C hH nb g1 5 (v := .int ((rs + ((p_wr (h1 - h)) * by_)) - (((rs + ((p_wr (h1 - h)) * by_)) / ln) * ln))) (by simp) rfl (by decide) t_186 (fun _ z => z) rfl rfl rfl d_Body_swing_43 (fun H locs hH => ?_)
  have hH : Hw G A s (va_up (va_up w nb (some (a, .inr (2, [.ref sa, .ref b, .int x0, .int y0, .int h, .int (rs + ((p_wr (h1 - h)) * by_)), .int wo])))) nb (some (a, .inr (2, [.ref sa, .ref b, .int x0, .int y0, .int h, .int ((rs + ((p_wr (h1 - h)) * by_)) - (((rs + ((p_wr (h1 - h)) * by_)) / ln) * ln)), .int wo])))) H _ := hH
  have g4 : (va_up (va_up w nb (some (a, .inr (2, [.ref sa, .ref b, .int x0, .int y0, .int h, .int (rs + ((p_wr (h1 - h)) * by_)), .int wo])))) nb (some (a, .inr (2, [.ref sa, .ref b, .int x0, .int y0, .int h, .int ((rs + ((p_wr (h1 - h)) * by_)) - (((rs + ((p_wr (h1 - h)) * by_)) / ln) * ln)), .int wo])))) nb = (some (a, .inr (2, [.ref sa, .ref b, .int x0, .int y0, .int h, .int ((rs + ((p_wr (h1 - h)) * by_)) - (((rs + ((p_wr (h1 - h)) * by_)) / ln) * ln)), .int wo]))) := up_s _ _ _
  have g5 : (va_up (va_up w nb (some (a, .inr (2, [.ref sa, .ref b, .int x0, .int y0, .int h, .int (rs + ((p_wr (h1 - h)) * by_)), .int wo])))) nb (some (a, .inr (2, [.ref sa, .ref b, .int x0, .int y0, .int h, .int ((rs + ((p_wr (h1 - h)) * by_)) - (((rs + ((p_wr (h1 - h)) * by_)) / ln) * ln)), .int wo])))) nc = (some (b, .inr (2, [.ref sb, bv, .int x1, .int y1, .int h1, .int rs1, .int wo1]))) := (up_n _ _ (by omega)).trans g2
  have g6 : (va_up (va_up w nb (some (a, .inr (2, [.ref sa, .ref b, .int x0, .int y0, .int h, .int (rs + ((p_wr (h1 - h)) * by_)), .int wo])))) nb (some (a, .inr (2, [.ref sa, .ref b, .int x0, .int y0, .int h, .int ((rs + ((p_wr (h1 - h)) * by_)) - (((rs + ((p_wr (h1 - h)) * by_)) / ln) * ln)), .int wo])))) ns = (some (sa, .inr (1, [.int ln, .int hi, .int fr, .int re, .int ha]))) := (up_n _ _ (by omega)).trans g3
  refine x_sx C b_Body_swing_46_48 hl (L' := [(2, .int ((rs + ((p_wr (h1 - h)) * by_)) / ln)), (0, .ref a), (1, .int by_)]) (st' := [.ref a, .ref a]) rfl (fun ls hl => ?_)
  refine x_get C hH.1 nb g4 4 (v := .int h) rfl rfl (by decide) t_184 (fun _ z => z) d_Body_swing_48 ?_
  refine x_sx C b_Body_swing_51_56 hl (L' := [(2, .int ((rs + ((p_wr (h1 - h)) * by_)) / ln)), (0, .ref a), (1, .int by_)]) (st' := [.int ((h + ((rs + ((p_wr (h1 - h)) * by_)) / ln)) &&& 63), .ref a]) rfl (fun ls hl => ?_)
  refine x_put C hH nb g4 4 (v := .int ((h + ((rs + ((p_wr (h1 - h)) * by_)) / ln)) &&& 63)) (by simp) rfl (by decide) t_184 (fun _ z => z) rfl rfl rfl d_Body_swing_56 (fun H locs hH => ?_)
  have hH : Hw G A s (va_up (va_up (va_up w nb (some (a, .inr (2, [.ref sa, .ref b, .int x0, .int y0, .int h, .int (rs + ((p_wr (h1 - h)) * by_)), .int wo])))) nb (some (a, .inr (2, [.ref sa, .ref b, .int x0, .int y0, .int h, .int ((rs + ((p_wr (h1 - h)) * by_)) - (((rs + ((p_wr (h1 - h)) * by_)) / ln) * ln)), .int wo])))) nb (some (a, .inr (2, [.ref sa, .ref b, .int x0, .int y0, .int ((h + ((rs + ((p_wr (h1 - h)) * by_)) / ln)) &&& 63), .int ((rs + ((p_wr (h1 - h)) * by_)) - (((rs + ((p_wr (h1 - h)) * by_)) / ln) * ln)), .int wo])))) H _ := hH
  have g7 : (va_up (va_up (va_up w nb (some (a, .inr (2, [.ref sa, .ref b, .int x0, .int y0, .int h, .int (rs + ((p_wr (h1 - h)) * by_)), .int wo])))) nb (some (a, .inr (2, [.ref sa, .ref b, .int x0, .int y0, .int h, .int ((rs + ((p_wr (h1 - h)) * by_)) - (((rs + ((p_wr (h1 - h)) * by_)) / ln) * ln)), .int wo])))) nb (some (a, .inr (2, [.ref sa, .ref b, .int x0, .int y0, .int ((h + ((rs + ((p_wr (h1 - h)) * by_)) / ln)) &&& 63), .int ((rs + ((p_wr (h1 - h)) * by_)) - (((rs + ((p_wr (h1 - h)) * by_)) / ln) * ln)), .int wo])))) nb = (some (a, .inr (2, [.ref sa, .ref b, .int x0, .int y0, .int ((h + ((rs + ((p_wr (h1 - h)) * by_)) / ln)) &&& 63), .int ((rs + ((p_wr (h1 - h)) * by_)) - (((rs + ((p_wr (h1 - h)) * by_)) / ln) * ln)), .int wo]))) := up_s _ _ _
  have g8 : (va_up (va_up (va_up w nb (some (a, .inr (2, [.ref sa, .ref b, .int x0, .int y0, .int h, .int (rs + ((p_wr (h1 - h)) * by_)), .int wo])))) nb (some (a, .inr (2, [.ref sa, .ref b, .int x0, .int y0, .int h, .int ((rs + ((p_wr (h1 - h)) * by_)) - (((rs + ((p_wr (h1 - h)) * by_)) / ln) * ln)), .int wo])))) nb (some (a, .inr (2, [.ref sa, .ref b, .int x0, .int y0, .int ((h + ((rs + ((p_wr (h1 - h)) * by_)) / ln)) &&& 63), .int ((rs + ((p_wr (h1 - h)) * by_)) - (((rs + ((p_wr (h1 - h)) * by_)) / ln) * ln)), .int wo])))) nc = (some (b, .inr (2, [.ref sb, bv, .int x1, .int y1, .int h1, .int rs1, .int wo1]))) := (up_n _ _ (by omega)).trans g5
  have g9 : (va_up (va_up (va_up w nb (some (a, .inr (2, [.ref sa, .ref b, .int x0, .int y0, .int h, .int (rs + ((p_wr (h1 - h)) * by_)), .int wo])))) nb (some (a, .inr (2, [.ref sa, .ref b, .int x0, .int y0, .int h, .int ((rs + ((p_wr (h1 - h)) * by_)) - (((rs + ((p_wr (h1 - h)) * by_)) / ln) * ln)), .int wo])))) nb (some (a, .inr (2, [.ref sa, .ref b, .int x0, .int y0, .int ((h + ((rs + ((p_wr (h1 - h)) * by_)) / ln)) &&& 63), .int ((rs + ((p_wr (h1 - h)) * by_)) - (((rs + ((p_wr (h1 - h)) * by_)) / ln) * ln)), .int wo])))) ns = (some (sa, .inr (1, [.int ln, .int hi, .int fr, .int re, .int ha]))) := (up_n _ _ (by omega)).trans g6
  rw [up_up, up_up] at hH
  exact x_vrt C hr hH.2.2 ⟨(), rfl, trivial, hH.1, hH.2.1⟩ (Nat.le_of_ble_eq_true rfl) (Nat.le_of_ble_eq_true rfl) d_Body_swing_59
theorem hd_Body_swing : hdP y_Body_swing 1 := ⟨by decide +kernel, by decide +kernel, by decide +kernel⟩
theorem b_Shape_init_0_1 : decs prog_5_method_1_code [(.aload_n 0, 1)] 0 1 = true := by decide +kernel
theorem d_Shape_init_1 : decode prog_5_method_1_code 1 = .ok (.invokespecial 1, 3) := by decide +kernel
theorem b_Shape_init_4_6 : decs prog_5_method_1_code [(.aload_n 0, 1), (.iload_n 1, 1)] 4 6 = true := by decide +kernel
theorem d_Shape_init_6 : decode prog_5_method_1_code 6 = .ok (.putfield 7, 3) := by decide +kernel
theorem b_Shape_init_9_11 : decs prog_5_method_1_code [(.aload_n 0, 1), (.iload_n 2, 1)] 9 11 = true := by decide +kernel
theorem d_Shape_init_11 : decode prog_5_method_1_code 11 = .ok (.putfield 13, 3) := by decide +kernel
theorem b_Shape_init_14_16 : decs prog_5_method_1_code [(.aload_n 0, 1), (.iload_n 3, 1)] 14 16 = true := by decide +kernel
theorem d_Shape_init_16 : decode prog_5_method_1_code 16 = .ok (.putfield 16, 3) := by decide +kernel
theorem b_Shape_init_19_22 : decs prog_5_method_1_code [(.aload_n 0, 1), (.iload 4, 2)] 19 22 = true := by decide +kernel
theorem d_Shape_init_22 : decode prog_5_method_1_code 22 = .ok (.putfield 19, 3) := by decide +kernel
theorem b_Shape_init_25_28 : decs prog_5_method_1_code [(.aload_n 0, 1), (.iload 5, 2)] 25 28 = true := by decide +kernel
theorem d_Shape_init_28 : decode prog_5_method_1_code 28 = .ok (.putfield 22, 3) := by decide +kernel
theorem d_Shape_init_31 : decode prog_5_method_1_code 31 = .ok (.return_, 1) := by decide +kernel
set_option maxRecDepth 100000 in
set_option maxHeartbeats 4000000 in
theorem c_Shape_init (l : Launch) (G : GG) (A : Nat → Prop) (w : WF) (ns a : Nat) (ln hi fr re ha : Int32) (hs : w ns = some (a, .inr (1, [.int 0, .int 0, .int 0, .int 0, .int 0]))) : Met l y_Shape_init (Cond.code y_Shape_init prog_5_method_1_code 6 none :: wt) { frames := 1, cells := 0, slots := 0, locals := 20 } (Pre G A w (fun _ => True) [.ref a, .int ln, .int hi, .int fr, .int re, .int ha]) (Qx0 (X := Unit) A (fun _ _ => True) G (fun _ => (va_up w ns (some (a, .inr (1, [.int ln, .int hi, .int fr, .int re, .int ha])))))) 0 0 A := by
  refine mt_of (by decide) (Nat.le_of_ble_eq_true rfl) ?_
  intro p e s m below meth c ls C hH hA hE hr hmn hl
  have hl : lv_has ls 6 [(0, .ref a), (1, .int ln), (2, .int hi), (3, .int fr), (4, .int re), (5, .int ha)] := hl
  refine x_sx C b_Shape_init_0_1 hl (L' := [(0, .ref a), (1, .int ln), (2, .int hi), (3, .int fr), (4, .int re), (5, .int ha)]) (st' := [.ref a]) rfl (fun ls hl => ?_)
  refine x_obj (rest := []) C t_455 hl.1 (Nat.le_of_ble_eq_true rfl) (Nat.le_of_ble_eq_true rfl) d_Shape_init_1 ?_
  refine x_sx C b_Shape_init_4_6 hl (L' := [(0, .ref a), (1, .int ln), (2, .int hi), (3, .int fr), (4, .int re), (5, .int ha)]) (st' := [.int ln, .ref a]) rfl (fun ls hl => ?_)
  refine x_putF C hH ns hs 0 (v := .int ln) (by simp) rfl (by decide) t_456 (fun _ z => z) rfl hmn rfl rfl rfl d_Shape_init_6 (fun H locs hH => ?_)
  have hH : Hw G A s (va_up w ns (some (a, .inr (1, [.int ln, .int 0, .int 0, .int 0, .int 0])))) H _ := hH
  have g1 : (va_up w ns (some (a, .inr (1, [.int ln, .int 0, .int 0, .int 0, .int 0])))) ns = (some (a, .inr (1, [.int ln, .int 0, .int 0, .int 0, .int 0]))) := up_s _ _ _
  refine x_sx C b_Shape_init_9_11 hl (L' := [(0, .ref a), (1, .int ln), (2, .int hi), (3, .int fr), (4, .int re), (5, .int ha)]) (st' := [.int hi, .ref a]) rfl (fun ls hl => ?_)
  refine x_putF C hH ns g1 1 (v := .int hi) (by simp) rfl (by decide) t_458 (fun _ z => z) rfl hmn rfl rfl rfl d_Shape_init_11 (fun H locs hH => ?_)
  have hH : Hw G A s (va_up (va_up w ns (some (a, .inr (1, [.int ln, .int 0, .int 0, .int 0, .int 0])))) ns (some (a, .inr (1, [.int ln, .int hi, .int 0, .int 0, .int 0])))) H _ := hH
  have g2 : (va_up (va_up w ns (some (a, .inr (1, [.int ln, .int 0, .int 0, .int 0, .int 0])))) ns (some (a, .inr (1, [.int ln, .int hi, .int 0, .int 0, .int 0])))) ns = (some (a, .inr (1, [.int ln, .int hi, .int 0, .int 0, .int 0]))) := up_s _ _ _
  refine x_sx C b_Shape_init_14_16 hl (L' := [(0, .ref a), (1, .int ln), (2, .int hi), (3, .int fr), (4, .int re), (5, .int ha)]) (st' := [.int fr, .ref a]) rfl (fun ls hl => ?_)
  refine x_putF C hH ns g2 2 (v := .int fr) (by simp) rfl (by decide) t_460 (fun _ z => z) rfl hmn rfl rfl rfl d_Shape_init_16 (fun H locs hH => ?_)
  have hH : Hw G A s (va_up (va_up (va_up w ns (some (a, .inr (1, [.int ln, .int 0, .int 0, .int 0, .int 0])))) ns (some (a, .inr (1, [.int ln, .int hi, .int 0, .int 0, .int 0])))) ns (some (a, .inr (1, [.int ln, .int hi, .int fr, .int 0, .int 0])))) H _ := hH
  have g3 : (va_up (va_up (va_up w ns (some (a, .inr (1, [.int ln, .int 0, .int 0, .int 0, .int 0])))) ns (some (a, .inr (1, [.int ln, .int hi, .int 0, .int 0, .int 0])))) ns (some (a, .inr (1, [.int ln, .int hi, .int fr, .int 0, .int 0])))) ns = (some (a, .inr (1, [.int ln, .int hi, .int fr, .int 0, .int 0]))) := up_s _ _ _
  refine x_sx C b_Shape_init_19_22 hl (L' := [(0, .ref a), (1, .int ln), (2, .int hi), (3, .int fr), (4, .int re), (5, .int ha)]) (st' := [.int re, .ref a]) rfl (fun ls hl => ?_)
  refine x_putF C hH ns g3 3 (v := .int re) (by simp) rfl (by decide) t_464 (fun _ z => z) rfl hmn rfl rfl rfl d_Shape_init_22 (fun H locs hH => ?_)
  have hH : Hw G A s (va_up (va_up (va_up (va_up w ns (some (a, .inr (1, [.int ln, .int 0, .int 0, .int 0, .int 0])))) ns (some (a, .inr (1, [.int ln, .int hi, .int 0, .int 0, .int 0])))) ns (some (a, .inr (1, [.int ln, .int hi, .int fr, .int 0, .int 0])))) ns (some (a, .inr (1, [.int ln, .int hi, .int fr, .int re, .int 0])))) H _ := hH
  have g4 : (va_up (va_up (va_up (va_up w ns (some (a, .inr (1, [.int ln, .int 0, .int 0, .int 0, .int 0])))) ns (some (a, .inr (1, [.int ln, .int hi, .int 0, .int 0, .int 0])))) ns (some (a, .inr (1, [.int ln, .int hi, .int fr, .int 0, .int 0])))) ns (some (a, .inr (1, [.int ln, .int hi, .int fr, .int re, .int 0])))) ns = (some (a, .inr (1, [.int ln, .int hi, .int fr, .int re, .int 0]))) := up_s _ _ _
  refine x_sx C b_Shape_init_25_28 hl (L' := [(0, .ref a), (1, .int ln), (2, .int hi), (3, .int fr), (4, .int re), (5, .int ha)]) (st' := [.int ha, .ref a]) rfl (fun ls hl => ?_)
  refine x_putF C hH ns g4 4 (v := .int ha) (by simp) rfl (by decide) t_468 (fun _ z => z) rfl hmn rfl rfl rfl d_Shape_init_28 (fun H locs hH => ?_)
  have hH : Hw G A s (va_up (va_up (va_up (va_up (va_up w ns (some (a, .inr (1, [.int ln, .int 0, .int 0, .int 0, .int 0])))) ns (some (a, .inr (1, [.int ln, .int hi, .int 0, .int 0, .int 0])))) ns (some (a, .inr (1, [.int ln, .int hi, .int fr, .int 0, .int 0])))) ns (some (a, .inr (1, [.int ln, .int hi, .int fr, .int re, .int 0])))) ns (some (a, .inr (1, [.int ln, .int hi, .int fr, .int re, .int ha])))) H _ := hH
  have g5 : (va_up (va_up (va_up (va_up (va_up w ns (some (a, .inr (1, [.int ln, .int 0, .int 0, .int 0, .int 0])))) ns (some (a, .inr (1, [.int ln, .int hi, .int 0, .int 0, .int 0])))) ns (some (a, .inr (1, [.int ln, .int hi, .int fr, .int 0, .int 0])))) ns (some (a, .inr (1, [.int ln, .int hi, .int fr, .int re, .int 0])))) ns (some (a, .inr (1, [.int ln, .int hi, .int fr, .int re, .int ha])))) ns = (some (a, .inr (1, [.int ln, .int hi, .int fr, .int re, .int ha]))) := up_s _ _ _
  rw [up_up, up_up, up_up, up_up] at hH
  exact x_vrt C hr hH.2.2 ⟨(), rfl, trivial, hH.1, hH.2.1⟩ (Nat.le_of_ble_eq_true rfl) (Nat.le_of_ble_eq_true rfl) d_Shape_init_31
theorem hd_Shape_init : hdP y_Shape_init 5 := ⟨by decide +kernel, by decide +kernel, by decide +kernel⟩
theorem b_Part_init_0_1 : decs prog_3_method_1_code [(.aload_n 0, 1)] 0 1 = true := by decide +kernel
theorem d_Part_init_1 : decode prog_3_method_1_code 1 = .ok (.invokespecial 1, 3) := by decide +kernel
theorem b_Part_init_4_6 : decs prog_3_method_1_code [(.aload_n 0, 1), (.iload_n 1, 1)] 4 6 = true := by decide +kernel
theorem d_Part_init_6 : decode prog_3_method_1_code 6 = .ok (.putfield 7, 3) := by decide +kernel
theorem b_Part_init_9_11 : decs prog_3_method_1_code [(.aload_n 0, 1), (.iload_n 2, 1)] 9 11 = true := by decide +kernel
theorem d_Part_init_11 : decode prog_3_method_1_code 11 = .ok (.putfield 13, 3) := by decide +kernel
theorem b_Part_init_14_16 : decs prog_3_method_1_code [(.aload_n 0, 1), (.iload_n 3, 1)] 14 16 = true := by decide +kernel
theorem d_Part_init_16 : decode prog_3_method_1_code 16 = .ok (.putfield 16, 3) := by decide +kernel
theorem d_Part_init_19 : decode prog_3_method_1_code 19 = .ok (.return_, 1) := by decide +kernel
set_option maxRecDepth 100000 in
set_option maxHeartbeats 4000000 in
theorem c_Part_init (l : Launch) (G : GG) (A : Nat → Prop) (w : WF) (ns a : Nat) (tu st fw : Int32) (hs : w ns = some (a, .inr (3, [.int 0, .int 0, .int 0]))) (hfw : fw = 0 ∨ fw = 1) : Met l y_Part_init (Cond.code y_Part_init prog_3_method_1_code 4 none :: wt) { frames := 1, cells := 0, slots := 0, locals := 20 } (Pre G A w (fun _ => True) [.ref a, .int tu, .int st, .int fw]) (Qx0 (X := Unit) A (fun _ _ => True) G (fun _ => (va_up w ns (some (a, .inr (3, [.int tu, .int st, .int fw])))))) 0 0 A := by
  refine mt_of (by decide) (Nat.le_of_ble_eq_true rfl) ?_
  intro p e s m below meth c ls C hH hA hE hr hmn hl
  have hl : lv_has ls 4 [(0, .ref a), (1, .int tu), (2, .int st), (3, .int fw)] := hl
  have hb0 : ∀ x : Int32, narrow .boolean (.int fw) = .int fw := fun _ => by rcases hfw with h | h <;> (subst h; rfl)
  have hb1 : ∀ x : Int32, fits .boolean (.int fw) = true := fun _ => by rcases hfw with h | h <;> (subst h; rfl)
  refine x_sx C b_Part_init_0_1 hl (L' := [(0, .ref a), (1, .int tu), (2, .int st), (3, .int fw)]) (st' := [.ref a]) rfl (fun ls hl => ?_)
  refine x_obj (rest := []) C t_593 hl.1 (Nat.le_of_ble_eq_true rfl) (Nat.le_of_ble_eq_true rfl) d_Part_init_1 ?_
  refine x_sx C b_Part_init_4_6 hl (L' := [(0, .ref a), (1, .int tu), (2, .int st), (3, .int fw)]) (st' := [.int tu, .ref a]) rfl (fun ls hl => ?_)
  refine x_putF C hH ns hs 0 (v := .int tu) (by simp) rfl (by decide) t_594 (fun _ z => z) rfl hmn rfl rfl rfl d_Part_init_6 (fun H locs hH => ?_)
  have hH : Hw G A s (va_up w ns (some (a, .inr (3, [.int tu, .int 0, .int 0])))) H _ := hH
  have g1 : (va_up w ns (some (a, .inr (3, [.int tu, .int 0, .int 0])))) ns = (some (a, .inr (3, [.int tu, .int 0, .int 0]))) := up_s _ _ _
  refine x_sx C b_Part_init_9_11 hl (L' := [(0, .ref a), (1, .int tu), (2, .int st), (3, .int fw)]) (st' := [.int st, .ref a]) rfl (fun ls hl => ?_)
  refine x_putF C hH ns g1 1 (v := .int st) (by simp) rfl (by decide) t_596 (fun _ z => z) rfl hmn rfl rfl rfl d_Part_init_11 (fun H locs hH => ?_)
  have hH : Hw G A s (va_up (va_up w ns (some (a, .inr (3, [.int tu, .int 0, .int 0])))) ns (some (a, .inr (3, [.int tu, .int st, .int 0])))) H _ := hH
  have g2 : (va_up (va_up w ns (some (a, .inr (3, [.int tu, .int 0, .int 0])))) ns (some (a, .inr (3, [.int tu, .int st, .int 0])))) ns = (some (a, .inr (3, [.int tu, .int st, .int 0]))) := up_s _ _ _
  refine x_sx C b_Part_init_14_16 hl (L' := [(0, .ref a), (1, .int tu), (2, .int st), (3, .int fw)]) (st' := [.int fw, .ref a]) rfl (fun ls hl => ?_)
  refine x_putF C hH ns g2 2 (v := .int fw) (by simp) rfl (by decide) t_598 (fun _ z => z) rfl hmn rfl (hb0 fw) (hb1 fw) d_Part_init_16 (fun H locs hH => ?_)
  have hH : Hw G A s (va_up (va_up (va_up w ns (some (a, .inr (3, [.int tu, .int 0, .int 0])))) ns (some (a, .inr (3, [.int tu, .int st, .int 0])))) ns (some (a, .inr (3, [.int tu, .int st, .int fw])))) H _ := hH
  have g3 : (va_up (va_up (va_up w ns (some (a, .inr (3, [.int tu, .int 0, .int 0])))) ns (some (a, .inr (3, [.int tu, .int st, .int 0])))) ns (some (a, .inr (3, [.int tu, .int st, .int fw])))) ns = (some (a, .inr (3, [.int tu, .int st, .int fw]))) := up_s _ _ _
  rw [up_up, up_up] at hH
  exact x_vrt C hr hH.2.2 ⟨(), rfl, trivial, hH.1, hH.2.1⟩ (Nat.le_of_ble_eq_true rfl) (Nat.le_of_ble_eq_true rfl) d_Part_init_19
theorem hd_Part_init : hdP y_Part_init 3 := ⟨by decide +kernel, by decide +kernel, by decide +kernel⟩
theorem b_Body_init_0_1 : decs prog_2_method_1_code [(.aload_n 0, 1)] 0 1 = true := by decide +kernel
theorem d_Body_init_1 : decode prog_2_method_1_code 1 = .ok (.invokespecial 3, 3) := by decide +kernel
theorem b_Body_init_4_6 : decs prog_2_method_1_code [(.aload_n 0, 1), (.aload_n 1, 1)] 4 6 = true := by decide +kernel
theorem d_Body_init_6 : decode prog_2_method_1_code 6 = .ok (.putfield 9, 3) := by decide +kernel
theorem b_Body_init_9_11 : decs prog_2_method_1_code [(.aload_n 0, 1), (.aload_n 2, 1)] 9 11 = true := by decide +kernel
theorem d_Body_init_11 : decode prog_2_method_1_code 11 = .ok (.putfield 15, 3) := by decide +kernel
theorem d_Body_init_14 : decode prog_2_method_1_code 14 = .ok (.return_, 1) := by decide +kernel
set_option maxRecDepth 100000 in
set_option maxHeartbeats 4000000 in
theorem c_Body_init_0 (l : Launch) (G : GG) (A : Nat → Prop) (w : WF) (ns a sa : Nat) (hs : w ns = some (a, .inr (2, [.null, .null, .int 0, .int 0, .int 0, .int 0, .int 0]))) : Met l y_Body_init (Cond.code y_Body_init prog_2_method_1_code 3 none :: wt) { frames := 1, cells := 0, slots := 0, locals := 20 } (Pre G A w (fun _ => True) [.ref a, .ref sa, .null]) (Qx0 (X := Unit) A (fun _ _ => True) G (fun _ => (va_up w ns (some (a, .inr (2, [.ref sa, .null, .int 0, .int 0, .int 0, .int 0, .int 0])))))) 0 0 A := by
  refine mt_of (by decide) (Nat.le_of_ble_eq_true rfl) ?_
  intro p e s m below meth c ls C hH hA hE hr hmn hl
  have hl : lv_has ls 3 [(0, .ref a), (1, .ref sa), (2, .null)] := hl
  refine x_sx C b_Body_init_0_1 hl (L' := [(0, .ref a), (1, .ref sa), (2, .null)]) (st' := [.ref a]) rfl (fun ls hl => ?_)
  refine x_obj (rest := []) C t_172 hl.1 (Nat.le_of_ble_eq_true rfl) (Nat.le_of_ble_eq_true rfl) d_Body_init_1 ?_
  refine x_sx C b_Body_init_4_6 hl (L' := [(0, .ref a), (1, .ref sa), (2, .null)]) (st' := [.ref sa, .ref a]) rfl (fun ls hl => ?_)
  refine x_putF C hH ns hs 0 (v := .ref sa) (by simp) rfl (by decide) t_173 (fun _ z => z) rfl hmn rfl rfl rfl d_Body_init_6 (fun H locs hH => ?_)
  have hH : Hw G A s (va_up w ns (some (a, .inr (2, [.ref sa, .null, .int 0, .int 0, .int 0, .int 0, .int 0])))) H _ := hH
  have g1 : (va_up w ns (some (a, .inr (2, [.ref sa, .null, .int 0, .int 0, .int 0, .int 0, .int 0])))) ns = (some (a, .inr (2, [.ref sa, .null, .int 0, .int 0, .int 0, .int 0, .int 0]))) := up_s _ _ _
  refine x_sx C b_Body_init_9_11 hl (L' := [(0, .ref a), (1, .ref sa), (2, .null)]) (st' := [.null, .ref a]) rfl (fun ls hl => ?_)
  refine x_putF C hH ns g1 1 (v := .null) (by simp) rfl (by decide) t_176 (fun _ z => z) rfl hmn rfl rfl rfl d_Body_init_11 (fun H locs hH => ?_)
  have hH : Hw G A s (va_up (va_up w ns (some (a, .inr (2, [.ref sa, .null, .int 0, .int 0, .int 0, .int 0, .int 0])))) ns (some (a, .inr (2, [.ref sa, .null, .int 0, .int 0, .int 0, .int 0, .int 0])))) H _ := hH
  have g2 : (va_up (va_up w ns (some (a, .inr (2, [.ref sa, .null, .int 0, .int 0, .int 0, .int 0, .int 0])))) ns (some (a, .inr (2, [.ref sa, .null, .int 0, .int 0, .int 0, .int 0, .int 0])))) ns = (some (a, .inr (2, [.ref sa, .null, .int 0, .int 0, .int 0, .int 0, .int 0]))) := up_s _ _ _
  rw [up_up] at hH
  exact x_vrt C hr hH.2.2 ⟨(), rfl, trivial, hH.1, hH.2.1⟩ (Nat.le_of_ble_eq_true rfl) (Nat.le_of_ble_eq_true rfl) d_Body_init_14
theorem hd_Body_init : hdP y_Body_init 2 := ⟨by decide +kernel, by decide +kernel, by decide +kernel⟩
set_option maxRecDepth 100000 in
set_option maxHeartbeats 4000000 in
theorem c_Body_init (l : Launch) (G : GG) (A : Nat → Prop) (w : WF) (ns a sa b : Nat) (hs : w ns = some (a, .inr (2, [.null, .null, .int 0, .int 0, .int 0, .int 0, .int 0]))) : Met l y_Body_init (Cond.code y_Body_init prog_2_method_1_code 3 none :: wt) { frames := 1, cells := 0, slots := 0, locals := 20 } (Pre G A w (fun _ => True) [.ref a, .ref sa, .ref b]) (Qx0 (X := Unit) A (fun _ _ => True) G (fun _ => (va_up w ns (some (a, .inr (2, [.ref sa, .ref b, .int 0, .int 0, .int 0, .int 0, .int 0])))))) 0 0 A := by
  refine mt_of (by decide) (Nat.le_of_ble_eq_true rfl) ?_
  intro p e s m below meth c ls C hH hA hE hr hmn hl
  have hl : lv_has ls 3 [(0, .ref a), (1, .ref sa), (2, .ref b)] := hl
  refine x_sx C b_Body_init_0_1 hl (L' := [(0, .ref a), (1, .ref sa), (2, .ref b)]) (st' := [.ref a]) rfl (fun ls hl => ?_)
  refine x_obj (rest := []) C t_172 hl.1 (Nat.le_of_ble_eq_true rfl) (Nat.le_of_ble_eq_true rfl) d_Body_init_1 ?_
  refine x_sx C b_Body_init_4_6 hl (L' := [(0, .ref a), (1, .ref sa), (2, .ref b)]) (st' := [.ref sa, .ref a]) rfl (fun ls hl => ?_)
  refine x_putF C hH ns hs 0 (v := .ref sa) (by simp) rfl (by decide) t_173 (fun _ z => z) rfl hmn rfl rfl rfl d_Body_init_6 (fun H locs hH => ?_)
  have hH : Hw G A s (va_up w ns (some (a, .inr (2, [.ref sa, .null, .int 0, .int 0, .int 0, .int 0, .int 0])))) H _ := hH
  have g1 : (va_up w ns (some (a, .inr (2, [.ref sa, .null, .int 0, .int 0, .int 0, .int 0, .int 0])))) ns = (some (a, .inr (2, [.ref sa, .null, .int 0, .int 0, .int 0, .int 0, .int 0]))) := up_s _ _ _
  refine x_sx C b_Body_init_9_11 hl (L' := [(0, .ref a), (1, .ref sa), (2, .ref b)]) (st' := [.ref b, .ref a]) rfl (fun ls hl => ?_)
  refine x_putF C hH ns g1 1 (v := .ref b) (by simp) rfl (by decide) t_176 (fun _ z => z) rfl hmn rfl rfl rfl d_Body_init_11 (fun H locs hH => ?_)
  have hH : Hw G A s (va_up (va_up w ns (some (a, .inr (2, [.ref sa, .null, .int 0, .int 0, .int 0, .int 0, .int 0])))) ns (some (a, .inr (2, [.ref sa, .ref b, .int 0, .int 0, .int 0, .int 0, .int 0])))) H _ := hH
  have g2 : (va_up (va_up w ns (some (a, .inr (2, [.ref sa, .null, .int 0, .int 0, .int 0, .int 0, .int 0])))) ns (some (a, .inr (2, [.ref sa, .ref b, .int 0, .int 0, .int 0, .int 0, .int 0])))) ns = (some (a, .inr (2, [.ref sa, .ref b, .int 0, .int 0, .int 0, .int 0, .int 0]))) := up_s _ _ _
  rw [up_up] at hH
  exact x_vrt C hr hH.2.2 ⟨(), rfl, trivial, hH.1, hH.2.1⟩ (Nat.le_of_ble_eq_true rfl) (Nat.le_of_ble_eq_true rfl) d_Body_init_14
