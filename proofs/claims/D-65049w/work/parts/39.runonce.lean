theorem b_Run_once_9_11 : decs prog_4_method_4_code [(.istore_n 3, 1), (.aload_n 0, 1)] 9 11 = true := by decide +kernel
theorem d_Run_once_11 : decode prog_4_method_4_code 11 = .ok (.getfield 18, 3) := by decide +kernel
theorem b_Run_once_14_15 : decs prog_4_method_4_code [(.iconst 0, 1)] 14 15 = true := by decide +kernel
theorem d_Run_once_15 : decode prog_4_method_4_code 15 = .ok (.invokevirtual 48, 3) := by decide +kernel
theorem d_Run_once_18 : decode prog_4_method_4_code 18 = .ok (.checkcast 46, 3) := by decide +kernel
theorem b_Run_once_21_26 : decs prog_4_method_4_code [(.astore 4, 2), (.aload 4, 2), (.dup, 1)] 21 26 = true := by decide +kernel
theorem d_Run_once_26 : decode prog_4_method_4_code 26 = .ok (.getfield 66, 3) := by decide +kernel
theorem b_Run_once_29_31 : decs prog_4_method_4_code [(.iload_n 3, 1), (.aload_n 0, 1)] 29 31 = true := by decide +kernel
theorem d_Run_once_31 : decode prog_4_method_4_code 31 = .ok (.getfield 3, 3) := by decide +kernel
theorem d_Run_once_34 : decode prog_4_method_4_code 34 = .ok (.getfield 135, 3) := by decide +kernel
theorem b_Run_once_37_40 : decs prog_4_method_4_code [(.imul, 1), (.aload 4, 2)] 37 40 = true := by decide +kernel
theorem d_Run_once_40 : decode prog_4_method_4_code 40 = .ok (.getfield 60, 3) := by decide +kernel
theorem d_Run_once_43 : decode prog_4_method_4_code 43 = .ok (.invokestatic 138, 3) := by decide +kernel
theorem b_Run_once_46_48 : decs prog_4_method_4_code [(.imul, 1), (.iadd, 1)] 46 48 = true := by decide +kernel
theorem d_Run_once_48 : decode prog_4_method_4_code 48 = .ok (.putfield 66, 3) := by decide +kernel
theorem b_Run_once_51_54 : decs prog_4_method_4_code [(.aload 4, 2), (.dup, 1)] 51 54 = true := by decide +kernel
theorem d_Run_once_54 : decode prog_4_method_4_code 54 = .ok (.getfield 72, 3) := by decide +kernel
theorem b_Run_once_57_59 : decs prog_4_method_4_code [(.iload_n 3, 1), (.aload_n 0, 1)] 57 59 = true := by decide +kernel
theorem d_Run_once_59 : decode prog_4_method_4_code 59 = .ok (.getfield 3, 3) := by decide +kernel
theorem d_Run_once_62 : decode prog_4_method_4_code 62 = .ok (.getfield 135, 3) := by decide +kernel
theorem b_Run_once_65_68 : decs prog_4_method_4_code [(.imul, 1), (.aload 4, 2)] 65 68 = true := by decide +kernel
theorem d_Run_once_68 : decode prog_4_method_4_code 68 = .ok (.getfield 60, 3) := by decide +kernel
theorem d_Run_once_71 : decode prog_4_method_4_code 71 = .ok (.invokestatic 142, 3) := by decide +kernel
theorem b_Run_once_74_76 : decs prog_4_method_4_code [(.imul, 1), (.iadd, 1)] 74 76 = true := by decide +kernel
theorem d_Run_once_76 : decode prog_4_method_4_code 76 = .ok (.putfield 72, 3) := by decide +kernel
theorem b_Run_once_79_83 : decs prog_4_method_4_code [(.aload 4, 2), (.aload 4, 2)] 79 83 = true := by decide +kernel
theorem d_Run_once_83 : decode prog_4_method_4_code 83 = .ok (.getfield 60, 3) := by decide +kernel
theorem b_Run_once_86_93 : decs prog_4_method_4_code [(.iload_n 3, 1), (.iload_n 1, 1), (.imul, 1), (.iadd, 1), (.bipush 63, 2), (.iand, 1)] 86 93 = true := by decide +kernel
theorem d_Run_once_93 : decode prog_4_method_4_code 93 = .ok (.putfield 60, 3) := by decide +kernel
theorem b_Run_once_96_99 : decs prog_4_method_4_code [(.iconst 1, 1), (.istore 5, 2)] 96 99 = true := by decide +kernel
theorem b_Run_once_99_102 : decs prog_4_method_4_code [(.iload 5, 2), (.aload_n 0, 1)] 99 102 = true := by decide +kernel
theorem d_Run_once_102 : decode prog_4_method_4_code 102 = .ok (.getfield 18, 3) := by decide +kernel
theorem d_Run_once_105 : decode prog_4_method_4_code 105 = .ok (.invokevirtual 42, 3) := by decide +kernel
theorem d_Run_once_108 : decode prog_4_method_4_code 108 = .ok (.if_icmp .ge 48, 3) := by decide +kernel
theorem b_Run_once_156_158 : decs prog_4_method_4_code [(.aload_n 0, 1), (.dup, 1)] 156 158 = true := by decide +kernel
theorem d_Run_once_158 : decode prog_4_method_4_code 158 = .ok (.getfield 132, 3) := by decide +kernel
theorem b_Run_once_161_163 : decs prog_4_method_4_code [(.iconst 1, 1), (.iadd, 1)] 161 163 = true := by decide +kernel
theorem d_Run_once_163 : decode prog_4_method_4_code 163 = .ok (.putfield 132, 3) := by decide +kernel
theorem b_Run_once_166_169 : decs prog_4_method_4_code [(.iconst 1, 1), (.istore 5, 2)] 166 169 = true := by decide +kernel
theorem b_Run_once_169_172 : decs prog_4_method_4_code [(.iload 5, 2), (.aload_n 0, 1)] 169 172 = true := by decide +kernel
theorem d_Run_once_172 : decode prog_4_method_4_code 172 = .ok (.getfield 18, 3) := by decide +kernel
theorem d_Run_once_175 : decode prog_4_method_4_code 175 = .ok (.invokevirtual 42, 3) := by decide +kernel
theorem d_Run_once_178 : decode prog_4_method_4_code 178 = .ok (.if_icmp .ge 71, 3) := by decide +kernel
theorem b_Run_once_249_250 : decs prog_4_method_4_code [(.aload_n 0, 1)] 249 250 = true := by decide +kernel
theorem d_Run_once_250 : decode prog_4_method_4_code 250 = .ok (.invokevirtual 82, 3) := by decide +kernel
theorem d_Run_once_253 : decode prog_4_method_4_code 253 = .ok (.return_, 1) := by decide +kernel
theorem b_Run_once_181_182 : decs prog_4_method_4_code [(.aload_n 0, 1)] 181 182 = true := by decide +kernel
theorem d_Run_once_182 : decode prog_4_method_4_code 182 = .ok (.getfield 18, 3) := by decide +kernel
theorem b_Run_once_185_187 : decs prog_4_method_4_code [(.iload 5, 2)] 185 187 = true := by decide +kernel
theorem d_Run_once_187 : decode prog_4_method_4_code 187 = .ok (.invokevirtual 48, 3) := by decide +kernel
theorem d_Run_once_190 : decode prog_4_method_4_code 190 = .ok (.checkcast 46, 3) := by decide +kernel
theorem b_Run_once_193_199 : decs prog_4_method_4_code [(.astore 6, 2), (.aload 6, 2), (.aload 6, 2)] 193 199 = true := by decide +kernel
theorem d_Run_once_199 : decode prog_4_method_4_code 199 = .ok (.getfield 148, 3) := by decide +kernel
theorem b_Run_once_202_204 : decs prog_4_method_4_code [(.aload 6, 2)] 202 204 = true := by decide +kernel
theorem d_Run_once_204 : decode prog_4_method_4_code 204 = .ok (.invokevirtual 151, 3) := by decide +kernel
theorem d_Run_once_207 : decode prog_4_method_4_code 207 = .ok (.invokestatic 154, 3) := by decide +kernel
theorem d_Run_once_210 : decode prog_4_method_4_code 210 = .ok (.invokestatic 95, 3) := by decide +kernel
theorem d_Run_once_213 : decode prog_4_method_4_code 213 = .ok (.putfield 148, 3) := by decide +kernel
theorem b_Run_once_216_218 : decs prog_4_method_4_code [(.aload_n 0, 1), (.dup, 1)] 216 218 = true := by decide +kernel
theorem d_Run_once_218 : decode prog_4_method_4_code 218 = .ok (.getfield 157, 3) := by decide +kernel
theorem b_Run_once_221_223 : decs prog_4_method_4_code [(.aload 6, 2)] 221 223 = true := by decide +kernel
theorem d_Run_once_223 : decode prog_4_method_4_code 223 = .ok (.invokevirtual 151, 3) := by decide +kernel
theorem d_Run_once_226 : decode prog_4_method_4_code 226 = .ok (.invokestatic 154, 3) := by decide +kernel
theorem b_Run_once_229_231 : decs prog_4_method_4_code [(.bipush 24, 2)] 229 231 = true := by decide +kernel
theorem b_Run_once_239_240 : decs prog_4_method_4_code [(.ior, 1)] 239 240 = true := by decide +kernel
theorem d_Run_once_240 : decode prog_4_method_4_code 240 = .ok (.putfield 157, 3) := by decide +kernel
theorem b_Run_once_243_246 : decs prog_4_method_4_code [(.iinc 5 1, 3)] 243 246 = true := by decide +kernel
theorem d_Run_once_246 : decode prog_4_method_4_code 246 = .ok (.goto (-77), 3) := by decide +kernel
theorem d_Run_once_231 : decode prog_4_method_4_code 231 = .ok (.if_icmp .le 7, 3) := by decide +kernel
theorem b_Run_once_238_239 : decs prog_4_method_4_code [(.iconst 0, 1)] 238 239 = true := by decide +kernel
theorem b_Run_once_234_235 : decs prog_4_method_4_code [(.iconst 1, 1)] 234 235 = true := by decide +kernel
theorem d_Run_once_235 : decode prog_4_method_4_code 235 = .ok (.goto 4, 3) := by decide +kernel
theorem b_Run_once_111_112 : decs prog_4_method_4_code [(.aload_n 0, 1)] 111 112 = true := by decide +kernel
theorem d_Run_once_112 : decode prog_4_method_4_code 112 = .ok (.getfield 18, 3) := by decide +kernel
theorem b_Run_once_115_117 : decs prog_4_method_4_code [(.iload 5, 2)] 115 117 = true := by decide +kernel
theorem d_Run_once_117 : decode prog_4_method_4_code 117 = .ok (.invokevirtual 48, 3) := by decide +kernel
theorem d_Run_once_120 : decode prog_4_method_4_code 120 = .ok (.checkcast 46, 3) := by decide +kernel
theorem b_Run_once_123_125 : decs prog_4_method_4_code [(.iload_n 3, 1), (.aload_n 0, 1)] 123 125 = true := by decide +kernel
theorem d_Run_once_125 : decode prog_4_method_4_code 125 = .ok (.getfield 3, 3) := by decide +kernel
theorem d_Run_once_128 : decode prog_4_method_4_code 128 = .ok (.getfield 135, 3) := by decide +kernel
theorem b_Run_once_131_132 : decs prog_4_method_4_code [(.imul, 1)] 131 132 = true := by decide +kernel
theorem d_Run_once_132 : decode prog_4_method_4_code 132 = .ok (.invokevirtual 145, 3) := by decide +kernel
theorem b_Run_once_135_136 : decs prog_4_method_4_code [(.aload_n 0, 1)] 135 136 = true := by decide +kernel
theorem d_Run_once_136 : decode prog_4_method_4_code 136 = .ok (.getfield 18, 3) := by decide +kernel
theorem b_Run_once_139_141 : decs prog_4_method_4_code [(.iload 5, 2)] 139 141 = true := by decide +kernel
theorem d_Run_once_141 : decode prog_4_method_4_code 141 = .ok (.invokevirtual 48, 3) := by decide +kernel
theorem d_Run_once_144 : decode prog_4_method_4_code 144 = .ok (.checkcast 46, 3) := by decide +kernel
theorem d_Run_once_147 : decode prog_4_method_4_code 147 = .ok (.invokevirtual 75, 3) := by decide +kernel
theorem b_Run_once_150_153 : decs prog_4_method_4_code [(.iinc 5 1, 3)] 150 153 = true := by decide +kernel
theorem d_Run_once_153 : decode prog_4_method_4_code 153 = .ok (.goto (-54), 3) := by decide +kernel
theorem b_Run_once_0_1 : decs prog_4_method_4_code [(.iload_n 2, 1)] 0 1 = true := by decide +kernel
theorem d_Run_once_1 : decode prog_4_method_4_code 1 = .ok (.ifCond .eq 7, 3) := by decide +kernel
theorem b_Run_once_8_9 : decs prog_4_method_4_code [(.iconst (-1), 1)] 8 9 = true := by decide +kernel
theorem b_Run_once_4_5 : decs prog_4_method_4_code [(.iconst 1, 1)] 4 5 = true := by decide +kernel
theorem d_Run_once_5 : decode prog_4_method_4_code 5 = .ok (.goto 4, 3) := by decide +kernel
set_option maxRecDepth 100000 in
set_option maxHeartbeats 4000000 in
theorem c_Run_once (l : Launch) (G : GG) (A : Nat → Prop) (rb n : Nat) (md : Int32) (rd sd : Nat → Nat) (w0 : WF) (rv : Value) (sc : Nat → Int32) (ar : Nat → Nat → Int32) (b : Bt) (np : Nat) (turn fw : Int32) (sz tz : Nat) (h1 : sc 1 = nI n) (hn0 : 0 < n) (hn : n ≤ 3) (hrb : 100 ≤ rb) (hL : spL G w0 sd rv n sc ar) (hB : BR b (ar 17)) (h6 : sc 6 = nI np) (hnp : np ≤ 20) (h7 : ¬ sc 7 + 1 = -1) (h8 : b01 (sc 8)) (hlen : ∀ k, k < n → ¬ ar 1 k = 0) (hg : ∀ k, k < n → rgC (grI (va_up sc 7 (sc 7 + 1), mvI (mvA sc ar turn (wayO fw)) (wayO fw) (sc 5) (n - 1)) (n - 1)).2 k) : Met l y_Run_once (Cond.code y_Run_once prog_4_method_4_code 7 none :: wt) { frames := 7, cells := (pc6 b.2.1), slots := (ps6 b.2.1), locals := 183 } (Pre G A (rW G rb n md rd sd w0 sc ar b) (fun H => H.size = sz ∧ hTot H = tz) [.ref (rd 0), .int turn, .int fw]) (Qx0 (X := Bt) A (fun x H => BR x ((fMove (sc, ar) turn fw).2 17) ∧ rmP sz tz b.2.1 x.2.1 H) G (fun x => (rW G rb n md rd sd w0 (fMove (sc, ar) turn fw).1 (fMove (sc, ar) turn fw).2 x))) (pc6 b.2.1) (ps6 b.2.1) A := by
  refine mt_of (by decide) (Nat.le_of_ble_eq_true rfl) ?_
  intro p e s m below meth c ls C hH hA hE hr hmn hl
  have hl : lv_has ls 7 [(0, .ref (rd 0)), (1, .int turn), (2, .int fw)] := hl
  refine x_join (X := Unit) (nL := 7) (fun _ => True) (fun _ => [(0, .ref (rd 0)), (1, .int turn), (2, .int fw)]) (fun _ => [.int (wayO fw)]) 9 (fun ls _ hl _ => ?_) (fun J8 => ?_)
  · have hl : lv_has ls 7 [(0, .ref (rd 0)), (1, .int turn), (2, .int fw)] := hl
    refine x_sx C b_Run_once_9_11 hl (L' := [(3, .int (wayO fw)), (0, .ref (rd 0)), (1, .int turn), (2, .int fw)]) (st' := [.ref (rd 0)]) rfl (fun ls hl => ?_)
    refine x_get C hH.1 rb rW_o 0 (v := .ref (rd 1)) rfl rfl (by decide) t_265 (fun _ z => z) d_Run_once_11 ?_
    refine x_sx C b_Run_once_14_15 hl (L' := [(3, .int (wayO fw)), (0, .ref (rd 0)), (1, .int turn), (2, .int fw)]) (st' := [.int 0, .ref (rd 1)]) rfl (fun ls hl => ?_)
    refine x_ro (x_cV C hH.1 (rW_t (by omega)) rfl (c_AL_get l G (rW G rb n md rd sd w0 sc ar b) (rb + 1) (rb + 2) (rd 1) (rd 2) n 0 (rd (5 + 0)) md (tdF rd n) (rW_t (by omega)) (rW_d (by omega)) (show 0 < n by omega) (by omega) (if_pos (show 0 < n by omega))) t_157 t_4 t_154 t_155 t_156 hd_AL_get blind_Pro (pre_ro C hH.1 hH.2.2) (As := [.int 0]) (rest := []) rfl hl.1 rfl rfl rfl ⟨Nat.le_of_ble_eq_true rfl, Nat.le_of_ble_eq_true rfl⟩ (Nat.le_of_ble_eq_true rfl) ⟨Nat.zero_le _, Nat.zero_le _⟩ d_Run_once_15) ?_
    refine x_cast C hH.1 (rb + 5 + 0) (rW_b (show 0 < n by omega)) rfl t_152 d_Run_once_18 ?_
    refine x_sx C b_Run_once_21_26 hl (L' := [(4, .ref (rd (5 + 0))), (3, .int (wayO fw)), (0, .ref (rd 0)), (1, .int turn), (2, .int fw)]) (st' := [.ref (rd (5 + 0)), .ref (rd (5 + 0))]) rfl (fun ls hl => ?_)
    refine x_get C hH.1 (rb + 5 + 0) (rW_b (show 0 < n by omega)) 2 (v := .int (ar 12 0)) rfl rfl (by decide) t_177 (fun _ z => z) d_Run_once_26 ?_
    refine x_sx C b_Run_once_29_31 hl (L' := [(4, .ref (rd (5 + 0))), (3, .int (wayO fw)), (0, .ref (rd 0)), (1, .int turn), (2, .int fw)]) (st' := [.ref (rd 0), .int (wayO fw), .int (ar 12 0), .ref (rd (5 + 0))]) rfl (fun ls hl => ?_)
    refine x_get C hH.1 rb rW_o 7 (v := .ref (sd 0)) rfl rfl (by decide) t_279 (fun _ z => z) d_Run_once_31 ?_
    refine x_getN C hH.1 0 ((rW_0 (Or.inl (by omega)) hn).trans hL.1) 8 (v := .int (sc 5)) rfl rfl (by decide) t_313 (fun _ z => z) d_Run_once_34 ?_
    refine x_sx C b_Run_once_37_40 hl (L' := [(4, .ref (rd (5 + 0))), (3, .int (wayO fw)), (0, .ref (rd 0)), (1, .int turn), (2, .int fw)]) (st' := [.ref (rd (5 + 0)), .int ((wayO fw) * (sc 5)), .int (ar 12 0), .ref (rd (5 + 0))]) rfl (fun ls hl => ?_)
    refine x_get C hH.1 (rb + 5 + 0) (rW_b (show 0 < n by omega)) 4 (v := .int (ar 14 0)) rfl rfl (by decide) t_183 (fun _ z => z) d_Run_once_40 ?_
    refine x_ro (x_cSN C (c_SP_dx l G (rW G rb n md rd sd w0 sc ar b) (ar 14 0)) t_210 t_1 t_523 t_209 hd_SP_dx blind_Pro (pre_ro C hH.1 hH.2.2) (As := [.int (ar 14 0)]) (rest := [.int ((wayO fw) * (sc 5)), .int (ar 12 0), .ref (rd (5 + 0))]) rfl hl.1 rfl rfl rfl ⟨Nat.le_of_ble_eq_true rfl, Nat.le_of_ble_eq_true rfl⟩ (Nat.le_of_ble_eq_true rfl) ⟨Nat.zero_le _, Nat.zero_le _⟩ d_Run_once_43) ?_
    refine x_sx C b_Run_once_46_48 hl (L' := [(4, .ref (rd (5 + 0))), (3, .int (wayO fw)), (0, .ref (rd 0)), (1, .int turn), (2, .int fw)]) (st' := [.int ((ar 12 0) + (((wayO fw) * (sc 5)) * (p_dx (ar 14 0)))), .ref (rd (5 + 0))]) rfl (fun ls hl => ?_)
    refine x_put C hH (rb + 5 + 0) (rW_b (show 0 < n by omega)) 2 (v := .int ((ar 12 0) + (((wayO fw) * (sc 5)) * (p_dx (ar 14 0))))) (show 2 < 7 by decide) rfl (by decide) t_177 (fun _ z => z) rfl rfl rfl d_Run_once_48 (fun H locs hH => ?_)
    rw [rW_bput (ar := ar) (show 0 < n by omega) 2 12 (by decide) rfl] at hH
    refine x_sx C b_Run_once_51_54 hl (L' := [(4, .ref (rd (5 + 0))), (3, .int (wayO fw)), (0, .ref (rd 0)), (1, .int turn), (2, .int fw)]) (st' := [.ref (rd (5 + 0)), .ref (rd (5 + 0))]) rfl (fun ls hl => ?_)
    refine x_get C hH.1 (rb + 5 + 0) (rW_b (show 0 < n by omega)) 3 (v := .int (ar 13 0)) rfl rfl (by decide) t_180 (fun _ z => z) d_Run_once_54 ?_
    refine x_sx C b_Run_once_57_59 hl (L' := [(4, .ref (rd (5 + 0))), (3, .int (wayO fw)), (0, .ref (rd 0)), (1, .int turn), (2, .int fw)]) (st' := [.ref (rd 0), .int (wayO fw), .int (ar 13 0), .ref (rd (5 + 0))]) rfl (fun ls hl => ?_)
    refine x_get C hH.1 rb rW_o 7 (v := .ref (sd 0)) rfl rfl (by decide) t_279 (fun _ z => z) d_Run_once_59 ?_
    refine x_getN C hH.1 0 ((rW_0 (Or.inl (by omega)) hn).trans hL.1) 8 (v := .int (sc 5)) rfl rfl (by decide) t_313 (fun _ z => z) d_Run_once_62 ?_
    refine x_sx C b_Run_once_65_68 hl (L' := [(4, .ref (rd (5 + 0))), (3, .int (wayO fw)), (0, .ref (rd 0)), (1, .int turn), (2, .int fw)]) (st' := [.ref (rd (5 + 0)), .int ((wayO fw) * (sc 5)), .int (ar 13 0), .ref (rd (5 + 0))]) rfl (fun ls hl => ?_)
    refine x_get C hH.1 (rb + 5 + 0) (rW_b (show 0 < n by omega)) 4 (v := .int (ar 14 0)) rfl rfl (by decide) t_183 (fun _ z => z) d_Run_once_68 ?_
    refine x_ro (x_cSN C (c_SP_dy l G (rW G rb n md rd sd w0 sc (va_up ar 12 (upd (ar 12) 0 ((ar 12 0) + (((wayO fw) * (sc 5)) * (p_dx (ar 14 0)))))) b) (ar 14 0)) t_215 t_1 t_524 t_214 hd_SP_dy blind_Pro (pre_ro C hH.1 hH.2.2) (As := [.int (ar 14 0)]) (rest := [.int ((wayO fw) * (sc 5)), .int (ar 13 0), .ref (rd (5 + 0))]) rfl hl.1 rfl rfl rfl ⟨Nat.le_of_ble_eq_true rfl, Nat.le_of_ble_eq_true rfl⟩ (Nat.le_of_ble_eq_true rfl) ⟨Nat.zero_le _, Nat.zero_le _⟩ d_Run_once_71) ?_
    refine x_sx C b_Run_once_74_76 hl (L' := [(4, .ref (rd (5 + 0))), (3, .int (wayO fw)), (0, .ref (rd 0)), (1, .int turn), (2, .int fw)]) (st' := [.int ((ar 13 0) + (((wayO fw) * (sc 5)) * (p_dy (ar 14 0)))), .ref (rd (5 + 0))]) rfl (fun ls hl => ?_)
    refine x_put C hH (rb + 5 + 0) (rW_b (show 0 < n by omega)) 3 (v := .int ((ar 13 0) + (((wayO fw) * (sc 5)) * (p_dy (ar 14 0))))) (show 3 < 7 by decide) rfl (by decide) t_180 (fun _ z => z) rfl rfl rfl d_Run_once_76 (fun H locs hH => ?_)
    rw [rW_bput (ar := (va_up ar 12 (upd (ar 12) 0 ((ar 12 0) + (((wayO fw) * (sc 5)) * (p_dx (ar 14 0))))))) (show 0 < n by omega) 3 13 (by decide) rfl] at hH
    refine x_sx C b_Run_once_79_83 hl (L' := [(4, .ref (rd (5 + 0))), (3, .int (wayO fw)), (0, .ref (rd 0)), (1, .int turn), (2, .int fw)]) (st' := [.ref (rd (5 + 0)), .ref (rd (5 + 0))]) rfl (fun ls hl => ?_)
    refine x_get C hH.1 (rb + 5 + 0) (rW_b (show 0 < n by omega)) 4 (v := .int (ar 14 0)) rfl rfl (by decide) t_183 (fun _ z => z) d_Run_once_83 ?_
    refine x_sx C b_Run_once_86_93 hl (L' := [(4, .ref (rd (5 + 0))), (3, .int (wayO fw)), (0, .ref (rd 0)), (1, .int turn), (2, .int fw)]) (st' := [.int (((ar 14 0) + ((wayO fw) * turn)) &&& 63), .ref (rd (5 + 0))]) rfl (fun ls hl => ?_)
    refine x_put C hH (rb + 5 + 0) (rW_b (show 0 < n by omega)) 4 (v := .int (((ar 14 0) + ((wayO fw) * turn)) &&& 63)) (show 4 < 7 by decide) rfl (by decide) t_183 (fun _ z => z) rfl rfl rfl d_Run_once_93 (fun H locs hH => ?_)
    rw [rW_bput (ar := (va_up (va_up ar 12 (upd (ar 12) 0 ((ar 12 0) + (((wayO fw) * (sc 5)) * (p_dx (ar 14 0)))))) 13 (upd ((va_up ar 12 (upd (ar 12) 0 ((ar 12 0) + (((wayO fw) * (sc 5)) * (p_dx (ar 14 0)))))) 13) 0 ((ar 13 0) + (((wayO fw) * (sc 5)) * (p_dy (ar 14 0))))))) (show 0 < n by omega) 4 14 (by decide) rfl] at hH
    refine x_sx C b_Run_once_96_99 hl (L' := [(5, .int 1), (4, .ref (rd (5 + 0))), (3, .int (wayO fw)), (0, .ref (rd 0)), (1, .int turn), (2, .int fw)]) (st' := []) rfl (fun ls hl => ?_)
    have hH : Hw G A s (rW G rb n md rd sd w0 sc (mvA sc ar turn (wayO fw)) b) H locs := hH
    have hA0 : ∀ i, i ≠ 12 → i ≠ 13 → i ≠ 14 → i ≠ 15 → ∀ b, mvI (mvA sc ar turn (wayO fw)) (wayO fw) (sc 5) b i = ar i := fun i q1 q2 q3 q4 b => (mvI_n _ _ _ _ q1 q2 q3 q4).trans (mvA_n _ _ _ _ q1 q2 q3)
    generalize hma : mvA sc ar turn (wayO fw) = ara at hH hA0
    refine x_loop (X := Nat) (fun x => n - x) (fun x H locs => x ≤ n - 1 ∧ Hw G A s (rW G rb n md rd sd w0 sc (mvI ara (wayO fw) (sc 5) x) b) H locs) (fun x => [(0, .ref (rd 0)), (1, .int turn), (2, .int fw), (3, .int (wayO fw)), (5, .int (nI (x + 1)))]) 99 ?_ 0 _ _ _ ⟨Nat.zero_le _, hH⟩ (lv_sub hl [3, 4, 5, 2, 0] rfl)
    intro i H locs ls hI hl IH1
    obtain ⟨hin, hH⟩ := hI
    have hl : lv_has ls 7 [(0, .ref (rd 0)), (1, .int turn), (2, .int fw), (3, .int (wayO fw)), (5, .int (nI (i + 1)))] := hl
    have hs := mvI_s ara (wayO fw) (sc 5) i
    have hA1 : ∀ j, j ≠ 12 → j ≠ 13 → j ≠ 14 → j ≠ 15 → mvI ara (wayO fw) (sc 5) i j = ar j := fun j q1 q2 q3 q4 => hA0 j q1 q2 q3 q4 i
    generalize hmi : mvI ara (wayO fw) (sc 5) i = ari at hH hs hA1
    have hLi : spL G w0 sd rv n sc ari := hL.congr (fun _ _ _ => rfl) (fun j q1 q2 => hA1 j (by omega) (by omega) (by omega) (by omega))
    refine x_sx C b_Run_once_99_102 hl (L' := [(0, .ref (rd 0)), (1, .int turn), (2, .int fw), (3, .int (wayO fw)), (5, .int (nI (i + 1)))]) (st' := [.ref (rd 0), .int (nI (i + 1))]) rfl (fun ls hl => ?_)
    refine x_get C hH.1 rb rW_o 0 (v := .ref (rd 1)) rfl rfl (by decide) t_265 (fun _ z => z) d_Run_once_102 ?_
    refine x_ro (x_cV C hH.1 (rW_t (by omega)) rfl (c_AL_size l G (rW G rb n md rd sd w0 sc ari b) (rb + 1) (rd 1) (rd 2) (nI n) md (rW_t (by omega))) t_151 t_4 t_148 t_149 t_150 hd_AL_size blind_Pro (pre_ro C hH.1 hH.2.2) (As := []) (rest := [.int (nI (i + 1))]) rfl hl.1 rfl rfl rfl ⟨Nat.le_of_ble_eq_true rfl, Nat.le_of_ble_eq_true rfl⟩ (Nat.le_of_ble_eq_true rfl) ⟨Nat.zero_le _, Nat.zero_le _⟩ d_Run_once_105) ?_
    refine lv_icmp_ge (tgt := 156) C.1 C.2.1 d_Run_once_108 (by decide) (fun hb => ?_) (fun hb => ?_)
    · have hi1 : i = n - 1 := by rw [nI_leI (by omega) (by omega)] at hb; omega
      refine x_sx C b_Run_once_156_158 hl (L' := [(0, .ref (rd 0)), (1, .int turn), (2, .int fw), (3, .int (wayO fw)), (5, .int (nI (i + 1)))]) (st' := [.ref (rd 0), .ref (rd 0)]) rfl (fun ls hl => ?_)
      refine x_get C hH.1 rb rW_o 2 (v := .int (sc 7)) rfl rfl (by decide) t_269 (fun _ z => z) d_Run_once_158 ?_
      refine x_sx C b_Run_once_161_163 hl (L' := [(0, .ref (rd 0)), (1, .int turn), (2, .int fw), (3, .int (wayO fw)), (5, .int (nI (i + 1)))]) (st' := [.int ((sc 7) + 1), .ref (rd 0)]) rfl (fun ls hl => ?_)
      refine x_put C hH rb rW_o 2 (v := .int ((sc 7) + 1)) (show 2 < 8 by decide) rfl (by decide) t_269 (fun _ z => z) rfl rfl rfl d_Run_once_163 (fun H locs hH => ?_)
      rw [rW_ob (fs := (rFs rd sd sc).set 2 (.int ((sc 7) + 1))) (sc' := (va_up sc 7 ((sc 7) + 1))) rfl] at hH
      refine x_sx C b_Run_once_166_169 hl (L' := [(5, .int 1), (0, .ref (rd 0)), (1, .int turn), (2, .int fw), (3, .int (wayO fw))]) (st' := []) rfl (fun ls hl => ?_)
      refine x_loop (X := Nat) (fun x => n - x) (fun x H locs => x ≤ n - 1 ∧ Hw G A s (rW G rb n md rd sd w0 (grI (va_up sc 7 (sc 7 + 1), ari) x).1 (grI (va_up sc 7 (sc 7 + 1), ari) x).2 b) H locs) (fun x => [(0, .ref (rd 0)), (5, .int (nI (x + 1)))]) 169 ?_ 0 _ _ _ ⟨Nat.zero_le _, hH⟩ (lv_sub hl [1, 0] rfl)
      clear hb hin hs hl
      intro g H locs ls hI hl IH2
      obtain ⟨hgn, hH⟩ := hI
      have hl : lv_has ls 7 [(0, .ref (rd 0)), (5, .int (nI (g + 1)))] := hl
      have hs2 := grI_s (va_up sc 7 (sc 7 + 1), ari) g
      have e1 : (grI (va_up sc 7 (sc 7 + 1), ari) g).1 1 = nI n := (grI_sc _ _ (by decide)).trans h1
      have e6 : (grI (va_up sc 7 (sc 7 + 1), ari) g).1 6 = nI np := (grI_sc _ _ (by decide)).trans h6
      have e7 : ¬ (grI (va_up sc 7 (sc 7 + 1), ari) g).1 7 = -1 := fun z => h7 ((grI_sc (va_up sc 7 (sc 7 + 1), ari) g (by decide)).symm.trans z)
      have e8 : b01 ((grI (va_up sc 7 (sc 7 + 1), ari) g).1 8) := grI_8 _ _ h8
      have e17 : (grI (va_up sc 7 (sc 7 + 1), ari) g).2 17 = ar 17 := (grI_ar _ _ (by decide)).trans (hA1 17 (by decide) (by decide) (by decide) (by decide))
      have hLg : spL G w0 sd rv n (grI (va_up sc 7 (sc 7 + 1), ari) g).1 (grI (va_up sc 7 (sc 7 + 1), ari) g).2 := hLi.congr (fun j q1 q2 => (grI_sc _ _ (by omega)).trans (up_n _ _ (by omega))) (fun j q1 q2 => grI_ar _ _ (by omega))
      generalize hgi : grI (va_up sc 7 (sc 7 + 1), ari) g = stg at hH hs2 e1 e6 e7 e8 e17 hLg
      obtain ⟨scg, arg⟩ := stg
      dsimp only at hH e1 e6 e7 e8 e17 hLg
      refine x_sx C b_Run_once_169_172 hl (L' := [(0, .ref (rd 0)), (5, .int (nI (g + 1)))]) (st' := [.ref (rd 0), .int (nI (g + 1))]) rfl (fun ls hl => ?_)
      refine x_get C hH.1 rb rW_o 0 (v := .ref (rd 1)) rfl rfl (by decide) t_265 (fun _ z => z) d_Run_once_172 ?_
      refine x_ro (x_cV C hH.1 (rW_t (by omega)) rfl (c_AL_size l G (rW G rb n md rd sd w0 scg arg b) (rb + 1) (rd 1) (rd 2) (nI n) md (rW_t (by omega))) t_151 t_4 t_148 t_149 t_150 hd_AL_size blind_Pro (pre_ro C hH.1 hH.2.2) (As := []) (rest := [.int (nI (g + 1))]) rfl hl.1 rfl rfl rfl ⟨Nat.le_of_ble_eq_true rfl, Nat.le_of_ble_eq_true rfl⟩ (Nat.le_of_ble_eq_true rfl) ⟨Nat.zero_le _, Nat.zero_le _⟩ d_Run_once_175) ?_
      refine lv_icmp_ge (tgt := 249) C.1 C.2.1 d_Run_once_178 (by decide) (fun hb2 => ?_) (fun hb2 => ?_)
      · have hg1 : g = n - 1 := by rw [nI_leI (by omega) (by omega)] at hb2; omega
        have hfin : fMove (sc, ar) turn fw = lookI (scg, arg) n := by
          unfold fMove
          rw [show nB (sc, ar) = n from by unfold nB; dsimp only; rw [h1, nI_clamp (by omega)]]
          dsimp only
          rw [hma, ← hi1, hmi, hi1, ← hg1, hgi]
          unfold fLook nB
          dsimp only
          rw [e1, nI_clamp (by omega)]
        have hg2 : ∀ k, k < n → rgC arg k := by
          intro k hk
          have q := hg k hk
          rw [hma, ← hi1, hmi, hi1, ← hg1, hgi] at q
          exact q
        refine W.know (fun k1 k2 k3 k4 => ?_)
        refine x_sx C b_Run_once_249_250 hl (L' := [(0, .ref (rd 0)), (5, .int (nI (g + 1)))]) (st' := [.ref (rd 0)]) rfl (fun ls hl => ?_)
        refine x_q0 (x_cV C hH.1 rW_o rfl (c_Run_look l G A rb n md rd sd w0 rv scg arg b np H.size (hTot H) hn hrb hLg (by rw [e17]; exact hB) e6 hnp e7 hg2) t_221 t_9 t_218 t_220 ts_4 hd_Run_look blind_Pre (pre_mt C hH hA ⟨rfl, rfl⟩) (As := []) (rest := []) rfl hl.1 rfl rfl rfl ⟨Nat.le_of_ble_eq_true rfl, Nat.le_of_ble_eq_true rfl⟩ (Nat.le_of_ble_eq_true rfl) ⟨(by show 0 + pc6 b.2.1 ≤ pc6 b.2.1; omega), (by show 0 + ps6 b.2.1 ≤ ps6 b.2.1; omega)⟩ d_Run_once_250) hH.2.2 (fun x H locs hx hH hz => ?_)
        obtain ⟨hx0, hx1, hx2, hx3⟩ := hx
        exact x_vrt C hr hH.2.2 ⟨x, rfl, ⟨by rw [hfin]; exact hx0, hx1, by have := hE.1; omega, by have := hE.2; omega⟩, by rw [hfin]; exact hH.1, by rw [hfin]; exact hH.2.1⟩ (by omega) (by omega) d_Run_once_253
      · have hk : g + 1 < n := by rw [nI_leI (by omega) (by omega)] at hb2; omega
        refine x_sx C b_Run_once_181_182 hl (L' := [(0, .ref (rd 0)), (5, .int (nI (g + 1)))]) (st' := [.ref (rd 0)]) rfl (fun ls hl => ?_)
        refine x_get C hH.1 rb rW_o 0 (v := .ref (rd 1)) rfl rfl (by decide) t_265 (fun _ z => z) d_Run_once_182 ?_
        refine x_sx C b_Run_once_185_187 hl (L' := [(0, .ref (rd 0)), (5, .int (nI (g + 1)))]) (st' := [.int (nI (g + 1)), .ref (rd 1)]) rfl (fun ls hl => ?_)
        refine x_ro (x_cV C hH.1 (rW_t (by omega)) rfl (c_AL_get l G (rW G rb n md rd sd w0 scg arg b) (rb + 1) (rb + 2) (rd 1) (rd 2) n (g + 1) (rd (5 + (g + 1))) md (tdF rd n) (rW_t (by omega)) (rW_d (by omega)) hk (by omega) (if_pos hk)) t_157 t_4 t_154 t_155 t_156 hd_AL_get blind_Pro (pre_ro C hH.1 hH.2.2) (As := [.int (nI (g + 1))]) (rest := []) rfl hl.1 rfl rfl rfl ⟨Nat.le_of_ble_eq_true rfl, Nat.le_of_ble_eq_true rfl⟩ (Nat.le_of_ble_eq_true rfl) ⟨Nat.zero_le _, Nat.zero_le _⟩ d_Run_once_187) ?_
        refine x_cast C hH.1 (rb + 5 + (g + 1)) (rW_b hk) rfl t_152 d_Run_once_190 ?_
        refine x_sx C b_Run_once_193_199 hl (L' := [(6, .ref (rd (5 + (g + 1)))), (0, .ref (rd 0)), (5, .int (nI (g + 1)))]) (st' := [.ref (rd (5 + (g + 1))), .ref (rd (5 + (g + 1)))]) rfl (fun ls hl => ?_)
        refine x_get C hH.1 (rb + 5 + (g + 1)) (rW_b1 hk) 6 (v := .int (arg 16 (g + 1))) rfl rfl (by decide) t_187 (fun _ z => z) d_Run_once_199 ?_
        refine x_sx C b_Run_once_202_204 hl (L' := [(6, .ref (rd (5 + (g + 1)))), (0, .ref (rd 0)), (5, .int (nI (g + 1)))]) (st' := [.ref (rd (5 + (g + 1))), .int (arg 16 (g + 1)), .ref (rd (5 + (g + 1)))]) rfl (fun ls hl => ?_)
        refine x_ro (x_cV C hH.1 (rW_b1 hk) rfl (c_Body_askew l G (rW G rb n md rd sd w0 scg arg b) (rb + 5 + (g + 1)) (rb + 5 + g) (rd (5 + (g + 1))) (rd (5 + g)) (sd (20 + (g + 1))) (sd (20 + g)) (bfV rd g) (arg 12 (g + 1)) (arg 13 (g + 1)) (arg 14 (g + 1)) (arg 15 (g + 1)) (arg 16 (g + 1)) (arg 12 g) (arg 13 g) (arg 14 g) (arg 15 g) (arg 16 g) (rW_b1 hk) (rW_b (show g < n by omega))) t_532 t_11 t_533 t_530 t_531 hd_Body_askew blind_Pro (pre_ro C hH.1 hH.2.2) (As := []) (rest := [.int (arg 16 (g + 1)), .ref (rd (5 + (g + 1)))]) rfl hl.1 rfl rfl rfl ⟨Nat.le_of_ble_eq_true rfl, Nat.le_of_ble_eq_true rfl⟩ (Nat.le_of_ble_eq_true rfl) ⟨Nat.zero_le _, Nat.zero_le _⟩ d_Run_once_204) ?_
        refine x_ro (x_cS C (c_Math_abs l G (rW G rb n md rd sd w0 scg arg b) (p_wr (arg 14 g - arg 14 (g + 1)))) t_536 t_6 t_534 t_535 hd_Math_abs blind_Pro (pre_ro C hH.1 hH.2.2) (As := [.int (p_wr (arg 14 g - arg 14 (g + 1)))]) (rest := [.int (arg 16 (g + 1)), .ref (rd (5 + (g + 1)))]) rfl hl.1 rfl rfl rfl ⟨Nat.le_of_ble_eq_true rfl, Nat.le_of_ble_eq_true rfl⟩ (Nat.le_of_ble_eq_true rfl) ⟨Nat.zero_le _, Nat.zero_le _⟩ d_Run_once_207) ?_
        rw [← ask_s, abs_sz]
        refine x_ro (x_cS C (c_Math_max l G (rW G rb n md rd sd w0 scg arg b) (arg 16 (g + 1)) (szB arg (g + 1))) t_79 t_6 t_226 t_78 hd_Math_max blind_Pro (pre_ro C hH.1 hH.2.2) (As := [.int (arg 16 (g + 1)), .int (szB arg (g + 1))]) (rest := [.ref (rd (5 + (g + 1)))]) rfl hl.1 rfl rfl rfl ⟨Nat.le_of_ble_eq_true rfl, Nat.le_of_ble_eq_true rfl⟩ (Nat.le_of_ble_eq_true rfl) ⟨Nat.zero_le _, Nat.zero_le _⟩ d_Run_once_210) ?_
        refine x_put C hH (rb + 5 + (g + 1)) (rW_b hk) 6 (v := .int (p_max (arg 16 (g + 1)) (szB arg (g + 1)))) (show 6 < 7 by decide) rfl (by decide) t_187 (fun _ z => z) rfl rfl rfl d_Run_once_213 (fun H locs hH => ?_)
        rw [rW_bput (ar := arg) hk 6 16 (by decide) rfl] at hH
        have hH : Hw G A s (rW G rb n md rd sd w0 scg (grB (scg, arg) (g + 1)).2 b) H locs := hH
        have hLh : spL G w0 sd rv n scg (grB (scg, arg) (g + 1)).2 := hLg.congr (fun _ _ _ => rfl) (fun j q1 q2 => grB_ar (scg, arg) (g + 1) (by omega))
        have q14 : (grB (scg, arg) (g + 1)).2 14 = arg 14 := grB_ar (scg, arg) (g + 1) (by decide)
        obtain ⟨arh, harh⟩ : ∃ arh, arh = (grB (scg, arg) (g + 1)).2 := ⟨_, rfl⟩
        rw [← harh] at hH hLh q14
        refine x_sx C b_Run_once_216_218 hl (L' := [(6, .ref (rd (5 + (g + 1)))), (0, .ref (rd 0)), (5, .int (nI (g + 1)))]) (st' := [.ref (rd 0), .ref (rd 0)]) rfl (fun ls hl => ?_)
        refine x_get C hH.1 rb rW_o 3 (v := .int (scg 8)) rfl rfl (by decide) t_271 (fun _ z => z) d_Run_once_218 ?_
        refine x_sx C b_Run_once_221_223 hl (L' := [(6, .ref (rd (5 + (g + 1)))), (0, .ref (rd 0)), (5, .int (nI (g + 1)))]) (st' := [.ref (rd (5 + (g + 1))), .int (scg 8), .ref (rd 0)]) rfl (fun ls hl => ?_)
        refine x_ro (x_cV C hH.1 (rW_b1 hk) rfl (c_Body_askew l G (rW G rb n md rd sd w0 scg arh b) (rb + 5 + (g + 1)) (rb + 5 + g) (rd (5 + (g + 1))) (rd (5 + g)) (sd (20 + (g + 1))) (sd (20 + g)) (bfV rd g) (arh 12 (g + 1)) (arh 13 (g + 1)) (arh 14 (g + 1)) (arh 15 (g + 1)) (arh 16 (g + 1)) (arh 12 g) (arh 13 g) (arh 14 g) (arh 15 g) (arh 16 g) (rW_b1 hk) (rW_b (show g < n by omega))) t_532 t_11 t_533 t_530 t_531 hd_Body_askew blind_Pro (pre_ro C hH.1 hH.2.2) (As := []) (rest := [.int (scg 8), .ref (rd 0)]) rfl hl.1 rfl rfl rfl ⟨Nat.le_of_ble_eq_true rfl, Nat.le_of_ble_eq_true rfl⟩ (Nat.le_of_ble_eq_true rfl) ⟨Nat.zero_le _, Nat.zero_le _⟩ d_Run_once_223) ?_
        refine x_ro (x_cS C (c_Math_abs l G (rW G rb n md rd sd w0 scg arh b) (p_wr (arh 14 g - arh 14 (g + 1)))) t_536 t_6 t_534 t_535 hd_Math_abs blind_Pro (pre_ro C hH.1 hH.2.2) (As := [.int (p_wr (arh 14 g - arh 14 (g + 1)))]) (rest := [.int (scg 8), .ref (rd 0)]) rfl hl.1 rfl rfl rfl ⟨Nat.le_of_ble_eq_true rfl, Nat.le_of_ble_eq_true rfl⟩ (Nat.le_of_ble_eq_true rfl) ⟨Nat.zero_le _, Nat.zero_le _⟩ d_Run_once_226) ?_
        rw [q14, ← ask_s, abs_sz]
        refine x_sx C b_Run_once_229_231 hl (L' := [(6, .ref (rd (5 + (g + 1)))), (0, .ref (rd 0)), (5, .int (nI (g + 1)))]) (st' := [.int 24, .int (szB arg (g + 1)), .int (scg 8), .ref (rd 0)]) rfl (fun ls hl => ?_)
        refine x_join (X := Unit) (nL := 7) (fun _ => True) (fun _ => [(6, .ref (rd (5 + (g + 1)))), (0, .ref (rd 0)), (5, .int (nI (g + 1)))]) (fun _ => [.int (if 24 < szB arg (g + 1) then 1 else 0), .int (scg 8), .ref (rd 0)]) 239 (fun ls _ hl _ => ?_) (fun J9 => ?_)
        · have hl : lv_has ls 7 [(6, .ref (rd (5 + (g + 1)))), (0, .ref (rd 0)), (5, .int (nI (g + 1)))] := hl
          refine x_sx C b_Run_once_239_240 hl (L' := [(6, .ref (rd (5 + (g + 1)))), (0, .ref (rd 0)), (5, .int (nI (g + 1)))]) (st' := [.int ((scg 8) ||| (if 24 < szB arg (g + 1) then 1 else 0)), .ref (rd 0)]) rfl (fun ls hl => ?_)
          rw [or01 e8]
          refine x_put C hH rb rW_o 3 (v := .int (if ¬ scg 8 = 0 ∨ 24 < szB arg (g + 1) then 1 else 0)) (show 3 < 8 by decide) rfl (by decide) t_271 (fun _ z => z) rfl (b01_n (b01_ite _)) (b01_f (b01_ite _)) d_Run_once_240 (fun H locs hH => ?_)
          rw [rW_ob (fs := (rFs rd sd scg).set 3 (.int (if ¬ scg 8 = 0 ∨ 24 < szB arg (g + 1) then 1 else 0))) (sc' := (va_up scg 8 (if ¬ scg 8 = 0 ∨ 24 < szB arg (g + 1) then 1 else 0))) rfl] at hH
          have hH : Hw G A s (rW G rb n md rd sd w0 (grB (scg, arg) (g + 1)).1 (grB (scg, arg) (g + 1)).2 b) H locs := by rw [← harh]; exact hH
          refine x_sx C b_Run_once_243_246 hl (L' := [(5, .int ((nI (g + 1)) + 1)), (6, .ref (rd (5 + (g + 1)))), (0, .ref (rd 0))]) (st' := []) rfl (fun ls hl => ?_)
          refine x_goto (tgt := 169) C d_Run_once_246 (by decide) ?_
          refine IH2 (g + 1) _ _ _ (by omega) ⟨by omega, ?_⟩ (by rw [← nI_1 (g + 1)]; exact (lv_sub hl [2, 0] rfl))
          rw [hs2]
          exact hH
        · refine lv_icmp_le (tgt := 238) C.1 C.2.1 d_Run_once_231 (by decide) (fun hq => ?_) (fun hq => ?_)
          · refine x_sx C b_Run_once_238_239 hl (L' := [(6, .ref (rd (5 + (g + 1)))), (0, .ref (rd 0)), (5, .int (nI (g + 1)))]) (st' := [.int 0, .int (scg 8), .ref (rd 0)]) rfl (fun ls hl => ?_)
            have q := J9 ls () hl trivial
            try dsimp only at q
            rw [if_neg (Int32.not_lt.mpr hq)] at q
            exact q
          · refine x_sx C b_Run_once_234_235 hl (L' := [(6, .ref (rd (5 + (g + 1)))), (0, .ref (rd 0)), (5, .int (nI (g + 1)))]) (st' := [.int 1, .int (scg 8), .ref (rd 0)]) rfl (fun ls hl => ?_)
            refine x_goto (tgt := 239) C d_Run_once_235 (by decide) ?_
            have q := J9 ls () hl trivial
            try dsimp only at q
            rw [if_pos (Int32.not_le.mp hq)] at q
            exact q
    · have hk : i + 1 < n := by rw [nI_leI (by omega) (by omega)] at hb; omega
      have hl0 : ¬ ari 1 (i + 1) = 0 := by rw [hA1 1 (by decide) (by decide) (by decide) (by decide)]; exact hlen _ hk
      refine x_sx C b_Run_once_111_112 hl (L' := [(0, .ref (rd 0)), (1, .int turn), (2, .int fw), (3, .int (wayO fw)), (5, .int (nI (i + 1)))]) (st' := [.ref (rd 0)]) rfl (fun ls hl => ?_)
      refine x_get C hH.1 rb rW_o 0 (v := .ref (rd 1)) rfl rfl (by decide) t_265 (fun _ z => z) d_Run_once_112 ?_
      refine x_sx C b_Run_once_115_117 hl (L' := [(0, .ref (rd 0)), (1, .int turn), (2, .int fw), (3, .int (wayO fw)), (5, .int (nI (i + 1)))]) (st' := [.int (nI (i + 1)), .ref (rd 1)]) rfl (fun ls hl => ?_)
      refine x_ro (x_cV C hH.1 (rW_t (by omega)) rfl (c_AL_get l G (rW G rb n md rd sd w0 sc ari b) (rb + 1) (rb + 2) (rd 1) (rd 2) n (i + 1) (rd (5 + (i + 1))) md (tdF rd n) (rW_t (by omega)) (rW_d (by omega)) hk (by omega) (if_pos hk)) t_157 t_4 t_154 t_155 t_156 hd_AL_get blind_Pro (pre_ro C hH.1 hH.2.2) (As := [.int (nI (i + 1))]) (rest := []) rfl hl.1 rfl rfl rfl ⟨Nat.le_of_ble_eq_true rfl, Nat.le_of_ble_eq_true rfl⟩ (Nat.le_of_ble_eq_true rfl) ⟨Nat.zero_le _, Nat.zero_le _⟩ d_Run_once_117) ?_
      refine x_cast C hH.1 (rb + 5 + (i + 1)) (rW_b hk) rfl t_152 d_Run_once_120 ?_
      refine x_sx C b_Run_once_123_125 hl (L' := [(0, .ref (rd 0)), (1, .int turn), (2, .int fw), (3, .int (wayO fw)), (5, .int (nI (i + 1)))]) (st' := [.ref (rd 0), .int (wayO fw), .ref (rd (5 + (i + 1)))]) rfl (fun ls hl => ?_)
      refine x_get C hH.1 rb rW_o 7 (v := .ref (sd 0)) rfl rfl (by decide) t_279 (fun _ z => z) d_Run_once_125 ?_
      refine x_getN C hH.1 0 ((rW_0 (Or.inl (by omega)) hn).trans hLi.1) 8 (v := .int (sc 5)) rfl rfl (by decide) t_313 (fun _ z => z) d_Run_once_128 ?_
      refine x_sx C b_Run_once_131_132 hl (L' := [(0, .ref (rd 0)), (1, .int turn), (2, .int fw), (3, .int (wayO fw)), (5, .int (nI (i + 1)))]) (st' := [.int ((wayO fw) * (sc 5)), .ref (rd (5 + (i + 1)))]) rfl (fun ls hl => ?_)
      refine x_q0 (x_cV C hH.1 (rW_b1 hk) rfl (c_Body_swing l G A (rW G rb n md rd sd w0 sc ari b) (rb + 5 + (i + 1)) (rb + 5 + i) (20 + (i + 1)) (rd (5 + (i + 1))) (rd (5 + i)) (sd (20 + (i + 1))) (sd (20 + i)) (bfV rd i) (ari 12 (i + 1)) (ari 13 (i + 1)) (ari 14 (i + 1)) (ari 15 (i + 1)) (ari 16 (i + 1)) (ari 12 i) (ari 13 i) (ari 14 i) (ari 15 i) (ari 16 i) (ari 1 (i + 1)) (ari 2 (i + 1)) (ari 3 (i + 1)) (ari 4 (i + 1)) (ari 5 (i + 1)) (wayO fw * sc 5) (by omega) (by omega) hl0 (rW_b1 hk) (rW_b (show i < n by omega)) ((rW_0 (Or.inl (by omega)) hn).trans (hLi.2.2.2 (i + 1) hk))) t_528 t_11 t_525 t_526 t_527 hd_Body_swing blind_Pre (pre_mt C hH hA trivial) (As := [.int ((wayO fw) * (sc 5))]) (rest := []) rfl hl.1 rfl rfl rfl ⟨Nat.le_of_ble_eq_true rfl, Nat.le_of_ble_eq_true rfl⟩ (Nat.le_of_ble_eq_true rfl) ⟨Nat.zero_le _, Nat.zero_le _⟩ d_Run_once_132) hH.2.2 (fun _ H locs hx hH hz => ?_)
      rw [rW_swing hk] at hH
      have hsw : swA ari (wayO fw) (sc 5) (i + 1) 1 = ari 1 := by unfold swA; rw [up_n _ _ (by decide), up_n _ _ (by decide), up_n _ _ (by decide)]
      have hsw2 : swA ari (wayO fw) (sc 5) (i + 1) 2 = ari 2 := by unfold swA; rw [up_n _ _ (by decide), up_n _ _ (by decide), up_n _ _ (by decide)]
      have hLs : spL G w0 sd rv n sc (swA ari (wayO fw) (sc 5) (i + 1)) := hLi.congr (fun _ _ _ => rfl) (fun j q1 q2 => by unfold swA; rw [up_n _ _ (by omega), up_n _ _ (by omega), up_n _ _ (by omega)])
      rw [mvB_sw] at hs
      generalize swA ari (wayO fw) (sc 5) (i + 1) = ars at hH hLs hs
      refine x_sx C b_Run_once_135_136 hl (L' := [(0, .ref (rd 0)), (1, .int turn), (2, .int fw), (3, .int (wayO fw)), (5, .int (nI (i + 1)))]) (st' := [.ref (rd 0)]) rfl (fun ls hl => ?_)
      refine x_get C hH.1 rb rW_o 0 (v := .ref (rd 1)) rfl rfl (by decide) t_265 (fun _ z => z) d_Run_once_136 ?_
      refine x_sx C b_Run_once_139_141 hl (L' := [(0, .ref (rd 0)), (1, .int turn), (2, .int fw), (3, .int (wayO fw)), (5, .int (nI (i + 1)))]) (st' := [.int (nI (i + 1)), .ref (rd 1)]) rfl (fun ls hl => ?_)
      refine x_ro (x_cV C hH.1 (rW_t (by omega)) rfl (c_AL_get l G (rW G rb n md rd sd w0 sc ars b) (rb + 1) (rb + 2) (rd 1) (rd 2) n (i + 1) (rd (5 + (i + 1))) md (tdF rd n) (rW_t (by omega)) (rW_d (by omega)) hk (by omega) (if_pos hk)) t_157 t_4 t_154 t_155 t_156 hd_AL_get blind_Pro (pre_ro C hH.1 hH.2.2) (As := [.int (nI (i + 1))]) (rest := []) rfl hl.1 rfl rfl rfl ⟨Nat.le_of_ble_eq_true rfl, Nat.le_of_ble_eq_true rfl⟩ (Nat.le_of_ble_eq_true rfl) ⟨Nat.zero_le _, Nat.zero_le _⟩ d_Run_once_141) ?_
      refine x_cast C hH.1 (rb + 5 + (i + 1)) (rW_b hk) rfl t_152 d_Run_once_144 ?_
      refine x_q0 (x_cV C hH.1 (rW_b1 hk) rfl (c_Body_follow l G A (rW G rb n md rd sd w0 sc ars b) (rb + 5 + (i + 1)) (rb + 5 + i) (20 + (i + 1)) (20 + i) (rd (5 + (i + 1))) (rd (5 + i)) (sd (20 + (i + 1))) (sd (20 + i)) (bfV rd i) (ars 12 (i + 1)) (ars 13 (i + 1)) (ars 14 (i + 1)) (ars 15 (i + 1)) (ars 16 (i + 1)) (ars 12 i) (ars 13 i) (ars 14 i) (ars 15 i) (ars 16 i) (ars 1 (i + 1)) (ars 2 (i + 1)) (ars 3 (i + 1)) (ars 4 (i + 1)) (ars 5 (i + 1)) (ars 1 i) (ars 2 i) (ars 3 i) (ars 4 i) (ars 5 i) (by omega) (by omega) (by omega) (rW_b1 hk) (rW_b (show i < n by omega)) ((rW_0 (Or.inl (by omega)) hn).trans (hLs.2.2.2 (i + 1) hk)) ((rW_0 (Or.inl (by omega)) hn).trans (hLs.2.2.2 i (show i < n by omega)))) t_207 t_11 t_204 t_205 t_206 hd_Body_follow blind_Pre (pre_mt C hH hA trivial) (As := []) (rest := []) rfl hl.1 rfl rfl rfl ⟨Nat.le_of_ble_eq_true rfl, Nat.le_of_ble_eq_true rfl⟩ (Nat.le_of_ble_eq_true rfl) ⟨Nat.zero_le _, Nat.zero_le _⟩ d_Run_once_147) hH.2.2 (fun _ H locs hx hH hz => ?_)
      rw [rW_follow hk] at hH
      refine x_sx C b_Run_once_150_153 hl (L' := [(5, .int ((nI (i + 1)) + 1)), (0, .ref (rd 0)), (1, .int turn), (2, .int fw), (3, .int (wayO fw))]) (st' := []) rfl (fun ls hl => ?_)
      refine x_goto (tgt := 99) C d_Run_once_153 (by decide) ?_
      refine IH1 (i + 1) _ _ _ (by omega) ⟨by omega, ?_⟩ (by rw [← nI_1 (i + 1)]; exact (lv_sub hl [1, 2, 3, 4, 0] rfl))
      rw [hs]
      exact hH
  · refine x_sx C b_Run_once_0_1 hl (L' := [(0, .ref (rd 0)), (1, .int turn), (2, .int fw)]) (st' := [.int fw]) rfl (fun ls hl => ?_)
    refine lv_if_eq (tgt := 8) C.1 C.2.1 d_Run_once_1 (by decide) (fun hq => ?_) (fun hq => ?_)
    · refine x_sx C b_Run_once_8_9 hl (L' := [(0, .ref (rd 0)), (1, .int turn), (2, .int fw)]) (st' := [.int (-1)]) rfl (fun ls hl => ?_)
      have q := J8 ls () hl trivial
      try dsimp only at q
      rw [show wayO fw = -1 from if_pos hq] at q
      exact q
    · refine x_sx C b_Run_once_4_5 hl (L' := [(0, .ref (rd 0)), (1, .int turn), (2, .int fw)]) (st' := [.int 1]) rfl (fun ls hl => ?_)
      refine x_goto (tgt := 9) C d_Run_once_5 (by decide) ?_
      have q := J8 ls () hl trivial
      try dsimp only at q
      rw [show wayO fw = 1 from if_neg hq] at q
      exact q
theorem hd_Run_once : hdP y_Run_once 2 := ⟨by decide +kernel, by decide +kernel, by decide +kernel⟩
/-- what a run's step asks -/
def onH (n np : Nat) (turn fw : Int32) (st : SA) : Prop := st.1 1 = nI n ∧ st.1 6 = nI np ∧ np ≤ 20 ∧ ¬ st.1 7 + 1 = -1 ∧ b01 (st.1 8) ∧ (∀ k, k < n → ¬ st.2 1 k = 0) ∧
  ∀ k, k < n → rgC (grI (va_up st.1 7 (st.1 7 + 1), mvI (mvA st.1 st.2 turn (wayO fw)) (wayO fw) (st.1 5) (n - 1)) (n - 1)).2 k
/-- a property of states that steps keep, and that lets the component go -/
def Kc (n np : Nat) (K : SA → Prop) : Prop := ∀ (st : SA) (turn fw : Int32), K st → (-3 ≤ turn ∧ turn ≤ 3) → st.1 7 < 4000 → onH n np turn fw st ∧ K (fMove st turn fw)
theorem b_Run_go_0_3 : decs prog_4_method_5_code [(.iconst 0, 1), (.istore 4, 2)] 0 3 = true := by decide +kernel
theorem b_Run_go_3_6 : decs prog_4_method_5_code [(.iload 4, 2), (.iload_n 2, 1)] 3 6 = true := by decide +kernel
theorem d_Run_go_6 : decode prog_4_method_5_code 6 = .ok (.if_icmp .ge 32, 3) := by decide +kernel
theorem d_Run_go_38 : decode prog_4_method_5_code 38 = .ok (.return_, 1) := by decide +kernel
theorem b_Run_go_9_10 : decs prog_4_method_5_code [(.aload_n 0, 1)] 9 10 = true := by decide +kernel
theorem d_Run_go_10 : decode prog_4_method_5_code 10 = .ok (.getfield 157, 3) := by decide +kernel
theorem d_Run_go_13 : decode prog_4_method_5_code 13 = .ok (.ifCond .ne 25, 3) := by decide +kernel
theorem b_Run_go_16_17 : decs prog_4_method_5_code [(.aload_n 0, 1)] 16 17 = true := by decide +kernel
theorem d_Run_go_17 : decode prog_4_method_5_code 17 = .ok (.getfield 132, 3) := by decide +kernel
theorem b_Run_go_20_23 : decs prog_4_method_5_code [(.sipush 4000, 3)] 20 23 = true := by decide +kernel
theorem d_Run_go_23 : decode prog_4_method_5_code 23 = .ok (.if_icmp .ge 15, 3) := by decide +kernel
theorem b_Run_go_26_29 : decs prog_4_method_5_code [(.aload_n 0, 1), (.iload_n 1, 1), (.iload_n 3, 1)] 26 29 = true := by decide +kernel
theorem d_Run_go_29 : decode prog_4_method_5_code 29 = .ok (.invokevirtual 161, 3) := by decide +kernel
theorem b_Run_go_32_35 : decs prog_4_method_5_code [(.iinc 4 1, 3)] 32 35 = true := by decide +kernel
theorem d_Run_go_35 : decode prog_4_method_5_code 35 = .ok (.goto (-32), 3) := by decide +kernel
set_option maxRecDepth 100000 in
set_option maxHeartbeats 4000000 in
theorem c_Run_go (l : Launch) (G : GG) (A : Nat → Prop) (rb n : Nat) (md : Int32) (rd sd : Nat → Nat) (w0 : WF) (rv : Value) (sc : Nat → Int32) (ar : Nat → Nat → Int32) (b : Bt) (np N : Nat) (turn fw : Int32) (K : SA → Prop) (sz tz : Nat) (hn0 : 0 < n) (hn : n ≤ 3) (hrb : 100 ≤ rb) (hN : N < 2 ^ 31) (hL : spL G w0 sd rv n sc ar) (hB : BR b (ar 17)) (hK : Kc n np K) (hk0 : K (sc, ar)) (htu : -3 ≤ turn ∧ turn ≤ 3) : Met l y_Run_go (Cond.code y_Run_go prog_4_method_5_code 5 none :: wt) { frames := 8, cells := (pc6 b.2.1), slots := (ps6 b.2.1), locals := 209 } (Pre G A (rW G rb n md rd sd w0 sc ar b) (fun H => H.size = sz ∧ hTot H = tz) [.ref (rd 0), .int turn, .int (nI N), .int fw]) (Qx0 (X := Bt) A (fun x H => BR x ((goI (sc, ar) turn fw N).2 17) ∧ rmP sz tz b.2.1 x.2.1 H) G (fun x => (rW G rb n md rd sd w0 (goI (sc, ar) turn fw N).1 (goI (sc, ar) turn fw N).2 x))) (pc6 b.2.1) (ps6 b.2.1) A := by
  refine mt_of (by decide) (Nat.le_of_ble_eq_true rfl) ?_
  intro p e s m below meth c ls C hH hA hE hr hmn hl
  have hl : lv_has ls 5 [(0, .ref (rd 0)), (1, .int turn), (2, .int (nI N)), (3, .int fw)] := hl
  refine x_sx C b_Run_go_0_3 hl (L' := [(4, .int 0), (0, .ref (rd 0)), (1, .int turn), (2, .int (nI N)), (3, .int fw)]) (st' := []) rfl (fun ls hl => ?_)
  refine x_loopC (X := Nat × Bt × SA) (fun x => N - x.1) (fun x H locs cells slots => x.1 ≤ N ∧ K x.2.2 ∧ spL G w0 sd rv n x.2.2.1 x.2.2.2 ∧ goI (sc, ar) turn fw N = goI x.2.2 turn fw (N - x.1) ∧ BR x.2.1 (x.2.2.2 17) ∧ cells + pc6 x.2.1.2.1 ≤ pc6 b.2.1 ∧ slots + ps6 x.2.1.2.1 ≤ ps6 b.2.1 ∧ b.2.1 ≤ x.2.1.2.1 ∧ Hw G A s (rW G rb n md rd sd w0 x.2.2.1 x.2.2.2 x.2.1) H locs) (fun x => [(0, .ref (rd 0)), (1, .int turn), (2, .int (nI N)), (3, .int fw), (4, .int (nI x.1))]) 3 ?_ (0, b, (sc, ar)) _ _ _ _ _ ⟨Nat.zero_le _, hk0, hL, rfl, hB, by show 0 + pc6 b.2.1 ≤ pc6 b.2.1; omega, by show 0 + ps6 b.2.1 ≤ ps6 b.2.1; omega, Nat.le_refl _, hH⟩ (lv_sub hl [1, 2, 3, 4, 0] rfl)
  intro x H locs cells slots ls hI hl IH
  obtain ⟨i, bb, sci, ari⟩ := x
  obtain ⟨hiN, hki, hLi, hgi, hb2, hc1, hc2, hbL, hH⟩ := hI
  dsimp only at hiN hki hLi hgi hb2 hc1 hc2 hbL hH IH
  have hl : lv_has ls 5 [(0, .ref (rd 0)), (1, .int turn), (2, .int (nI N)), (3, .int fw), (4, .int (nI i))] := hl
  refine x_sx C b_Run_go_3_6 hl (L' := [(0, .ref (rd 0)), (1, .int turn), (2, .int (nI N)), (3, .int fw), (4, .int (nI i))]) (st' := [.int (nI N), .int (nI i)]) rfl (fun ls hl => ?_)
  refine lv_icmp_ge (tgt := 38) C.1 C.2.1 d_Run_go_6 (by decide) (fun hb => ?_) (fun hb => ?_)
  · have hst : goI (sci, ari) turn fw (N - i) = (sci, ari) := by rw [nI_leI (by omega) (by omega)] at hb; rw [show N - i = 0 by omega, goI]
    refine W.know (fun k1 k2 _ _ => ?_)
    exact x_vrt C hr hH.2.2 ⟨bb, rfl, ⟨by rw [hgi, hst]; exact hb2, hbL, by have := hE.1; omega, by have := hE.2; omega⟩, by rw [hgi, hst]; exact hH.1, by rw [hgi, hst]; exact hH.2.1⟩ (by omega) (by omega) d_Run_go_38
  · have hiN2 : i < N := by rw [nI_leI (by omega) (by omega)] at hb; omega
    refine x_sx C b_Run_go_9_10 hl (L' := [(0, .ref (rd 0)), (1, .int turn), (2, .int (nI N)), (3, .int fw), (4, .int (nI i))]) (st' := [.ref (rd 0)]) rfl (fun ls hl => ?_)
    refine x_get C hH.1 rb rW_o 3 (v := .int (sci 8)) rfl rfl (by decide) t_271 (fun _ z => z) d_Run_go_10 ?_
    refine lv_if_ne (tgt := 38) C.1 C.2.1 d_Run_go_13 (by decide) (fun hs8 => ?_) (fun hs8 => ?_)
    · have hst : goI (sci, ari) turn fw (N - i) = (sci, ari) := by cases hq : N - i with | zero => rw [goI] | succ q => rw [goI_s, if_neg (fun y => hs8 y.1)]
      refine W.know (fun k1 k2 _ _ => ?_)
      exact x_vrt C hr hH.2.2 ⟨bb, rfl, ⟨by rw [hgi, hst]; exact hb2, hbL, by have := hE.1; omega, by have := hE.2; omega⟩, by rw [hgi, hst]; exact hH.1, by rw [hgi, hst]; exact hH.2.1⟩ (by omega) (by omega) d_Run_go_38
    · refine x_sx C b_Run_go_16_17 hl (L' := [(0, .ref (rd 0)), (1, .int turn), (2, .int (nI N)), (3, .int fw), (4, .int (nI i))]) (st' := [.ref (rd 0)]) rfl (fun ls hl => ?_)
      refine x_get C hH.1 rb rW_o 2 (v := .int (sci 7)) rfl rfl (by decide) t_269 (fun _ z => z) d_Run_go_17 ?_
      refine x_sx C b_Run_go_20_23 hl (L' := [(0, .ref (rd 0)), (1, .int turn), (2, .int (nI N)), (3, .int fw), (4, .int (nI i))]) (st' := [.int 4000, .int (sci 7)]) rfl (fun ls hl => ?_)
      refine lv_icmp_ge (tgt := 38) C.1 C.2.1 d_Run_go_23 (by decide) (fun hs7 => ?_) (fun hs7 => ?_)
      · have hst : goI (sci, ari) turn fw (N - i) = (sci, ari) := by cases hq : N - i with | zero => rw [goI] | succ q => rw [goI_s, if_neg (fun y => absurd y.2 (Int32.not_lt.mpr hs7))]
        refine W.know (fun k1 k2 _ _ => ?_)
        exact x_vrt C hr hH.2.2 ⟨bb, rfl, ⟨by rw [hgi, hst]; exact hb2, hbL, by have := hE.1; omega, by have := hE.2; omega⟩, by rw [hgi, hst]; exact hH.1, by rw [hgi, hst]; exact hH.2.1⟩ (by omega) (by omega) d_Run_go_38
      · have hs7 : sci 7 < 4000 := Int32.not_le.mp hs7
        obtain ⟨⟨o1, o2, o3, o4, o5, o6, o7⟩, hkn⟩ := hK (sci, ari) turn fw hki htu hs7
        have hgn : goI (sc, ar) turn fw N = goI (fMove (sci, ari) turn fw) turn fw (N - (i + 1)) := by rw [hgi, show N - i = (N - (i + 1)) + 1 by omega, goI_s, if_pos ⟨hs8, hs7⟩]
        have hLn : spL G w0 sd rv n (fMove (sci, ari) turn fw).1 (fMove (sci, ari) turn fw).2 := hLi.congr (fun j q1 q2 => fMove_sc _ _ _ (by omega) (by omega) (by omega) (by omega) (by omega) (by omega)) (fun j q1 q2 => fMove_ar _ _ _ (by omega) (by omega) (by omega) (by omega) (by omega) (by omega))
        refine W.know (fun k1 k2 _ _ => ?_)
        have kk0 : H.size + pc6 bb.2.1 ≤ s.heap.size + pc6 b.2.1 ∧ hTot H + ps6 bb.2.1 ≤ hTot s.heap + ps6 b.2.1 := ⟨by omega, by omega⟩
        refine x_sx C b_Run_go_26_29 hl (L' := [(0, .ref (rd 0)), (1, .int turn), (2, .int (nI N)), (3, .int fw), (4, .int (nI i))]) (st' := [.int fw, .int turn, .ref (rd 0)]) rfl (fun ls hl => ?_)
        refine x_q0 (x_cV C hH.1 rW_o rfl (c_Run_once l G A rb n md rd sd w0 rv sci ari bb np turn fw H.size (hTot H) o1 hn0 hn hrb hLi hb2 o2 o3 o4 o5 o6 o7) t_522 t_9 t_519 t_521 ts_10 hd_Run_once blind_Pre (pre_mt C hH hA ⟨rfl, rfl⟩) (As := [.int turn, .int fw]) (rest := []) rfl hl.1 rfl rfl rfl ⟨Nat.le_of_ble_eq_true rfl, Nat.le_of_ble_eq_true rfl⟩ (Nat.le_of_ble_eq_true rfl) ⟨(by show cells + pc6 bb.2.1 ≤ pc6 b.2.1; omega), (by show slots + ps6 bb.2.1 ≤ ps6 b.2.1; omega)⟩ d_Run_go_29) hH.2.2 (fun bn H locs hx hH hz => ?_)
        obtain ⟨hx0, hx1, hx2, hx3⟩ := hx
        obtain ⟨kz, ky⟩ := kk0
        refine W.know (fun _ _ k3 k4 => ?_)
        refine W.tight (k := H.size - s.heap.size) (n := hTot H - hTot s.heap) (by omega) (by omega) ?_
        refine x_sx C b_Run_go_32_35 hl (L' := [(4, .int ((nI i) + 1)), (0, .ref (rd 0)), (1, .int turn), (2, .int (nI N)), (3, .int fw)]) (st' := []) rfl (fun ls hl => ?_)
        refine x_goto (tgt := 3) C d_Run_go_35 (by decide) ?_
        exact IH (i + 1, bn, fMove (sci, ari) turn fw) _ _ _ _ _ (by show N - (i + 1) < N - i; omega) ⟨by show i + 1 ≤ N; omega, hkn, hLn, hgn, hx0, (by show H.size - s.heap.size + pc6 bn.2.1 ≤ pc6 b.2.1; omega), (by show hTot H - hTot s.heap + ps6 bn.2.1 ≤ ps6 b.2.1; omega), (by show b.2.1 ≤ bn.2.1; omega), hH⟩ (by rw [← nI_1]; exact (lv_sub hl [1, 2, 3, 4, 0] rfl))
theorem hd_Run_go : hdP y_Run_go 3 := ⟨by decide +kernel, by decide +kernel, by decide +kernel⟩
