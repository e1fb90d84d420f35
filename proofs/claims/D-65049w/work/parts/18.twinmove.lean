theorem b_Mo_move_9_11 : decs prog_7_method_15_code [(.istore_n 3, 1), (.aload_n 0, 1)] 9 11 = true := by decide +kernel
theorem d_Mo_move_11 : decode prog_7_method_15_code 11 = .ok (.getfield 51, 3) := by decide +kernel
theorem b_Mo_move_14_16 : decs prog_7_method_15_code [(.iconst 0, 1), (.aload_n 0, 1)] 14 16 = true := by decide +kernel
theorem d_Mo_move_16 : decode prog_7_method_15_code 16 = .ok (.getfield 51, 3) := by decide +kernel
theorem b_Mo_move_19_20 : decs prog_7_method_15_code [(.iconst 0, 1)] 19 20 = true := by decide +kernel
theorem d_Mo_move_20 : decode prog_7_method_15_code 20 = .ok (.iaload, 1) := by decide +kernel
theorem b_Mo_move_21_23 : decs prog_7_method_15_code [(.iload_n 3, 1), (.aload_n 0, 1)] 21 23 = true := by decide +kernel
theorem d_Mo_move_23 : decode prog_7_method_15_code 23 = .ok (.getfield 28, 3) := by decide +kernel
theorem b_Mo_move_26_29 : decs prog_7_method_15_code [(.imul, 1), (.aload_n 0, 1), (.aload_n 0, 1)] 26 29 = true := by decide +kernel
theorem d_Mo_move_29 : decode prog_7_method_15_code 29 = .ok (.getfield 57, 3) := by decide +kernel
theorem b_Mo_move_32_33 : decs prog_7_method_15_code [(.iconst 0, 1)] 32 33 = true := by decide +kernel
theorem d_Mo_move_33 : decode prog_7_method_15_code 33 = .ok (.iaload, 1) := by decide +kernel
theorem d_Mo_move_34 : decode prog_7_method_15_code 34 = .ok (.invokevirtual 90, 3) := by decide +kernel
theorem b_Mo_move_37_39 : decs prog_7_method_15_code [(.imul, 1), (.iadd, 1)] 37 39 = true := by decide +kernel
theorem d_Mo_move_39 : decode prog_7_method_15_code 39 = .ok (.iastore, 1) := by decide +kernel
theorem b_Mo_move_40_41 : decs prog_7_method_15_code [(.aload_n 0, 1)] 40 41 = true := by decide +kernel
theorem d_Mo_move_41 : decode prog_7_method_15_code 41 = .ok (.getfield 54, 3) := by decide +kernel
theorem b_Mo_move_44_46 : decs prog_7_method_15_code [(.iconst 0, 1), (.aload_n 0, 1)] 44 46 = true := by decide +kernel
theorem d_Mo_move_46 : decode prog_7_method_15_code 46 = .ok (.getfield 54, 3) := by decide +kernel
theorem b_Mo_move_49_50 : decs prog_7_method_15_code [(.iconst 0, 1)] 49 50 = true := by decide +kernel
theorem d_Mo_move_50 : decode prog_7_method_15_code 50 = .ok (.iaload, 1) := by decide +kernel
theorem b_Mo_move_51_53 : decs prog_7_method_15_code [(.iload_n 3, 1), (.aload_n 0, 1)] 51 53 = true := by decide +kernel
theorem d_Mo_move_53 : decode prog_7_method_15_code 53 = .ok (.getfield 28, 3) := by decide +kernel
theorem b_Mo_move_56_59 : decs prog_7_method_15_code [(.imul, 1), (.aload_n 0, 1), (.aload_n 0, 1)] 56 59 = true := by decide +kernel
theorem d_Mo_move_59 : decode prog_7_method_15_code 59 = .ok (.getfield 57, 3) := by decide +kernel
theorem b_Mo_move_62_63 : decs prog_7_method_15_code [(.iconst 0, 1)] 62 63 = true := by decide +kernel
theorem d_Mo_move_63 : decode prog_7_method_15_code 63 = .ok (.iaload, 1) := by decide +kernel
theorem d_Mo_move_64 : decode prog_7_method_15_code 64 = .ok (.invokevirtual 97, 3) := by decide +kernel
theorem b_Mo_move_67_69 : decs prog_7_method_15_code [(.imul, 1), (.iadd, 1)] 67 69 = true := by decide +kernel
theorem d_Mo_move_69 : decode prog_7_method_15_code 69 = .ok (.iastore, 1) := by decide +kernel
theorem b_Mo_move_70_71 : decs prog_7_method_15_code [(.aload_n 0, 1)] 70 71 = true := by decide +kernel
theorem d_Mo_move_71 : decode prog_7_method_15_code 71 = .ok (.getfield 57, 3) := by decide +kernel
theorem b_Mo_move_74_76 : decs prog_7_method_15_code [(.iconst 0, 1), (.aload_n 0, 1)] 74 76 = true := by decide +kernel
theorem d_Mo_move_76 : decode prog_7_method_15_code 76 = .ok (.getfield 57, 3) := by decide +kernel
theorem b_Mo_move_79_80 : decs prog_7_method_15_code [(.iconst 0, 1)] 79 80 = true := by decide +kernel
theorem d_Mo_move_80 : decode prog_7_method_15_code 80 = .ok (.iaload, 1) := by decide +kernel
theorem b_Mo_move_81_88 : decs prog_7_method_15_code [(.iload_n 3, 1), (.iload_n 1, 1), (.imul, 1), (.iadd, 1), (.bipush 63, 2), (.iand, 1)] 81 88 = true := by decide +kernel
theorem d_Mo_move_88 : decode prog_7_method_15_code 88 = .ok (.iastore, 1) := by decide +kernel
theorem b_Mo_move_89_92 : decs prog_7_method_15_code [(.iconst 1, 1), (.istore 4, 2)] 89 92 = true := by decide +kernel
theorem b_Mo_move_92_95 : decs prog_7_method_15_code [(.iload 4, 2), (.aload_n 0, 1)] 92 95 = true := by decide +kernel
theorem d_Mo_move_95 : decode prog_7_method_15_code 95 = .ok (.getfield 84, 3) := by decide +kernel
theorem d_Mo_move_98 : decode prog_7_method_15_code 98 = .ok (.if_icmp .ge 105, 3) := by decide +kernel
theorem b_Mo_move_203_205 : decs prog_7_method_15_code [(.aload_n 0, 1), (.dup, 1)] 203 205 = true := by decide +kernel
theorem d_Mo_move_205 : decode prog_7_method_15_code 205 = .ok (.getfield 122, 3) := by decide +kernel
theorem b_Mo_move_208_210 : decs prog_7_method_15_code [(.iconst 1, 1), (.iadd, 1)] 208 210 = true := by decide +kernel
theorem d_Mo_move_210 : decode prog_7_method_15_code 210 = .ok (.putfield 122, 3) := by decide +kernel
theorem b_Mo_move_213_216 : decs prog_7_method_15_code [(.iconst 1, 1), (.istore 4, 2)] 213 216 = true := by decide +kernel
theorem b_Mo_move_216_219 : decs prog_7_method_15_code [(.iload 4, 2), (.aload_n 0, 1)] 216 219 = true := by decide +kernel
theorem d_Mo_move_219 : decode prog_7_method_15_code 219 = .ok (.getfield 84, 3) := by decide +kernel
theorem d_Mo_move_222 : decode prog_7_method_15_code 222 = .ok (.if_icmp .ge 86, 3) := by decide +kernel
theorem b_Mo_move_308_309 : decs prog_7_method_15_code [(.aload_n 0, 1)] 308 309 = true := by decide +kernel
theorem d_Mo_move_309 : decode prog_7_method_15_code 309 = .ok (.invokevirtual 142, 3) := by decide +kernel
theorem d_Mo_move_312 : decode prog_7_method_15_code 312 = .ok (.return_, 1) := by decide +kernel
theorem b_Mo_move_225_228 : decs prog_7_method_15_code [(.aload_n 0, 1), (.iload 4, 2)] 225 228 = true := by decide +kernel
theorem d_Mo_move_228 : decode prog_7_method_15_code 228 = .ok (.invokevirtual 145, 3) := by decide +kernel
theorem b_Mo_move_231_233 : decs prog_7_method_15_code [(.istore 5, 2)] 231 233 = true := by decide +kernel
theorem b_Mo_move_246_248 : decs prog_7_method_15_code [(.istore 6, 2)] 246 248 = true := by decide +kernel
theorem b_Mo_move_248_249 : decs prog_7_method_15_code [(.aload_n 0, 1)] 248 249 = true := by decide +kernel
theorem d_Mo_move_249 : decode prog_7_method_15_code 249 = .ok (.getfield 63, 3) := by decide +kernel
theorem b_Mo_move_252_257 : decs prog_7_method_15_code [(.iload 4, 2), (.iload 6, 2), (.aload_n 0, 1)] 252 257 = true := by decide +kernel
theorem d_Mo_move_278 : decode prog_7_method_15_code 278 = .ok (.iastore, 1) := by decide +kernel
theorem b_Mo_move_279_281 : decs prog_7_method_15_code [(.aload_n 0, 1), (.aload_n 0, 1)] 279 281 = true := by decide +kernel
theorem d_Mo_move_281 : decode prog_7_method_15_code 281 = .ok (.getfield 125, 3) := by decide +kernel
theorem d_Mo_move_299 : decode prog_7_method_15_code 299 = .ok (.putfield 125, 3) := by decide +kernel
theorem b_Mo_move_302_305 : decs prog_7_method_15_code [(.iinc 4 1, 3)] 302 305 = true := by decide +kernel
theorem d_Mo_move_305 : decode prog_7_method_15_code 305 = .ok (.goto (-89), 3) := by decide +kernel
theorem d_Mo_move_284 : decode prog_7_method_15_code 284 = .ok (.ifCond .ne 10, 3) := by decide +kernel
theorem b_Mo_move_294_295 : decs prog_7_method_15_code [(.iconst 1, 1)] 294 295 = true := by decide +kernel
theorem d_Mo_move_295 : decode prog_7_method_15_code 295 = .ok (.goto 4, 3) := by decide +kernel
theorem b_Mo_move_287_291 : decs prog_7_method_15_code [(.iload 6, 2), (.bipush 24, 2)] 287 291 = true := by decide +kernel
theorem d_Mo_move_291 : decode prog_7_method_15_code 291 = .ok (.if_icmp .le 7, 3) := by decide +kernel
theorem b_Mo_move_298_299 : decs prog_7_method_15_code [(.iconst 0, 1)] 298 299 = true := by decide +kernel
theorem d_Mo_move_257 : decode prog_7_method_15_code 257 = .ok (.getfield 63, 3) := by decide +kernel
theorem b_Mo_move_260_262 : decs prog_7_method_15_code [(.iload 4, 2)] 260 262 = true := by decide +kernel
theorem d_Mo_move_262 : decode prog_7_method_15_code 262 = .ok (.iaload, 1) := by decide +kernel
theorem d_Mo_move_263 : decode prog_7_method_15_code 263 = .ok (.if_icmp .le 8, 3) := by decide +kernel
theorem b_Mo_move_271_272 : decs prog_7_method_15_code [(.aload_n 0, 1)] 271 272 = true := by decide +kernel
theorem d_Mo_move_272 : decode prog_7_method_15_code 272 = .ok (.getfield 63, 3) := by decide +kernel
theorem b_Mo_move_275_277 : decs prog_7_method_15_code [(.iload 4, 2)] 275 277 = true := by decide +kernel
theorem d_Mo_move_277 : decode prog_7_method_15_code 277 = .ok (.iaload, 1) := by decide +kernel
theorem b_Mo_move_266_268 : decs prog_7_method_15_code [(.iload 6, 2)] 266 268 = true := by decide +kernel
theorem d_Mo_move_268 : decode prog_7_method_15_code 268 = .ok (.goto 10, 3) := by decide +kernel
theorem b_Mo_move_233_235 : decs prog_7_method_15_code [(.iload 5, 2)] 233 235 = true := by decide +kernel
theorem d_Mo_move_235 : decode prog_7_method_15_code 235 = .ok (.ifCond .ge 9, 3) := by decide +kernel
theorem b_Mo_move_244_246 : decs prog_7_method_15_code [(.iload 5, 2)] 244 246 = true := by decide +kernel
theorem b_Mo_move_238_241 : decs prog_7_method_15_code [(.iload 5, 2), (.ineg, 1)] 238 241 = true := by decide +kernel
theorem d_Mo_move_241 : decode prog_7_method_15_code 241 = .ok (.goto 5, 3) := by decide +kernel
theorem b_Mo_move_101_102 : decs prog_7_method_15_code [(.aload_n 0, 1)] 101 102 = true := by decide +kernel
theorem d_Mo_move_102 : decode prog_7_method_15_code 102 = .ok (.getfield 60, 3) := by decide +kernel
theorem b_Mo_move_105_108 : decs prog_7_method_15_code [(.iload 4, 2), (.aload_n 0, 1)] 105 108 = true := by decide +kernel
theorem d_Mo_move_108 : decode prog_7_method_15_code 108 = .ok (.getfield 60, 3) := by decide +kernel
theorem b_Mo_move_111_113 : decs prog_7_method_15_code [(.iload 4, 2)] 111 113 = true := by decide +kernel
theorem d_Mo_move_113 : decode prog_7_method_15_code 113 = .ok (.iaload, 1) := by decide +kernel
theorem b_Mo_move_114_118 : decs prog_7_method_15_code [(.iload_n 3, 1), (.aload_n 0, 1), (.iload 4, 2)] 114 118 = true := by decide +kernel
theorem d_Mo_move_118 : decode prog_7_method_15_code 118 = .ok (.invokevirtual 145, 3) := by decide +kernel
theorem b_Mo_move_121_123 : decs prog_7_method_15_code [(.imul, 1), (.aload_n 0, 1)] 121 123 = true := by decide +kernel
theorem d_Mo_move_123 : decode prog_7_method_15_code 123 = .ok (.getfield 28, 3) := by decide +kernel
theorem b_Mo_move_126_128 : decs prog_7_method_15_code [(.imul, 1), (.iadd, 1)] 126 128 = true := by decide +kernel
theorem d_Mo_move_128 : decode prog_7_method_15_code 128 = .ok (.iastore, 1) := by decide +kernel
theorem b_Mo_move_129_130 : decs prog_7_method_15_code [(.aload_n 0, 1)] 129 130 = true := by decide +kernel
theorem d_Mo_move_130 : decode prog_7_method_15_code 130 = .ok (.getfield 60, 3) := by decide +kernel
theorem b_Mo_move_133_135 : decs prog_7_method_15_code [(.iload 4, 2)] 133 135 = true := by decide +kernel
theorem d_Mo_move_135 : decode prog_7_method_15_code 135 = .ok (.iaload, 1) := by decide +kernel
theorem b_Mo_move_136_137 : decs prog_7_method_15_code [(.aload_n 0, 1)] 136 137 = true := by decide +kernel
theorem d_Mo_move_137 : decode prog_7_method_15_code 137 = .ok (.getfield 13, 3) := by decide +kernel
theorem b_Mo_move_140_142 : decs prog_7_method_15_code [(.iload 4, 2)] 140 142 = true := by decide +kernel
theorem d_Mo_move_142 : decode prog_7_method_15_code 142 = .ok (.iaload, 1) := by decide +kernel
theorem d_Mo_move_143 : decode prog_7_method_15_code 143 = .ok (.idiv, 1) := by decide +kernel
theorem b_Mo_move_144_147 : decs prog_7_method_15_code [(.istore 5, 2), (.aload_n 0, 1)] 144 147 = true := by decide +kernel
theorem d_Mo_move_147 : decode prog_7_method_15_code 147 = .ok (.getfield 57, 3) := by decide +kernel
theorem b_Mo_move_150_153 : decs prog_7_method_15_code [(.iload 4, 2), (.aload_n 0, 1)] 150 153 = true := by decide +kernel
theorem d_Mo_move_153 : decode prog_7_method_15_code 153 = .ok (.getfield 57, 3) := by decide +kernel
theorem b_Mo_move_156_158 : decs prog_7_method_15_code [(.iload 4, 2)] 156 158 = true := by decide +kernel
theorem d_Mo_move_158 : decode prog_7_method_15_code 158 = .ok (.iaload, 1) := by decide +kernel
theorem b_Mo_move_159_165 : decs prog_7_method_15_code [(.iload 5, 2), (.iadd, 1), (.bipush 63, 2), (.iand, 1)] 159 165 = true := by decide +kernel
theorem d_Mo_move_165 : decode prog_7_method_15_code 165 = .ok (.iastore, 1) := by decide +kernel
theorem b_Mo_move_166_167 : decs prog_7_method_15_code [(.aload_n 0, 1)] 166 167 = true := by decide +kernel
theorem d_Mo_move_167 : decode prog_7_method_15_code 167 = .ok (.getfield 60, 3) := by decide +kernel
theorem b_Mo_move_170_173 : decs prog_7_method_15_code [(.iload 4, 2), (.aload_n 0, 1)] 170 173 = true := by decide +kernel
theorem d_Mo_move_173 : decode prog_7_method_15_code 173 = .ok (.getfield 60, 3) := by decide +kernel
theorem b_Mo_move_176_178 : decs prog_7_method_15_code [(.iload 4, 2)] 176 178 = true := by decide +kernel
theorem d_Mo_move_178 : decode prog_7_method_15_code 178 = .ok (.iaload, 1) := by decide +kernel
theorem b_Mo_move_179_182 : decs prog_7_method_15_code [(.iload 5, 2), (.aload_n 0, 1)] 179 182 = true := by decide +kernel
theorem d_Mo_move_182 : decode prog_7_method_15_code 182 = .ok (.getfield 13, 3) := by decide +kernel
theorem b_Mo_move_185_187 : decs prog_7_method_15_code [(.iload 4, 2)] 185 187 = true := by decide +kernel
theorem d_Mo_move_187 : decode prog_7_method_15_code 187 = .ok (.iaload, 1) := by decide +kernel
theorem b_Mo_move_188_190 : decs prog_7_method_15_code [(.imul, 1), (.isub, 1)] 188 190 = true := by decide +kernel
theorem d_Mo_move_190 : decode prog_7_method_15_code 190 = .ok (.iastore, 1) := by decide +kernel
theorem b_Mo_move_191_194 : decs prog_7_method_15_code [(.aload_n 0, 1), (.iload 4, 2)] 191 194 = true := by decide +kernel
theorem d_Mo_move_194 : decode prog_7_method_15_code 194 = .ok (.invokevirtual 138, 3) := by decide +kernel
theorem b_Mo_move_197_200 : decs prog_7_method_15_code [(.iinc 4 1, 3)] 197 200 = true := by decide +kernel
theorem d_Mo_move_200 : decode prog_7_method_15_code 200 = .ok (.goto (-108), 3) := by decide +kernel
theorem b_Mo_move_0_1 : decs prog_7_method_15_code [(.iload_n 2, 1)] 0 1 = true := by decide +kernel
theorem d_Mo_move_1 : decode prog_7_method_15_code 1 = .ok (.ifCond .eq 7, 3) := by decide +kernel
theorem b_Mo_move_8_9 : decs prog_7_method_15_code [(.iconst (-1), 1)] 8 9 = true := by decide +kernel
theorem b_Mo_move_4_5 : decs prog_7_method_15_code [(.iconst 1, 1)] 4 5 = true := by decide +kernel
theorem d_Mo_move_5 : decode prog_7_method_15_code 5 = .ok (.goto 4, 3) := by decide +kernel
set_option maxRecDepth 100000 in
set_option maxHeartbeats 4000000 in
theorem c_Mo_move (l : Launch) (G : GG) (A : Nat → Prop) (ad : Nat → Nat) (w0 : WF) (sc : Nat → Int32) (ar : Nat → Nat → Int32) (n np : Nat) (turn fw : Int32) (h1 : sc 1 = nI n) (hn : n ≤ 3) (h6 : sc 6 = nI np) (hnp : np ≤ 20) (h7 : ¬ sc 7 + 1 = -1) (hz : Z01 (ar 17)) (hc : sc 12 = nI (cnt (ar 17))) (hlen : ∀ k, k < n → ¬ ar 1 k = 0) (hg : ∀ k, k < n → rgT (grI (va_up sc 7 (sc 7 + 1), mvI (mvA sc ar turn (wayO fw)) (wayO fw) (sc 5) (n - 1)) (n - 1)).2 k) : Met l y_Mo_move (Cond.code y_Mo_move prog_7_method_15_code 7 none :: wt) { frames := 4, cells := 0, slots := 0, locals := 106 } (Pre G A (mW G ad w0 sc ar) (fun _ => True) [.ref (ad 20), .int turn, .int fw]) (Qw A none G (mW G ad w0 (fMove (sc, ar) turn fw).1 (fMove (sc, ar) turn fw).2)) 0 0 A := by
  refine mt_of (by decide) (Nat.le_of_ble_eq_true rfl) ?_
  intro p e s m below meth c ls C hH hA hE hr hmn hl
  have hl : lv_has ls 7 [(0, .ref (ad 20)), (1, .int turn), (2, .int fw)] := hl
  refine x_join (X := Unit) (nL := 7) (fun _ => True) (fun _ => [(0, .ref (ad 20)), (1, .int turn), (2, .int fw)]) (fun _ => [.int (wayO fw)]) 9 (fun ls _ hl _ => ?_) (fun J1 => ?_)
  · have hl : lv_has ls 7 [(0, .ref (ad 20)), (1, .int turn), (2, .int fw)] := hl
    have hw : Hw G A s (mW G ad w0 sc ar) s.heap [] := hH
    refine x_sx C b_Mo_move_9_11 hl (L' := [(3, .int (wayO fw)), (0, .ref (ad 20)), (1, .int turn), (2, .int fw)]) (st' := [.ref (ad 20)]) rfl (fun ls hl => ?_)
    refine x_get C hH.1 1000 mW_o 19 (v := .ref (ad 12)) rfl rfl (by decide) t_661 (fun _ z => z) d_Mo_move_11 ?_
    refine x_sx C b_Mo_move_14_16 hl (L' := [(3, .int (wayO fw)), (0, .ref (ad 20)), (1, .int turn), (2, .int fw)]) (st' := [.ref (ad 20), .int 0, .ref (ad 12)]) rfl (fun ls hl => ?_)
    refine x_get C hH.1 1000 mW_o 19 (v := .ref (ad 12)) rfl rfl (by decide) t_661 (fun _ z => z) d_Mo_move_16 ?_
    refine x_sx C b_Mo_move_19_20 hl (L' := [(3, .int (wayO fw)), (0, .ref (ad 20)), (1, .int turn), (2, .int fw)]) (st' := [.int 0, .ref (ad 12), .int 0, .ref (ad 12)]) rfl (fun ls hl => ?_)
    refine x_ald C hH.1 (1001 + 12) (mW_i 12 (by decide) (by decide) rfl rfl rfl) (N := 3) (f := (ar 12)) (j := 0) rfl (by decide) (by decide) d_Mo_move_20 ?_
    refine x_sx C b_Mo_move_21_23 hl (L' := [(3, .int (wayO fw)), (0, .ref (ad 20)), (1, .int turn), (2, .int fw)]) (st' := [.ref (ad 20), .int (wayO fw), .int (ar 12 0), .int 0, .ref (ad 12)]) rfl (fun ls hl => ?_)
    refine x_get C hH.1 1000 mW_o 11 (v := .int (sc 5)) rfl rfl (by decide) t_653 (fun _ z => z) d_Mo_move_23 ?_
    refine x_sx C b_Mo_move_26_29 hl (L' := [(3, .int (wayO fw)), (0, .ref (ad 20)), (1, .int turn), (2, .int fw)]) (st' := [.ref (ad 20), .ref (ad 20), .int ((wayO fw) * (sc 5)), .int (ar 12 0), .int 0, .ref (ad 12)]) rfl (fun ls hl => ?_)
    refine x_get C hH.1 1000 mW_o 21 (v := .ref (ad 14)) rfl rfl (by decide) t_663 (fun _ z => z) d_Mo_move_29 ?_
    refine x_sx C b_Mo_move_32_33 hl (L' := [(3, .int (wayO fw)), (0, .ref (ad 20)), (1, .int turn), (2, .int fw)]) (st' := [.int 0, .ref (ad 14), .ref (ad 20), .int ((wayO fw) * (sc 5)), .int (ar 12 0), .int 0, .ref (ad 12)]) rfl (fun ls hl => ?_)
    refine x_ald C hH.1 (1001 + 14) (mW_i 14 (by decide) (by decide) rfl rfl rfl) (N := 3) (f := (ar 14)) (j := 0) rfl (by decide) (by decide) d_Mo_move_33 ?_
    refine x_ro (x_cV C hH.1 mW_o rfl (c_Mo_dx l G ad w0 sc ar (ar 14 0)) t_765 t_14 t_762 t_764 ts_16 hd_Mo_dx blind_Pro (pre_ro C hH.1 hH.2.2) (As := [.int (ar 14 0)]) (rest := [.int ((wayO fw) * (sc 5)), .int (ar 12 0), .int 0, .ref (ad 12)]) rfl hl.1 rfl rfl rfl ⟨Nat.le_of_ble_eq_true rfl, Nat.le_of_ble_eq_true rfl⟩ (Nat.le_of_ble_eq_true rfl) ⟨Nat.zero_le _, Nat.zero_le _⟩ d_Mo_move_34) ?_
    refine x_sx C b_Mo_move_37_39 hl (L' := [(3, .int (wayO fw)), (0, .ref (ad 20)), (1, .int turn), (2, .int fw)]) (st' := [.int ((ar 12 0) + (((wayO fw) * (sc 5)) * (p_dx (ar 14 0)))), .int 0, .ref (ad 12)]) rfl (fun ls hl => ?_)
    refine m_ast C hH 12 (by decide) (by decide) rfl (N := 3) rfl (f := (ar 12)) rfl (j := 0) rfl (by decide) d_Mo_move_39 (fun H locs hH => ?_)
    refine x_sx C b_Mo_move_40_41 hl (L' := [(3, .int (wayO fw)), (0, .ref (ad 20)), (1, .int turn), (2, .int fw)]) (st' := [.ref (ad 20)]) rfl (fun ls hl => ?_)
    refine x_get C hH.1 1000 mW_o 20 (v := .ref (ad 13)) rfl rfl (by decide) t_662 (fun _ z => z) d_Mo_move_41 ?_
    refine x_sx C b_Mo_move_44_46 hl (L' := [(3, .int (wayO fw)), (0, .ref (ad 20)), (1, .int turn), (2, .int fw)]) (st' := [.ref (ad 20), .int 0, .ref (ad 13)]) rfl (fun ls hl => ?_)
    refine x_get C hH.1 1000 mW_o 20 (v := .ref (ad 13)) rfl rfl (by decide) t_662 (fun _ z => z) d_Mo_move_46 ?_
    refine x_sx C b_Mo_move_49_50 hl (L' := [(3, .int (wayO fw)), (0, .ref (ad 20)), (1, .int turn), (2, .int fw)]) (st' := [.int 0, .ref (ad 13), .int 0, .ref (ad 13)]) rfl (fun ls hl => ?_)
    refine x_ald C hH.1 (1001 + 13) (mW_i 13 (by decide) (by decide) rfl rfl rfl) (N := 3) (f := (ar 13)) (j := 0) rfl (by decide) (by decide) d_Mo_move_50 ?_
    refine x_sx C b_Mo_move_51_53 hl (L' := [(3, .int (wayO fw)), (0, .ref (ad 20)), (1, .int turn), (2, .int fw)]) (st' := [.ref (ad 20), .int (wayO fw), .int (ar 13 0), .int 0, .ref (ad 13)]) rfl (fun ls hl => ?_)
    refine x_get C hH.1 1000 mW_o 11 (v := .int (sc 5)) rfl rfl (by decide) t_653 (fun _ z => z) d_Mo_move_53 ?_
    refine x_sx C b_Mo_move_56_59 hl (L' := [(3, .int (wayO fw)), (0, .ref (ad 20)), (1, .int turn), (2, .int fw)]) (st' := [.ref (ad 20), .ref (ad 20), .int ((wayO fw) * (sc 5)), .int (ar 13 0), .int 0, .ref (ad 13)]) rfl (fun ls hl => ?_)
    refine x_get C hH.1 1000 mW_o 21 (v := .ref (ad 14)) rfl rfl (by decide) t_663 (fun _ z => z) d_Mo_move_59 ?_
    refine x_sx C b_Mo_move_62_63 hl (L' := [(3, .int (wayO fw)), (0, .ref (ad 20)), (1, .int turn), (2, .int fw)]) (st' := [.int 0, .ref (ad 14), .ref (ad 20), .int ((wayO fw) * (sc 5)), .int (ar 13 0), .int 0, .ref (ad 13)]) rfl (fun ls hl => ?_)
    refine x_ald C hH.1 (1001 + 14) (mW_i 14 (by decide) (by decide) rfl rfl rfl) (N := 3) (f := (ar 14)) (j := 0) rfl (by decide) (by decide) d_Mo_move_63 ?_
    refine x_ro (x_cV C hH.1 mW_o rfl (c_Mo_dy l G ad w0 sc (va_up ar 12 (upd (ar 12) 0 ((ar 12 0) + (((wayO fw) * (sc 5)) * (p_dx (ar 14 0)))))) (ar 14 0)) t_769 t_14 t_766 t_768 ts_17 hd_Mo_dy blind_Pro (pre_ro C hH.1 hH.2.2) (As := [.int (ar 14 0)]) (rest := [.int ((wayO fw) * (sc 5)), .int (ar 13 0), .int 0, .ref (ad 13)]) rfl hl.1 rfl rfl rfl ⟨Nat.le_of_ble_eq_true rfl, Nat.le_of_ble_eq_true rfl⟩ (Nat.le_of_ble_eq_true rfl) ⟨Nat.zero_le _, Nat.zero_le _⟩ d_Mo_move_64) ?_
    refine x_sx C b_Mo_move_67_69 hl (L' := [(3, .int (wayO fw)), (0, .ref (ad 20)), (1, .int turn), (2, .int fw)]) (st' := [.int ((ar 13 0) + (((wayO fw) * (sc 5)) * (p_dy (ar 14 0)))), .int 0, .ref (ad 13)]) rfl (fun ls hl => ?_)
    refine m_ast C hH 13 (by decide) (by decide) rfl (N := 3) rfl (f := (ar 13)) rfl (j := 0) rfl (by decide) d_Mo_move_69 (fun H locs hH => ?_)
    refine x_sx C b_Mo_move_70_71 hl (L' := [(3, .int (wayO fw)), (0, .ref (ad 20)), (1, .int turn), (2, .int fw)]) (st' := [.ref (ad 20)]) rfl (fun ls hl => ?_)
    refine x_get C hH.1 1000 mW_o 21 (v := .ref (ad 14)) rfl rfl (by decide) t_663 (fun _ z => z) d_Mo_move_71 ?_
    refine x_sx C b_Mo_move_74_76 hl (L' := [(3, .int (wayO fw)), (0, .ref (ad 20)), (1, .int turn), (2, .int fw)]) (st' := [.ref (ad 20), .int 0, .ref (ad 14)]) rfl (fun ls hl => ?_)
    refine x_get C hH.1 1000 mW_o 21 (v := .ref (ad 14)) rfl rfl (by decide) t_663 (fun _ z => z) d_Mo_move_76 ?_
    refine x_sx C b_Mo_move_79_80 hl (L' := [(3, .int (wayO fw)), (0, .ref (ad 20)), (1, .int turn), (2, .int fw)]) (st' := [.int 0, .ref (ad 14), .int 0, .ref (ad 14)]) rfl (fun ls hl => ?_)
    refine x_ald C hH.1 (1001 + 14) (mW_i 14 (by decide) (by decide) rfl rfl rfl) (N := 3) (f := (ar 14)) (j := 0) rfl (by decide) (by decide) d_Mo_move_80 ?_
    refine x_sx C b_Mo_move_81_88 hl (L' := [(3, .int (wayO fw)), (0, .ref (ad 20)), (1, .int turn), (2, .int fw)]) (st' := [.int (((ar 14 0) + ((wayO fw) * turn)) &&& 63), .int 0, .ref (ad 14)]) rfl (fun ls hl => ?_)
    refine m_ast C hH 14 (by decide) (by decide) rfl (N := 3) rfl (f := (ar 14)) rfl (j := 0) rfl (by decide) d_Mo_move_88 (fun H locs hH => ?_)
    refine x_sx C b_Mo_move_89_92 hl (L' := [(4, .int 1), (3, .int (wayO fw)), (0, .ref (ad 20)), (1, .int turn), (2, .int fw)]) (st' := []) rfl (fun ls hl => ?_)
    have hH : Hw G A s (mW G ad w0 sc (mvA sc ar turn (wayO fw))) H locs := hH
    have hA0 : ∀ i, i ≠ 12 → i ≠ 13 → i ≠ 14 → i ≠ 15 → ∀ b, mvI (mvA sc ar turn (wayO fw)) (wayO fw) (sc 5) b i = ar i := fun i q1 q2 q3 q4 b => (mvI_n _ _ _ _ q1 q2 q3 q4).trans (mvA_n _ _ _ _ q1 q2 q3)
    generalize hma : mvA sc ar turn (wayO fw) = ara at hH hA0
    refine x_loop (X := Nat) (fun x => n - x) (fun x H locs => x ≤ n - 1 ∧ Hw G A s (mW G ad w0 sc (mvI ara (wayO fw) (sc 5) x)) H locs) (fun x => [(0, .ref (ad 20)), (1, .int turn), (2, .int fw), (3, .int (wayO fw)), (4, .int (nI (x + 1)))]) 92 ?_ 0 _ _ _ ⟨Nat.zero_le _, hH⟩ (lv_sub hl [2, 3, 4, 1, 0] rfl)
    intro i H locs ls hI hl IH1
    obtain ⟨hin, hH⟩ := hI
    obtain ⟨k, hke⟩ : ∃ k, k = i + 1 := ⟨_, rfl⟩
    have hl : lv_has ls 7 [(0, .ref (ad 20)), (1, .int turn), (2, .int fw), (3, .int (wayO fw)), (4, .int (nI k))] := by rw [hke]; exact hl
    have hs := mvI_s ara (wayO fw) (sc 5) i
    have hA1 : ∀ j, j ≠ 12 → j ≠ 13 → j ≠ 14 → j ≠ 15 → mvI ara (wayO fw) (sc 5) i j = ar j := fun j q1 q2 q3 q4 => hA0 j q1 q2 q3 q4 i
    generalize hmi : mvI ara (wayO fw) (sc 5) i = ari at hH hs hA1
    refine x_sx C b_Mo_move_92_95 hl (L' := [(0, .ref (ad 20)), (1, .int turn), (2, .int fw), (3, .int (wayO fw)), (4, .int (nI k))]) (st' := [.ref (ad 20), .int (nI k)]) rfl (fun ls hl => ?_)
    refine x_get C hH.1 1000 mW_o 2 (v := .int (sc 1)) rfl rfl (by decide) t_644 (fun _ z => z) d_Mo_move_95 ?_
    refine lv_icmp_ge (tgt := 203) C.1 C.2.1 d_Mo_move_98 (by decide) (fun hb => ?_) (fun hb => ?_)
    · have hi1 : i = n - 1 := by rw [h1, nI_leI (by omega) (by omega)] at hb; omega
      refine x_sx C b_Mo_move_203_205 hl (L' := [(0, .ref (ad 20)), (1, .int turn), (2, .int fw), (3, .int (wayO fw)), (4, .int (nI k))]) (st' := [.ref (ad 20), .ref (ad 20)]) rfl (fun ls hl => ?_)
      refine x_get C hH.1 1000 mW_o 24 (v := .int (sc 7)) rfl rfl (by decide) t_666 (fun _ z => z) d_Mo_move_205 ?_
      refine x_sx C b_Mo_move_208_210 hl (L' := [(0, .ref (ad 20)), (1, .int turn), (2, .int fw), (3, .int (wayO fw)), (4, .int (nI k))]) (st' := [.int ((sc 7) + 1), .ref (ad 20)]) rfl (fun ls hl => ?_)
      refine m_put C hH 24 7 rfl (by decide) t_666 rfl rfl rfl rfl d_Mo_move_210 (fun H locs hH => ?_)
      refine x_sx C b_Mo_move_213_216 hl (L' := [(4, .int 1), (0, .ref (ad 20)), (1, .int turn), (2, .int fw), (3, .int (wayO fw))]) (st' := []) rfl (fun ls hl => ?_)
      refine x_loop (X := Nat) (fun x => n - x) (fun x H locs => x ≤ n - 1 ∧ Hw G A s (mW G ad w0 (grI (va_up sc 7 (sc 7 + 1), ari) x).1 (grI (va_up sc 7 (sc 7 + 1), ari) x).2) H locs) (fun x => [(0, .ref (ad 20)), (4, .int (nI (x + 1)))]) 216 ?_ 0 _ _ _ ⟨Nat.zero_le _, hH⟩ (lv_sub hl [1, 0] rfl)
      intro g H locs ls hI hl IH2
      obtain ⟨hgn, hH⟩ := hI
      obtain ⟨b, hbe⟩ : ∃ b, b = g + 1 := ⟨_, rfl⟩
      have hl : lv_has ls 7 [(0, .ref (ad 20)), (4, .int (nI b))] := by rw [hbe]; exact hl
      have hs2 := grI_s (va_up sc 7 (sc 7 + 1), ari) g
      have e1 : (grI (va_up sc 7 (sc 7 + 1), ari) g).1 1 = nI n := (grI_sc _ _ (by decide)).trans h1
      have e6 : (grI (va_up sc 7 (sc 7 + 1), ari) g).1 6 = nI np := (grI_sc _ _ (by decide)).trans h6
      have e7 : ¬ (grI (va_up sc 7 (sc 7 + 1), ari) g).1 7 = -1 := fun z => h7 ((grI_sc (va_up sc 7 (sc 7 + 1), ari) g (by decide)).symm.trans z)
      have e12 : (grI (va_up sc 7 (sc 7 + 1), ari) g).1 12 = sc 12 := (grI_sc _ _ (by decide))
      have e17 : (grI (va_up sc 7 (sc 7 + 1), ari) g).2 17 = ar 17 := (grI_ar _ _ (by decide)).trans (hA1 17 (by decide) (by decide) (by decide) (by decide))
      generalize hgi : grI (va_up sc 7 (sc 7 + 1), ari) g = stg at hH hs2 e1 e6 e7 e12 e17
      obtain ⟨scg, arg⟩ := stg
      dsimp only at hH e1 e6 e7 e12 e17
      refine x_sx C b_Mo_move_216_219 hl (L' := [(0, .ref (ad 20)), (4, .int (nI b))]) (st' := [.ref (ad 20), .int (nI b)]) rfl (fun ls hl => ?_)
      refine x_get C hH.1 1000 mW_o 2 (v := .int (scg 1)) rfl rfl (by decide) t_644 (fun _ z => z) d_Mo_move_219 ?_
      refine lv_icmp_ge (tgt := 308) C.1 C.2.1 d_Mo_move_222 (by decide) (fun hb2 => ?_) (fun hb2 => ?_)
      · have hg1 : g = n - 1 := by rw [e1, nI_leI (by omega) (by omega)] at hb2; omega
        have hfin : fMove (sc, ar) turn fw = lookI (scg, arg) n := by
          unfold fMove
          rw [show nB (sc, ar) = n from by unfold nB; dsimp only; rw [h1, nI_clamp (by omega)]]
          dsimp only
          rw [hma, ← hi1, hmi, hi1, ← hg1, hgi]
          unfold fLook nB
          dsimp only
          rw [e1, nI_clamp (by omega)]
        have hg2 : ∀ k, k < n → rgT arg k := by
          intro k hk
          have q := hg k hk
          rw [hma, ← hi1, hmi, hi1, ← hg1, hgi] at q
          exact q
        refine x_sx C b_Mo_move_308_309 hl (L' := [(0, .ref (ad 20)), (4, .int (nI b))]) (st' := [.ref (ad 20)]) rfl (fun ls hl => ?_)
        refine x_mw0 (x_cV C hH.1 mW_o rfl (c_Mo_look l G A ad w0 scg arg n np e1 hn e6 hnp e7 (by rw [e17]; exact hz) (by rw [e12, e17]; exact hc) hg2) t_773 t_14 t_770 t_772 ts_18 hd_Mo_look blind_Pre (pre_mt C hH hA trivial) (As := []) (rest := []) rfl hl.1 rfl rfl rfl ⟨Nat.le_of_ble_eq_true rfl, Nat.le_of_ble_eq_true rfl⟩ (Nat.le_of_ble_eq_true rfl) ⟨Nat.zero_le _, Nat.zero_le _⟩ d_Mo_move_309) hH.2.2 (fun H locs hH => ?_)
        exact x_vrt C hr hH.2.2 ⟨rfl, by rw [hfin]; exact hH.1, by rw [hfin]; exact hH.2.1⟩ (Nat.le_refl _) (Nat.le_refl _) d_Mo_move_312
      · have hbn : b < n := by rw [e1, nI_leI (by omega) (by omega)] at hb2; omega
        have hb3 : b < 3 := by omega
        rw [← hbe] at hs2
        refine x_sx C b_Mo_move_225_228 hl (L' := [(0, .ref (ad 20)), (4, .int (nI b))]) (st' := [.int (nI b), .ref (ad 20)]) rfl (fun ls hl => ?_)
        refine x_ro (x_cV C hH.1 mW_o rfl (c_Mo_askewOf l G ad w0 scg arg b hb3) t_815 t_14 t_812 t_814 ts_22 hd_Mo_askewOf blind_Pro (pre_ro C hH.1 hH.2.2) (As := [.int (nI b)]) (rest := []) rfl hl.1 rfl rfl rfl ⟨Nat.le_of_ble_eq_true rfl, Nat.le_of_ble_eq_true rfl⟩ (Nat.le_of_ble_eq_true rfl) ⟨Nat.zero_le _, Nat.zero_le _⟩ d_Mo_move_228) ?_
        refine x_sx C b_Mo_move_231_233 hl (L' := [(5, .int (p_ask (arg 14) b)), (0, .ref (ad 20)), (4, .int (nI b))]) (st' := []) rfl (fun ls hl => ?_)
        refine x_join (X := Unit) (nL := 7) (fun _ => True) (fun _ => [(5, .int (p_ask (arg 14) b)), (0, .ref (ad 20)), (4, .int (nI b))]) (fun _ => [.int (szB arg b)]) 246 (fun ls _ hl _ => ?_) (fun J2 => ?_)
        · have hl : lv_has ls 7 [(5, .int (p_ask (arg 14) b)), (0, .ref (ad 20)), (4, .int (nI b))] := hl
          refine x_sx C b_Mo_move_246_248 hl (L' := [(6, .int (szB arg b)), (5, .int (p_ask (arg 14) b)), (0, .ref (ad 20)), (4, .int (nI b))]) (st' := []) rfl (fun ls hl => ?_)
          refine x_sx C b_Mo_move_248_249 hl (L' := [(6, .int (szB arg b)), (5, .int (p_ask (arg 14) b)), (0, .ref (ad 20)), (4, .int (nI b))]) (st' := [.ref (ad 20)]) rfl (fun ls hl => ?_)
          refine x_get C hH.1 1000 mW_o 23 (v := .ref (ad 16)) rfl rfl (by decide) t_665 (fun _ z => z) d_Mo_move_249 ?_
          refine x_sx C b_Mo_move_252_257 hl (L' := [(6, .int (szB arg b)), (5, .int (p_ask (arg 14) b)), (0, .ref (ad 20)), (4, .int (nI b))]) (st' := [.ref (ad 20), .int (szB arg b), .int (nI b), .ref (ad 16)]) rfl (fun ls hl => ?_)
          refine x_join (X := Unit) (nL := 7) (fun _ => True) (fun _ => [(6, .int (szB arg b)), (5, .int (p_ask (arg 14) b)), (0, .ref (ad 20)), (4, .int (nI b))]) (fun _ => [.int (if arg 16 b < szB arg b then szB arg b else arg 16 b), .int (nI b), .ref (ad 16)]) 278 (fun ls _ hl _ => ?_) (fun J3 => ?_)
          · have hl : lv_has ls 7 [(6, .int (szB arg b)), (5, .int (p_ask (arg 14) b)), (0, .ref (ad 20)), (4, .int (nI b))] := hl
            refine m_ast C hH 16 (by decide) (by decide) rfl (N := 3) rfl (f := (arg 16)) rfl (j := b) rfl hb3 d_Mo_move_278 (fun H locs hH => ?_)
            have hH : Hw G A s (mW G ad w0 scg (grB (scg, arg) b).2) H locs := hH
            refine x_sx C b_Mo_move_279_281 hl (L' := [(6, .int (szB arg b)), (5, .int (p_ask (arg 14) b)), (0, .ref (ad 20)), (4, .int (nI b))]) (st' := [.ref (ad 20), .ref (ad 20)]) rfl (fun ls hl => ?_)
            refine x_get C hH.1 1000 mW_o 25 (v := .int (scg 8)) rfl rfl (by decide) t_667 (fun _ z => z) d_Mo_move_281 ?_
            refine x_join (X := Unit) (nL := 7) (fun _ => True) (fun _ => [(6, .int (szB arg b)), (5, .int (p_ask (arg 14) b)), (0, .ref (ad 20)), (4, .int (nI b))]) (fun _ => [.int (if ¬ scg 8 = 0 ∨ 24 < szB arg b then 1 else 0), .ref (ad 20)]) 299 (fun ls _ hl _ => ?_) (fun J4 => ?_)
            · have hl : lv_has ls 7 [(6, .int (szB arg b)), (5, .int (p_ask (arg 14) b)), (0, .ref (ad 20)), (4, .int (nI b))] := hl
              refine m_put C hH 25 8 rfl (by decide) t_667 rfl rfl (by split <;> rfl) (by split <;> rfl) d_Mo_move_299 (fun H locs hH => ?_)
              have hH : Hw G A s (mW G ad w0 (grB (scg, arg) b).1 (grB (scg, arg) b).2) H locs := hH
              refine x_sx C b_Mo_move_302_305 hl (L' := [(4, .int ((nI b) + 1)), (6, .int (szB arg b)), (5, .int (p_ask (arg 14) b)), (0, .ref (ad 20))]) (st' := []) rfl (fun ls hl => ?_)
              refine x_goto (tgt := 216) C d_Mo_move_305 (by decide) ?_
              refine IH2 (g + 1) _ _ _ (by omega) ⟨by omega, ?_⟩ (by rw [← hbe, ← nI_1]; exact (lv_sub hl [3, 0] rfl))
              rw [← hbe, hs2]
              exact hH
            · refine lv_if_ne (tgt := 294) C.1 C.2.1 d_Mo_move_284 (by decide) (fun hq => ?_) (fun hq => ?_)
              · refine x_sx C b_Mo_move_294_295 hl (L' := [(6, .int (szB arg b)), (5, .int (p_ask (arg 14) b)), (0, .ref (ad 20)), (4, .int (nI b))]) (st' := [.int 1, .ref (ad 20)]) rfl (fun ls hl => ?_)
                refine x_goto (tgt := 299) C d_Mo_move_295 (by decide) ?_
                have q := J4 ls () hl trivial
                try dsimp only at q
                rw [if_pos (Or.inl hq)] at q
                exact q
              · refine x_sx C b_Mo_move_287_291 hl (L' := [(6, .int (szB arg b)), (5, .int (p_ask (arg 14) b)), (0, .ref (ad 20)), (4, .int (nI b))]) (st' := [.int 24, .int (szB arg b), .ref (ad 20)]) rfl (fun ls hl => ?_)
                refine lv_icmp_le (tgt := 298) C.1 C.2.1 d_Mo_move_291 (by decide) (fun hr2 => ?_) (fun hr2 => ?_)
                · refine x_sx C b_Mo_move_298_299 hl (L' := [(6, .int (szB arg b)), (5, .int (p_ask (arg 14) b)), (0, .ref (ad 20)), (4, .int (nI b))]) (st' := [.int 0, .ref (ad 20)]) rfl (fun ls hl => ?_)
                  have q := J4 ls () hl trivial
                  try dsimp only at q
                  rw [if_neg (fun z => z.elim (fun y => y hq) (fun y => absurd hr2 (Int32.not_le.mpr y)))] at q
                  exact q
                · refine x_sx C b_Mo_move_294_295 hl (L' := [(6, .int (szB arg b)), (5, .int (p_ask (arg 14) b)), (0, .ref (ad 20)), (4, .int (nI b))]) (st' := [.int 1, .ref (ad 20)]) rfl (fun ls hl => ?_)
                  refine x_goto (tgt := 299) C d_Mo_move_295 (by decide) ?_
                  have q := J4 ls () hl trivial
                  try dsimp only at q
                  rw [if_pos (Or.inr (Int32.not_le.mp hr2))] at q
                  exact q
          · refine x_get C hH.1 1000 mW_o 23 (v := .ref (ad 16)) rfl rfl (by decide) t_665 (fun _ z => z) d_Mo_move_257 ?_
            refine x_sx C b_Mo_move_260_262 hl (L' := [(6, .int (szB arg b)), (5, .int (p_ask (arg 14) b)), (0, .ref (ad 20)), (4, .int (nI b))]) (st' := [.int (nI b), .ref (ad 16), .int (szB arg b), .int (nI b), .ref (ad 16)]) rfl (fun ls hl => ?_)
            refine x_ald C hH.1 (1001 + 16) (mW_i 16 (by decide) (by decide) rfl rfl rfl) (N := 3) (f := (arg 16)) (j := b) rfl hb3 (by decide) d_Mo_move_262 ?_
            refine lv_icmp_le (tgt := 271) C.1 C.2.1 d_Mo_move_263 (by decide) (fun hq => ?_) (fun hq => ?_)
            · refine x_sx C b_Mo_move_271_272 hl (L' := [(6, .int (szB arg b)), (5, .int (p_ask (arg 14) b)), (0, .ref (ad 20)), (4, .int (nI b))]) (st' := [.ref (ad 20), .int (nI b), .ref (ad 16)]) rfl (fun ls hl => ?_)
              refine x_get C hH.1 1000 mW_o 23 (v := .ref (ad 16)) rfl rfl (by decide) t_665 (fun _ z => z) d_Mo_move_272 ?_
              refine x_sx C b_Mo_move_275_277 hl (L' := [(6, .int (szB arg b)), (5, .int (p_ask (arg 14) b)), (0, .ref (ad 20)), (4, .int (nI b))]) (st' := [.int (nI b), .ref (ad 16), .int (nI b), .ref (ad 16)]) rfl (fun ls hl => ?_)
              refine x_ald C hH.1 (1001 + 16) (mW_i 16 (by decide) (by decide) rfl rfl rfl) (N := 3) (f := (arg 16)) (j := b) rfl hb3 (by decide) d_Mo_move_277 ?_
              have q := J3 ls () hl trivial
              try dsimp only at q
              rw [if_neg (Int32.not_lt.mpr hq)] at q
              exact q
            · refine x_sx C b_Mo_move_266_268 hl (L' := [(6, .int (szB arg b)), (5, .int (p_ask (arg 14) b)), (0, .ref (ad 20)), (4, .int (nI b))]) (st' := [.int (szB arg b), .int (nI b), .ref (ad 16)]) rfl (fun ls hl => ?_)
              refine x_goto (tgt := 278) C d_Mo_move_268 (by decide) ?_
              have q := J3 ls () hl trivial
              try dsimp only at q
              rw [if_pos (Int32.not_le.mp hq)] at q
              exact q
        · refine x_sx C b_Mo_move_233_235 hl (L' := [(5, .int (p_ask (arg 14) b)), (0, .ref (ad 20)), (4, .int (nI b))]) (st' := [.int (p_ask (arg 14) b)]) rfl (fun ls hl => ?_)
          refine lv_if_ge (tgt := 244) C.1 C.2.1 d_Mo_move_235 (by decide) (fun hq => ?_) (fun hq => ?_)
          · refine x_sx C b_Mo_move_244_246 hl (L' := [(5, .int (p_ask (arg 14) b)), (0, .ref (ad 20)), (4, .int (nI b))]) (st' := [.int (p_ask (arg 14) b)]) rfl (fun ls hl => ?_)
            have q := J2 ls () hl trivial
            try dsimp only at q
            rw [show szB arg b = p_ask (arg 14) b from if_neg (Int32.not_lt.mpr hq)] at q
            exact q
          · refine x_sx C b_Mo_move_238_241 hl (L' := [(5, .int (p_ask (arg 14) b)), (0, .ref (ad 20)), (4, .int (nI b))]) (st' := [.int (-(p_ask (arg 14) b))]) rfl (fun ls hl => ?_)
            refine x_goto (tgt := 246) C d_Mo_move_241 (by decide) ?_
            have q := J2 ls () hl trivial
            try dsimp only at q
            rw [show szB arg b = -p_ask (arg 14) b from if_pos (Int32.not_le.mp hq)] at q
            exact q
    · have hkn : k < n := by rw [h1, nI_leI (by omega) (by omega)] at hb; omega
      have hk : k < 3 := by omega
      have hl0 : ¬ ari 1 k = 0 := by rw [hA1 1 (by decide) (by decide) (by decide) (by decide)]; exact hlen k hkn
      rw [← hke] at hs
      refine x_sx C b_Mo_move_101_102 hl (L' := [(0, .ref (ad 20)), (1, .int turn), (2, .int fw), (3, .int (wayO fw)), (4, .int (nI k))]) (st' := [.ref (ad 20)]) rfl (fun ls hl => ?_)
      refine x_get C hH.1 1000 mW_o 22 (v := .ref (ad 15)) rfl rfl (by decide) t_664 (fun _ z => z) d_Mo_move_102 ?_
      refine x_sx C b_Mo_move_105_108 hl (L' := [(0, .ref (ad 20)), (1, .int turn), (2, .int fw), (3, .int (wayO fw)), (4, .int (nI k))]) (st' := [.ref (ad 20), .int (nI k), .ref (ad 15)]) rfl (fun ls hl => ?_)
      refine x_get C hH.1 1000 mW_o 22 (v := .ref (ad 15)) rfl rfl (by decide) t_664 (fun _ z => z) d_Mo_move_108 ?_
      refine x_sx C b_Mo_move_111_113 hl (L' := [(0, .ref (ad 20)), (1, .int turn), (2, .int fw), (3, .int (wayO fw)), (4, .int (nI k))]) (st' := [.int (nI k), .ref (ad 15), .int (nI k), .ref (ad 15)]) rfl (fun ls hl => ?_)
      refine x_ald C hH.1 (1001 + 15) (mW_i 15 (by decide) (by decide) rfl rfl rfl) (N := 3) (f := (ari 15)) (j := k) rfl hk (by decide) d_Mo_move_113 ?_
      refine x_sx C b_Mo_move_114_118 hl (L' := [(0, .ref (ad 20)), (1, .int turn), (2, .int fw), (3, .int (wayO fw)), (4, .int (nI k))]) (st' := [.int (nI k), .ref (ad 20), .int (wayO fw), .int (ari 15 k), .int (nI k), .ref (ad 15)]) rfl (fun ls hl => ?_)
      refine x_ro (x_cV C hH.1 mW_o rfl (c_Mo_askewOf l G ad w0 sc ari k hk) t_815 t_14 t_812 t_814 ts_22 hd_Mo_askewOf blind_Pro (pre_ro C hH.1 hH.2.2) (As := [.int (nI k)]) (rest := [.int (wayO fw), .int (ari 15 k), .int (nI k), .ref (ad 15)]) rfl hl.1 rfl rfl rfl ⟨Nat.le_of_ble_eq_true rfl, Nat.le_of_ble_eq_true rfl⟩ (Nat.le_of_ble_eq_true rfl) ⟨Nat.zero_le _, Nat.zero_le _⟩ d_Mo_move_118) ?_
      refine x_sx C b_Mo_move_121_123 hl (L' := [(0, .ref (ad 20)), (1, .int turn), (2, .int fw), (3, .int (wayO fw)), (4, .int (nI k))]) (st' := [.ref (ad 20), .int ((wayO fw) * (p_ask (ari 14) k)), .int (ari 15 k), .int (nI k), .ref (ad 15)]) rfl (fun ls hl => ?_)
      refine x_get C hH.1 1000 mW_o 11 (v := .int (sc 5)) rfl rfl (by decide) t_653 (fun _ z => z) d_Mo_move_123 ?_
      refine x_sx C b_Mo_move_126_128 hl (L' := [(0, .ref (ad 20)), (1, .int turn), (2, .int fw), (3, .int (wayO fw)), (4, .int (nI k))]) (st' := [.int ((ari 15 k) + (((wayO fw) * (p_ask (ari 14) k)) * (sc 5))), .int (nI k), .ref (ad 15)]) rfl (fun ls hl => ?_)
      refine m_ast C hH 15 (by decide) (by decide) rfl (N := 3) rfl (f := (ari 15)) rfl (j := k) rfl hk d_Mo_move_128 (fun H locs hH => ?_)
      refine x_sx C b_Mo_move_129_130 hl (L' := [(0, .ref (ad 20)), (1, .int turn), (2, .int fw), (3, .int (wayO fw)), (4, .int (nI k))]) (st' := [.ref (ad 20)]) rfl (fun ls hl => ?_)
      refine x_get C hH.1 1000 mW_o 22 (v := .ref (ad 15)) rfl rfl (by decide) t_664 (fun _ z => z) d_Mo_move_130 ?_
      refine x_sx C b_Mo_move_133_135 hl (L' := [(0, .ref (ad 20)), (1, .int turn), (2, .int fw), (3, .int (wayO fw)), (4, .int (nI k))]) (st' := [.int (nI k), .ref (ad 15)]) rfl (fun ls hl => ?_)
      refine x_ald C hH.1 (1001 + 15) (mW_i 15 (by decide) (by decide) rfl rfl rfl) (N := 3) (f := (upd (ari 15) k ((ari 15 k) + (((wayO fw) * (p_ask (ari 14) k)) * (sc 5))))) (j := k) rfl hk (by decide) d_Mo_move_135 ?_
      rw [pk_us]
      refine x_sx C b_Mo_move_136_137 hl (L' := [(0, .ref (ad 20)), (1, .int turn), (2, .int fw), (3, .int (wayO fw)), (4, .int (nI k))]) (st' := [.ref (ad 20), .int ((ari 15 k) + (((wayO fw) * (p_ask (ari 14) k)) * (sc 5)))]) rfl (fun ls hl => ?_)
      refine x_get C hH.1 1000 mW_o 3 (v := .ref (ad 1)) rfl rfl (by decide) t_645 (fun _ z => z) d_Mo_move_137 ?_
      refine x_sx C b_Mo_move_140_142 hl (L' := [(0, .ref (ad 20)), (1, .int turn), (2, .int fw), (3, .int (wayO fw)), (4, .int (nI k))]) (st' := [.int (nI k), .ref (ad 1), .int ((ari 15 k) + (((wayO fw) * (p_ask (ari 14) k)) * (sc 5)))]) rfl (fun ls hl => ?_)
      refine x_ald C hH.1 (1001 + 1) (mW_i 1 (by decide) (by decide) rfl rfl rfl) (N := 3) (f := (ari 1)) (j := k) rfl hk (by decide) d_Mo_move_142 ?_
      refine lv_idiv C.1 C.2.1 d_Mo_move_143 hl0 ?_
      refine x_sx C b_Mo_move_144_147 hl (L' := [(5, .int (((ari 15 k) + (((wayO fw) * (p_ask (ari 14) k)) * (sc 5))) / (ari 1 k))), (0, .ref (ad 20)), (1, .int turn), (2, .int fw), (3, .int (wayO fw)), (4, .int (nI k))]) (st' := [.ref (ad 20)]) rfl (fun ls hl => ?_)
      refine x_get C hH.1 1000 mW_o 21 (v := .ref (ad 14)) rfl rfl (by decide) t_663 (fun _ z => z) d_Mo_move_147 ?_
      refine x_sx C b_Mo_move_150_153 hl (L' := [(5, .int (((ari 15 k) + (((wayO fw) * (p_ask (ari 14) k)) * (sc 5))) / (ari 1 k))), (0, .ref (ad 20)), (1, .int turn), (2, .int fw), (3, .int (wayO fw)), (4, .int (nI k))]) (st' := [.ref (ad 20), .int (nI k), .ref (ad 14)]) rfl (fun ls hl => ?_)
      refine x_get C hH.1 1000 mW_o 21 (v := .ref (ad 14)) rfl rfl (by decide) t_663 (fun _ z => z) d_Mo_move_153 ?_
      refine x_sx C b_Mo_move_156_158 hl (L' := [(5, .int (((ari 15 k) + (((wayO fw) * (p_ask (ari 14) k)) * (sc 5))) / (ari 1 k))), (0, .ref (ad 20)), (1, .int turn), (2, .int fw), (3, .int (wayO fw)), (4, .int (nI k))]) (st' := [.int (nI k), .ref (ad 14), .int (nI k), .ref (ad 14)]) rfl (fun ls hl => ?_)
      refine x_ald C hH.1 (1001 + 14) (mW_i 14 (by decide) (by decide) rfl rfl rfl) (N := 3) (f := (ari 14)) (j := k) rfl hk (by decide) d_Mo_move_158 ?_
      refine x_sx C b_Mo_move_159_165 hl (L' := [(5, .int (((ari 15 k) + (((wayO fw) * (p_ask (ari 14) k)) * (sc 5))) / (ari 1 k))), (0, .ref (ad 20)), (1, .int turn), (2, .int fw), (3, .int (wayO fw)), (4, .int (nI k))]) (st' := [.int (((ari 14 k) + (((ari 15 k) + (((wayO fw) * (p_ask (ari 14) k)) * (sc 5))) / (ari 1 k))) &&& 63), .int (nI k), .ref (ad 14)]) rfl (fun ls hl => ?_)
      refine m_ast C hH 14 (by decide) (by decide) rfl (N := 3) rfl (f := (ari 14)) rfl (j := k) rfl hk d_Mo_move_165 (fun H locs hH => ?_)
      refine x_sx C b_Mo_move_166_167 hl (L' := [(5, .int (((ari 15 k) + (((wayO fw) * (p_ask (ari 14) k)) * (sc 5))) / (ari 1 k))), (0, .ref (ad 20)), (1, .int turn), (2, .int fw), (3, .int (wayO fw)), (4, .int (nI k))]) (st' := [.ref (ad 20)]) rfl (fun ls hl => ?_)
      refine x_get C hH.1 1000 mW_o 22 (v := .ref (ad 15)) rfl rfl (by decide) t_664 (fun _ z => z) d_Mo_move_167 ?_
      refine x_sx C b_Mo_move_170_173 hl (L' := [(5, .int (((ari 15 k) + (((wayO fw) * (p_ask (ari 14) k)) * (sc 5))) / (ari 1 k))), (0, .ref (ad 20)), (1, .int turn), (2, .int fw), (3, .int (wayO fw)), (4, .int (nI k))]) (st' := [.ref (ad 20), .int (nI k), .ref (ad 15)]) rfl (fun ls hl => ?_)
      refine x_get C hH.1 1000 mW_o 22 (v := .ref (ad 15)) rfl rfl (by decide) t_664 (fun _ z => z) d_Mo_move_173 ?_
      refine x_sx C b_Mo_move_176_178 hl (L' := [(5, .int (((ari 15 k) + (((wayO fw) * (p_ask (ari 14) k)) * (sc 5))) / (ari 1 k))), (0, .ref (ad 20)), (1, .int turn), (2, .int fw), (3, .int (wayO fw)), (4, .int (nI k))]) (st' := [.int (nI k), .ref (ad 15), .int (nI k), .ref (ad 15)]) rfl (fun ls hl => ?_)
      refine x_ald C hH.1 (1001 + 15) (mW_i 15 (by decide) (by decide) rfl rfl rfl) (N := 3) (f := (upd (ari 15) k ((ari 15 k) + (((wayO fw) * (p_ask (ari 14) k)) * (sc 5))))) (j := k) rfl hk (by decide) d_Mo_move_178 ?_
      rw [pk_us]
      refine x_sx C b_Mo_move_179_182 hl (L' := [(5, .int (((ari 15 k) + (((wayO fw) * (p_ask (ari 14) k)) * (sc 5))) / (ari 1 k))), (0, .ref (ad 20)), (1, .int turn), (2, .int fw), (3, .int (wayO fw)), (4, .int (nI k))]) (st' := [.ref (ad 20), .int (((ari 15 k) + (((wayO fw) * (p_ask (ari 14) k)) * (sc 5))) / (ari 1 k)), .int ((ari 15 k) + (((wayO fw) * (p_ask (ari 14) k)) * (sc 5))), .int (nI k), .ref (ad 15)]) rfl (fun ls hl => ?_)
      refine x_get C hH.1 1000 mW_o 3 (v := .ref (ad 1)) rfl rfl (by decide) t_645 (fun _ z => z) d_Mo_move_182 ?_
      refine x_sx C b_Mo_move_185_187 hl (L' := [(5, .int (((ari 15 k) + (((wayO fw) * (p_ask (ari 14) k)) * (sc 5))) / (ari 1 k))), (0, .ref (ad 20)), (1, .int turn), (2, .int fw), (3, .int (wayO fw)), (4, .int (nI k))]) (st' := [.int (nI k), .ref (ad 1), .int (((ari 15 k) + (((wayO fw) * (p_ask (ari 14) k)) * (sc 5))) / (ari 1 k)), .int ((ari 15 k) + (((wayO fw) * (p_ask (ari 14) k)) * (sc 5))), .int (nI k), .ref (ad 15)]) rfl (fun ls hl => ?_)
      refine x_ald C hH.1 (1001 + 1) (mW_i 1 (by decide) (by decide) rfl rfl rfl) (N := 3) (f := (ari 1)) (j := k) rfl hk (by decide) d_Mo_move_187 ?_
      refine x_sx C b_Mo_move_188_190 hl (L' := [(5, .int (((ari 15 k) + (((wayO fw) * (p_ask (ari 14) k)) * (sc 5))) / (ari 1 k))), (0, .ref (ad 20)), (1, .int turn), (2, .int fw), (3, .int (wayO fw)), (4, .int (nI k))]) (st' := [.int (((ari 15 k) + (((wayO fw) * (p_ask (ari 14) k)) * (sc 5))) - ((((ari 15 k) + (((wayO fw) * (p_ask (ari 14) k)) * (sc 5))) / (ari 1 k)) * (ari 1 k))), .int (nI k), .ref (ad 15)]) rfl (fun ls hl => ?_)
      refine m_ast C hH 15 (by decide) (by decide) rfl (N := 3) rfl (f := (upd (ari 15) k ((ari 15 k) + (((wayO fw) * (p_ask (ari 14) k)) * (sc 5))))) rfl (j := k) rfl hk d_Mo_move_190 (fun H locs hH => ?_)
      refine x_sx C b_Mo_move_191_194 hl (L' := [(5, .int (((ari 15 k) + (((wayO fw) * (p_ask (ari 14) k)) * (sc 5))) / (ari 1 k))), (0, .ref (ad 20)), (1, .int turn), (2, .int fw), (3, .int (wayO fw)), (4, .int (nI k))]) (st' := [.int (nI k), .ref (ad 20)]) rfl (fun ls hl => ?_)
      refine x_mw0 (x_cV C hH.1 mW_o rfl (c_Mo_hang l G A ad w0 sc (va_up (va_up (va_up ari 15 (upd (ari 15) k ((ari 15 k) + (((wayO fw) * (p_ask (ari 14) k)) * (sc 5))))) 14 (upd (ari 14) k (((ari 14 k) + (((ari 15 k) + (((wayO fw) * (p_ask (ari 14) k)) * (sc 5))) / (ari 1 k))) &&& 63))) 15 (upd (upd (ari 15) k ((ari 15 k) + (((wayO fw) * (p_ask (ari 14) k)) * (sc 5)))) k (((ari 15 k) + (((wayO fw) * (p_ask (ari 14) k)) * (sc 5))) - ((((ari 15 k) + (((wayO fw) * (p_ask (ari 14) k)) * (sc 5))) / (ari 1 k)) * (ari 1 k))))) k (by omega) hk) t_761 t_14 t_758 t_760 ts_15 hd_Mo_hang blind_Pre (pre_mt C hH hA trivial) (As := [.int (nI k)]) (rest := []) rfl hl.1 rfl rfl rfl ⟨Nat.le_of_ble_eq_true rfl, Nat.le_of_ble_eq_true rfl⟩ (Nat.le_of_ble_eq_true rfl) ⟨Nat.zero_le _, Nat.zero_le _⟩ d_Mo_move_194) hH.2.2 (fun H locs hH => ?_)
      refine x_sx C b_Mo_move_197_200 hl (L' := [(4, .int ((nI k) + 1)), (5, .int (((ari 15 k) + (((wayO fw) * (p_ask (ari 14) k)) * (sc 5))) / (ari 1 k))), (0, .ref (ad 20)), (1, .int turn), (2, .int fw), (3, .int (wayO fw))]) (st' := []) rfl (fun ls hl => ?_)
      refine x_goto (tgt := 92) C d_Mo_move_200 (by decide) ?_
      refine IH1 (i + 1) _ _ _ (by omega) ⟨by omega, ?_⟩ (by rw [← hke, ← nI_1]; exact (lv_sub hl [2, 3, 4, 5, 0] rfl))
      rw [← hke, hs]
      exact hH
  · refine x_sx C b_Mo_move_0_1 hl (L' := [(0, .ref (ad 20)), (1, .int turn), (2, .int fw)]) (st' := [.int fw]) rfl (fun ls hl => ?_)
    refine lv_if_eq (tgt := 8) C.1 C.2.1 d_Mo_move_1 (by decide) (fun hq => ?_) (fun hq => ?_)
    · refine x_sx C b_Mo_move_8_9 hl (L' := [(0, .ref (ad 20)), (1, .int turn), (2, .int fw)]) (st' := [.int (-1)]) rfl (fun ls hl => ?_)
      have q := J1 ls () hl trivial
      try dsimp only at q
      rw [show wayO fw = -1 from if_pos hq] at q
      exact q
    · refine x_sx C b_Mo_move_4_5 hl (L' := [(0, .ref (ad 20)), (1, .int turn), (2, .int fw)]) (st' := [.int 1]) rfl (fun ls hl => ?_)
      refine x_goto (tgt := 9) C d_Mo_move_5 (by decide) ?_
      have q := J1 ls () hl trivial
      try dsimp only at q
      rw [show wayO fw = 1 from if_neg hq] at q
      exact q
theorem hd_Mo_move : hdP y_Mo_move 2 := ⟨by decide +kernel, by decide +kernel, by decide +kernel⟩
