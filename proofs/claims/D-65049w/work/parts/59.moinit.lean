theorem b_Mo_init_0_1 : decs prog_7_method_1_code [(.aload_n 0, 1)] 0 1 = true := by decide +kernel
theorem d_Mo_init_1 : decode prog_7_method_1_code 1 = .ok (.invokespecial 1, 3) := by decide +kernel
theorem b_Mo_init_4_7 : decs prog_7_method_1_code [(.aload_n 0, 1), (.bipush 17, 2)] 4 7 = true := by decide +kernel
theorem d_Mo_init_7 : decode prog_7_method_1_code 7 = .ok (.newarray .int, 2) := by decide +kernel
theorem b_Mo_init_9_14 : decs prog_7_method_1_code [(.dup, 1), (.iconst 0, 1), (.sipush 4096, 3)] 9 14 = true := by decide +kernel
theorem d_Mo_init_14 : decode prog_7_method_1_code 14 = .ok (.iastore, 1) := by decide +kernel
theorem b_Mo_init_15_20 : decs prog_7_method_1_code [(.dup, 1), (.iconst 1, 1), (.sipush 4076, 3)] 15 20 = true := by decide +kernel
theorem d_Mo_init_20 : decode prog_7_method_1_code 20 = .ok (.iastore, 1) := by decide +kernel
theorem b_Mo_init_21_26 : decs prog_7_method_1_code [(.dup, 1), (.iconst 2, 1), (.sipush 4017, 3)] 21 26 = true := by decide +kernel
theorem d_Mo_init_26 : decode prog_7_method_1_code 26 = .ok (.iastore, 1) := by decide +kernel
theorem b_Mo_init_27_32 : decs prog_7_method_1_code [(.dup, 1), (.iconst 3, 1), (.sipush 3920, 3)] 27 32 = true := by decide +kernel
theorem d_Mo_init_32 : decode prog_7_method_1_code 32 = .ok (.iastore, 1) := by decide +kernel
theorem b_Mo_init_33_38 : decs prog_7_method_1_code [(.dup, 1), (.iconst 4, 1), (.sipush 3784, 3)] 33 38 = true := by decide +kernel
theorem d_Mo_init_38 : decode prog_7_method_1_code 38 = .ok (.iastore, 1) := by decide +kernel
theorem b_Mo_init_39_44 : decs prog_7_method_1_code [(.dup, 1), (.iconst 5, 1), (.sipush 3612, 3)] 39 44 = true := by decide +kernel
theorem d_Mo_init_44 : decode prog_7_method_1_code 44 = .ok (.iastore, 1) := by decide +kernel
theorem b_Mo_init_45_51 : decs prog_7_method_1_code [(.dup, 1), (.bipush 6, 2), (.sipush 3406, 3)] 45 51 = true := by decide +kernel
theorem d_Mo_init_51 : decode prog_7_method_1_code 51 = .ok (.iastore, 1) := by decide +kernel
theorem b_Mo_init_52_58 : decs prog_7_method_1_code [(.dup, 1), (.bipush 7, 2), (.sipush 3166, 3)] 52 58 = true := by decide +kernel
theorem d_Mo_init_58 : decode prog_7_method_1_code 58 = .ok (.iastore, 1) := by decide +kernel
theorem b_Mo_init_59_65 : decs prog_7_method_1_code [(.dup, 1), (.bipush 8, 2), (.sipush 2896, 3)] 59 65 = true := by decide +kernel
theorem d_Mo_init_65 : decode prog_7_method_1_code 65 = .ok (.iastore, 1) := by decide +kernel
theorem b_Mo_init_66_72 : decs prog_7_method_1_code [(.dup, 1), (.bipush 9, 2), (.sipush 2598, 3)] 66 72 = true := by decide +kernel
theorem d_Mo_init_72 : decode prog_7_method_1_code 72 = .ok (.iastore, 1) := by decide +kernel
theorem b_Mo_init_73_79 : decs prog_7_method_1_code [(.dup, 1), (.bipush 10, 2), (.sipush 2276, 3)] 73 79 = true := by decide +kernel
theorem d_Mo_init_79 : decode prog_7_method_1_code 79 = .ok (.iastore, 1) := by decide +kernel
theorem b_Mo_init_80_86 : decs prog_7_method_1_code [(.dup, 1), (.bipush 11, 2), (.sipush 1931, 3)] 80 86 = true := by decide +kernel
theorem d_Mo_init_86 : decode prog_7_method_1_code 86 = .ok (.iastore, 1) := by decide +kernel
theorem b_Mo_init_87_93 : decs prog_7_method_1_code [(.dup, 1), (.bipush 12, 2), (.sipush 1567, 3)] 87 93 = true := by decide +kernel
theorem d_Mo_init_93 : decode prog_7_method_1_code 93 = .ok (.iastore, 1) := by decide +kernel
theorem b_Mo_init_94_100 : decs prog_7_method_1_code [(.dup, 1), (.bipush 13, 2), (.sipush 1189, 3)] 94 100 = true := by decide +kernel
theorem d_Mo_init_100 : decode prog_7_method_1_code 100 = .ok (.iastore, 1) := by decide +kernel
theorem b_Mo_init_101_107 : decs prog_7_method_1_code [(.dup, 1), (.bipush 14, 2), (.sipush 799, 3)] 101 107 = true := by decide +kernel
theorem d_Mo_init_107 : decode prog_7_method_1_code 107 = .ok (.iastore, 1) := by decide +kernel
theorem b_Mo_init_108_114 : decs prog_7_method_1_code [(.dup, 1), (.bipush 15, 2), (.sipush 401, 3)] 108 114 = true := by decide +kernel
theorem d_Mo_init_114 : decode prog_7_method_1_code 114 = .ok (.iastore, 1) := by decide +kernel
theorem b_Mo_init_115_119 : decs prog_7_method_1_code [(.dup, 1), (.bipush 16, 2), (.iconst 0, 1)] 115 119 = true := by decide +kernel
theorem d_Mo_init_119 : decode prog_7_method_1_code 119 = .ok (.iastore, 1) := by decide +kernel
theorem d_Mo_init_120 : decode prog_7_method_1_code 120 = .ok (.putfield 7, 3) := by decide +kernel
theorem b_Mo_init_123_125 : decs prog_7_method_1_code [(.aload_n 0, 1), (.iconst 3, 1)] 123 125 = true := by decide +kernel
theorem d_Mo_init_125 : decode prog_7_method_1_code 125 = .ok (.newarray .int, 2) := by decide +kernel
theorem d_Mo_init_127 : decode prog_7_method_1_code 127 = .ok (.putfield 13, 3) := by decide +kernel
theorem b_Mo_init_130_132 : decs prog_7_method_1_code [(.aload_n 0, 1), (.iconst 3, 1)] 130 132 = true := by decide +kernel
theorem d_Mo_init_132 : decode prog_7_method_1_code 132 = .ok (.newarray .int, 2) := by decide +kernel
theorem d_Mo_init_134 : decode prog_7_method_1_code 134 = .ok (.putfield 16, 3) := by decide +kernel
theorem b_Mo_init_137_139 : decs prog_7_method_1_code [(.aload_n 0, 1), (.iconst 3, 1)] 137 139 = true := by decide +kernel
theorem d_Mo_init_139 : decode prog_7_method_1_code 139 = .ok (.newarray .int, 2) := by decide +kernel
theorem d_Mo_init_141 : decode prog_7_method_1_code 141 = .ok (.putfield 19, 3) := by decide +kernel
theorem b_Mo_init_144_146 : decs prog_7_method_1_code [(.aload_n 0, 1), (.iconst 3, 1)] 144 146 = true := by decide +kernel
theorem d_Mo_init_146 : decode prog_7_method_1_code 146 = .ok (.newarray .int, 2) := by decide +kernel
theorem d_Mo_init_148 : decode prog_7_method_1_code 148 = .ok (.putfield 22, 3) := by decide +kernel
theorem b_Mo_init_151_153 : decs prog_7_method_1_code [(.aload_n 0, 1), (.iconst 3, 1)] 151 153 = true := by decide +kernel
theorem d_Mo_init_153 : decode prog_7_method_1_code 153 = .ok (.newarray .int, 2) := by decide +kernel
theorem d_Mo_init_155 : decode prog_7_method_1_code 155 = .ok (.putfield 25, 3) := by decide +kernel
theorem b_Mo_init_158_160 : decs prog_7_method_1_code [(.aload_n 0, 1), (.iconst 4, 1)] 158 160 = true := by decide +kernel
theorem d_Mo_init_160 : decode prog_7_method_1_code 160 = .ok (.putfield 28, 3) := by decide +kernel
theorem b_Mo_init_163_166 : decs prog_7_method_1_code [(.aload_n 0, 1), (.bipush 20, 2)] 163 166 = true := by decide +kernel
theorem d_Mo_init_166 : decode prog_7_method_1_code 166 = .ok (.newarray .int, 2) := by decide +kernel
theorem d_Mo_init_168 : decode prog_7_method_1_code 168 = .ok (.putfield 32, 3) := by decide +kernel
theorem b_Mo_init_171_174 : decs prog_7_method_1_code [(.aload_n 0, 1), (.bipush 20, 2)] 171 174 = true := by decide +kernel
theorem d_Mo_init_174 : decode prog_7_method_1_code 174 = .ok (.newarray .int, 2) := by decide +kernel
theorem d_Mo_init_176 : decode prog_7_method_1_code 176 = .ok (.putfield 35, 3) := by decide +kernel
theorem b_Mo_init_179_181 : decs prog_7_method_1_code [(.aload_n 0, 1), (.iconst 4, 1)] 179 181 = true := by decide +kernel
theorem d_Mo_init_181 : decode prog_7_method_1_code 181 = .ok (.newarray .int, 2) := by decide +kernel
theorem d_Mo_init_183 : decode prog_7_method_1_code 183 = .ok (.putfield 38, 3) := by decide +kernel
theorem b_Mo_init_186_189 : decs prog_7_method_1_code [(.aload_n 0, 1), (.bipush 24, 2)] 186 189 = true := by decide +kernel
theorem d_Mo_init_189 : decode prog_7_method_1_code 189 = .ok (.newarray .int, 2) := by decide +kernel
theorem d_Mo_init_191 : decode prog_7_method_1_code 191 = .ok (.putfield 41, 3) := by decide +kernel
theorem b_Mo_init_194_197 : decs prog_7_method_1_code [(.aload_n 0, 1), (.bipush 24, 2)] 194 197 = true := by decide +kernel
theorem d_Mo_init_197 : decode prog_7_method_1_code 197 = .ok (.newarray .int, 2) := by decide +kernel
theorem d_Mo_init_199 : decode prog_7_method_1_code 199 = .ok (.putfield 44, 3) := by decide +kernel
theorem b_Mo_init_202_205 : decs prog_7_method_1_code [(.aload_n 0, 1), (.bipush 24, 2)] 202 205 = true := by decide +kernel
theorem d_Mo_init_205 : decode prog_7_method_1_code 205 = .ok (.newarray .boolean, 2) := by decide +kernel
theorem d_Mo_init_207 : decode prog_7_method_1_code 207 = .ok (.putfield 47, 3) := by decide +kernel
theorem b_Mo_init_210_212 : decs prog_7_method_1_code [(.aload_n 0, 1), (.iconst 3, 1)] 210 212 = true := by decide +kernel
theorem d_Mo_init_212 : decode prog_7_method_1_code 212 = .ok (.newarray .int, 2) := by decide +kernel
theorem d_Mo_init_214 : decode prog_7_method_1_code 214 = .ok (.putfield 51, 3) := by decide +kernel
theorem b_Mo_init_217_219 : decs prog_7_method_1_code [(.aload_n 0, 1), (.iconst 3, 1)] 217 219 = true := by decide +kernel
theorem d_Mo_init_219 : decode prog_7_method_1_code 219 = .ok (.newarray .int, 2) := by decide +kernel
theorem d_Mo_init_221 : decode prog_7_method_1_code 221 = .ok (.putfield 54, 3) := by decide +kernel
theorem b_Mo_init_224_226 : decs prog_7_method_1_code [(.aload_n 0, 1), (.iconst 3, 1)] 224 226 = true := by decide +kernel
theorem d_Mo_init_226 : decode prog_7_method_1_code 226 = .ok (.newarray .int, 2) := by decide +kernel
theorem d_Mo_init_228 : decode prog_7_method_1_code 228 = .ok (.putfield 57, 3) := by decide +kernel
theorem b_Mo_init_231_233 : decs prog_7_method_1_code [(.aload_n 0, 1), (.iconst 3, 1)] 231 233 = true := by decide +kernel
theorem d_Mo_init_233 : decode prog_7_method_1_code 233 = .ok (.newarray .int, 2) := by decide +kernel
theorem d_Mo_init_235 : decode prog_7_method_1_code 235 = .ok (.putfield 60, 3) := by decide +kernel
theorem b_Mo_init_238_240 : decs prog_7_method_1_code [(.aload_n 0, 1), (.iconst 3, 1)] 238 240 = true := by decide +kernel
theorem d_Mo_init_240 : decode prog_7_method_1_code 240 = .ok (.newarray .int, 2) := by decide +kernel
theorem d_Mo_init_242 : decode prog_7_method_1_code 242 = .ok (.putfield 63, 3) := by decide +kernel
theorem b_Mo_init_245_247 : decs prog_7_method_1_code [(.aload_n 0, 1), (.iconst (-1), 1)] 245 247 = true := by decide +kernel
theorem d_Mo_init_247 : decode prog_7_method_1_code 247 = .ok (.putfield 66, 3) := by decide +kernel
theorem b_Mo_init_250_252 : decs prog_7_method_1_code [(.aload_n 0, 1), (.iconst (-1), 1)] 250 252 = true := by decide +kernel
theorem d_Mo_init_252 : decode prog_7_method_1_code 252 = .ok (.putfield 69, 3) := by decide +kernel
theorem b_Mo_init_255_257 : decs prog_7_method_1_code [(.aload_n 0, 1), (.iconst (-1), 1)] 255 257 = true := by decide +kernel
theorem d_Mo_init_257 : decode prog_7_method_1_code 257 = .ok (.putfield 72, 3) := by decide +kernel
theorem b_Mo_init_260_264 : decs prog_7_method_1_code [(.aload_n 0, 1), (.sipush 4096, 3)] 260 264 = true := by decide +kernel
theorem d_Mo_init_264 : decode prog_7_method_1_code 264 = .ok (.newarray .boolean, 2) := by decide +kernel
theorem d_Mo_init_266 : decode prog_7_method_1_code 266 = .ok (.putfield 75, 3) := by decide +kernel
theorem b_Mo_init_269_272 : decs prog_7_method_1_code [(.aload_n 0, 1), (.bipush 20, 2)] 269 272 = true := by decide +kernel
theorem d_Mo_init_272 : decode prog_7_method_1_code 272 = .ok (.newarray .int, 2) := by decide +kernel
theorem d_Mo_init_274 : decode prog_7_method_1_code 274 = .ok (.putfield 78, 3) := by decide +kernel
theorem b_Mo_init_277_281 : decs prog_7_method_1_code [(.aload_n 0, 1), (.sipush 4096, 3)] 277 281 = true := by decide +kernel
theorem d_Mo_init_281 : decode prog_7_method_1_code 281 = .ok (.newarray .boolean, 2) := by decide +kernel
theorem d_Mo_init_283 : decode prog_7_method_1_code 283 = .ok (.putfield 81, 3) := by decide +kernel
theorem b_Mo_init_286_288 : decs prog_7_method_1_code [(.aload_n 0, 1), (.iconst 0, 1)] 286 288 = true := by decide +kernel
theorem d_Mo_init_288 : decode prog_7_method_1_code 288 = .ok (.putfield 84, 3) := by decide +kernel
theorem d_Mo_init_291 : decode prog_7_method_1_code 291 = .ok (.return_, 1) := by decide +kernel
set_option maxRecDepth 100000 in
set_option maxHeartbeats 4000000 in
theorem c_Mo_init (l : Launch) (G : GG) (A : Nat → Prop) (w : WF) (a : Nat) (he : w 1000 = some (a, .inr (5, [.int 0, .null, .int 0, .null, .null, .null, .null, .null, .int 0, .int 0, .int 0, .int 0, .int 0, .null, .null, .null, .null, .null, .null, .null, .null, .null, .null, .null, .int 0, .int 0, .int 0, .int 0, .int 0, .int 0, .null, .null, .null]))) : Met l y_Mo_init (Cond.code y_Mo_init prog_7_method_1_code 1 none :: wt) { frames := 1, cells := 20, slots := 8375, locals := 20 } (Pre G A w (fun _ => True) [.ref a]) (Qx0 (X := Nat → Nat) A (fun x _ => x 20 = a) G (fun x => mW G x w sI (fun _ _ => 0))) 20 8375 A := by
  refine mt_of (by decide) (Nat.le_of_ble_eq_true rfl) ?_
  intro p e s m below meth c ls C hH hA hE hr hmn hl
  have hl : lv_has ls 1 [(0, .ref a)] := hl
  refine x_sx C b_Mo_init_0_1 hl (L' := [(0, .ref a)]) (st' := [.ref a]) rfl (fun ls hl => ?_)
  refine x_obj (rest := []) C t_641 hl.1 (Nat.le_of_ble_eq_true rfl) (Nat.le_of_ble_eq_true rfl) d_Mo_init_1 ?_
  refine x_sx C b_Mo_init_4_7 hl (L' := [(0, .ref a)]) (st' := [.int 17, .ref a]) rfl (fun ls hl => ?_)
  refine x_newi C hH hA 1001 (N := 17) rfl (by decide) (Nat.le_of_ble_eq_true rfl) (Nat.le_of_ble_eq_true rfl) d_Mo_init_7 (fun r0 H hH => ?_)
  refine x_sx C b_Mo_init_9_14 hl (L' := [(0, .ref a)]) (st' := [.int 4096, .int 0, .ref r0, .ref r0, .ref a]) rfl (fun ls hl => ?_)
  refine x_ast C hH 1001 (up_s _ _ _) (j := 0) rfl (by decide) (by decide) d_Mo_init_14 (fun H locs hH => ?_)
  rw [up_up] at hH
  refine x_sx C b_Mo_init_15_20 hl (L' := [(0, .ref a)]) (st' := [.int 4076, .int 1, .ref r0, .ref r0, .ref a]) rfl (fun ls hl => ?_)
  refine x_ast C hH 1001 (up_s _ _ _) (j := 1) rfl (by decide) (by decide) d_Mo_init_20 (fun H locs hH => ?_)
  rw [up_up] at hH
  refine x_sx C b_Mo_init_21_26 hl (L' := [(0, .ref a)]) (st' := [.int 4017, .int 2, .ref r0, .ref r0, .ref a]) rfl (fun ls hl => ?_)
  refine x_ast C hH 1001 (up_s _ _ _) (j := 2) rfl (by decide) (by decide) d_Mo_init_26 (fun H locs hH => ?_)
  rw [up_up] at hH
  refine x_sx C b_Mo_init_27_32 hl (L' := [(0, .ref a)]) (st' := [.int 3920, .int 3, .ref r0, .ref r0, .ref a]) rfl (fun ls hl => ?_)
  refine x_ast C hH 1001 (up_s _ _ _) (j := 3) rfl (by decide) (by decide) d_Mo_init_32 (fun H locs hH => ?_)
  rw [up_up] at hH
  refine x_sx C b_Mo_init_33_38 hl (L' := [(0, .ref a)]) (st' := [.int 3784, .int 4, .ref r0, .ref r0, .ref a]) rfl (fun ls hl => ?_)
  refine x_ast C hH 1001 (up_s _ _ _) (j := 4) rfl (by decide) (by decide) d_Mo_init_38 (fun H locs hH => ?_)
  rw [up_up] at hH
  refine x_sx C b_Mo_init_39_44 hl (L' := [(0, .ref a)]) (st' := [.int 3612, .int 5, .ref r0, .ref r0, .ref a]) rfl (fun ls hl => ?_)
  refine x_ast C hH 1001 (up_s _ _ _) (j := 5) rfl (by decide) (by decide) d_Mo_init_44 (fun H locs hH => ?_)
  rw [up_up] at hH
  refine x_sx C b_Mo_init_45_51 hl (L' := [(0, .ref a)]) (st' := [.int 3406, .int 6, .ref r0, .ref r0, .ref a]) rfl (fun ls hl => ?_)
  refine x_ast C hH 1001 (up_s _ _ _) (j := 6) rfl (by decide) (by decide) d_Mo_init_51 (fun H locs hH => ?_)
  rw [up_up] at hH
  refine x_sx C b_Mo_init_52_58 hl (L' := [(0, .ref a)]) (st' := [.int 3166, .int 7, .ref r0, .ref r0, .ref a]) rfl (fun ls hl => ?_)
  refine x_ast C hH 1001 (up_s _ _ _) (j := 7) rfl (by decide) (by decide) d_Mo_init_58 (fun H locs hH => ?_)
  rw [up_up] at hH
  refine x_sx C b_Mo_init_59_65 hl (L' := [(0, .ref a)]) (st' := [.int 2896, .int 8, .ref r0, .ref r0, .ref a]) rfl (fun ls hl => ?_)
  refine x_ast C hH 1001 (up_s _ _ _) (j := 8) rfl (by decide) (by decide) d_Mo_init_65 (fun H locs hH => ?_)
  rw [up_up] at hH
  refine x_sx C b_Mo_init_66_72 hl (L' := [(0, .ref a)]) (st' := [.int 2598, .int 9, .ref r0, .ref r0, .ref a]) rfl (fun ls hl => ?_)
  refine x_ast C hH 1001 (up_s _ _ _) (j := 9) rfl (by decide) (by decide) d_Mo_init_72 (fun H locs hH => ?_)
  rw [up_up] at hH
  refine x_sx C b_Mo_init_73_79 hl (L' := [(0, .ref a)]) (st' := [.int 2276, .int 10, .ref r0, .ref r0, .ref a]) rfl (fun ls hl => ?_)
  refine x_ast C hH 1001 (up_s _ _ _) (j := 10) rfl (by decide) (by decide) d_Mo_init_79 (fun H locs hH => ?_)
  rw [up_up] at hH
  refine x_sx C b_Mo_init_80_86 hl (L' := [(0, .ref a)]) (st' := [.int 1931, .int 11, .ref r0, .ref r0, .ref a]) rfl (fun ls hl => ?_)
  refine x_ast C hH 1001 (up_s _ _ _) (j := 11) rfl (by decide) (by decide) d_Mo_init_86 (fun H locs hH => ?_)
  rw [up_up] at hH
  refine x_sx C b_Mo_init_87_93 hl (L' := [(0, .ref a)]) (st' := [.int 1567, .int 12, .ref r0, .ref r0, .ref a]) rfl (fun ls hl => ?_)
  refine x_ast C hH 1001 (up_s _ _ _) (j := 12) rfl (by decide) (by decide) d_Mo_init_93 (fun H locs hH => ?_)
  rw [up_up] at hH
  refine x_sx C b_Mo_init_94_100 hl (L' := [(0, .ref a)]) (st' := [.int 1189, .int 13, .ref r0, .ref r0, .ref a]) rfl (fun ls hl => ?_)
  refine x_ast C hH 1001 (up_s _ _ _) (j := 13) rfl (by decide) (by decide) d_Mo_init_100 (fun H locs hH => ?_)
  rw [up_up] at hH
  refine x_sx C b_Mo_init_101_107 hl (L' := [(0, .ref a)]) (st' := [.int 799, .int 14, .ref r0, .ref r0, .ref a]) rfl (fun ls hl => ?_)
  refine x_ast C hH 1001 (up_s _ _ _) (j := 14) rfl (by decide) (by decide) d_Mo_init_107 (fun H locs hH => ?_)
  rw [up_up] at hH
  refine x_sx C b_Mo_init_108_114 hl (L' := [(0, .ref a)]) (st' := [.int 401, .int 15, .ref r0, .ref r0, .ref a]) rfl (fun ls hl => ?_)
  refine x_ast C hH 1001 (up_s _ _ _) (j := 15) rfl (by decide) (by decide) d_Mo_init_114 (fun H locs hH => ?_)
  rw [up_up] at hH
  refine x_sx C b_Mo_init_115_119 hl (L' := [(0, .ref a)]) (st' := [.int 0, .int 16, .ref r0, .ref r0, .ref a]) rfl (fun ls hl => ?_)
  refine x_ast C hH 1001 (up_s _ _ _) (j := 16) rfl (by decide) (by decide) d_Mo_init_119 (fun H locs hH => ?_)
  rw [up_up] at hH
  have hcs : (upd (upd (upd (upd (upd (upd (upd (upd (upd (upd (upd (upd (upd (upd (upd (upd (upd (fun _ => 0) 0 4096) 1 4076) 2 4017) 3 3920) 4 3784) 5 3612) 6 3406) 7 3166) 8 2896) 9 2598) 10 2276) 11 1931) 12 1567) 13 1189) 14 799) 15 401) 16 0) = cosT := by
    funext j
    unfold upd
    by_cases j16 : j = 16
    · subst j16; rw [if_pos rfl]; rfl
    rw [if_neg j16]
    by_cases j15 : j = 15
    · subst j15; rw [if_pos rfl]; rfl
    rw [if_neg j15]
    by_cases j14 : j = 14
    · subst j14; rw [if_pos rfl]; rfl
    rw [if_neg j14]
    by_cases j13 : j = 13
    · subst j13; rw [if_pos rfl]; rfl
    rw [if_neg j13]
    by_cases j12 : j = 12
    · subst j12; rw [if_pos rfl]; rfl
    rw [if_neg j12]
    by_cases j11 : j = 11
    · subst j11; rw [if_pos rfl]; rfl
    rw [if_neg j11]
    by_cases j10 : j = 10
    · subst j10; rw [if_pos rfl]; rfl
    rw [if_neg j10]
    by_cases j9 : j = 9
    · subst j9; rw [if_pos rfl]; rfl
    rw [if_neg j9]
    by_cases j8 : j = 8
    · subst j8; rw [if_pos rfl]; rfl
    rw [if_neg j8]
    by_cases j7 : j = 7
    · subst j7; rw [if_pos rfl]; rfl
    rw [if_neg j7]
    by_cases j6 : j = 6
    · subst j6; rw [if_pos rfl]; rfl
    rw [if_neg j6]
    by_cases j5 : j = 5
    · subst j5; rw [if_pos rfl]; rfl
    rw [if_neg j5]
    by_cases j4 : j = 4
    · subst j4; rw [if_pos rfl]; rfl
    rw [if_neg j4]
    by_cases j3 : j = 3
    · subst j3; rw [if_pos rfl]; rfl
    rw [if_neg j3]
    by_cases j2 : j = 2
    · subst j2; rw [if_pos rfl]; rfl
    rw [if_neg j2]
    by_cases j1 : j = 1
    · subst j1; rw [if_pos rfl]; rfl
    rw [if_neg j1]
    by_cases j0 : j = 0
    · subst j0; rw [if_pos rfl]; rfl
    rw [if_neg j0]
    unfold cosT
    split <;> first | rfl | omega
  rw [hcs] at hH
  have hH : Hw G A s (pW G (va_up (fun _ => 0) 0 r0) w a [.int 0, .null, .int 0, .null, .null, .null, .null, .null, .int 0, .int 0, .int 0, .int 0, .int 0, .null, .null, .null, .null, .null, .null, .null, .null, .null, .null, .null, .int 0, .int 0, .int 0, .int 0, .int 0, .int 0, .null, .null, .null] 1) H locs := by
    refine hH.less (fun x y hy => ?_)
    unfold pW at hy
    by_cases e0 : x = 1000
    · subst e0; rw [if_pos rfl] at hy; exact ((up_n _ _ (by decide)).trans he).trans hy
    rw [if_neg e0] at hy
    by_cases e1 : x = 1001
    · subst e1; rw [if_pos (by decide), if_pos rfl] at hy; exact (up_s _ _ _).trans hy
    rw [if_neg (by omega)] at hy
    rw [up_n _ _ e1]; exact hy
  refine x_putF C hH 1000 pW_o 1 (v := .ref r0) (show 1 < 33 by decide) rfl (by decide) t_643 (fun _ z => z) rfl hmn rfl rfl rfl d_Mo_init_120 (fun H locs hH => ?_)
  rw [pW_put (fs0 := [.int 0, .null, .int 0, .null, .null, .null, .null, .null, .int 0, .int 0, .int 0, .int 0, .int 0, .null, .null, .null, .null, .null, .null, .null, .null, .null, .null, .null, .int 0, .int 0, .int 0, .int 0, .int 0, .int 0, .null, .null, .null]) (fs := ([.int 0, .null, .int 0, .null, .null, .null, .null, .null, .int 0, .int 0, .int 0, .int 0, .int 0, .null, .null, .null, .null, .null, .null, .null, .null, .null, .null, .null, .int 0, .int 0, .int 0, .int 0, .int 0, .int 0, .null, .null, .null] : List Value).set 1 (.ref r0)) (fs' := [.int 0, .ref r0, .int 0, .null, .null, .null, .null, .null, .int 0, .int 0, .int 0, .int 0, .int 0, .null, .null, .null, .null, .null, .null, .null, .null, .null, .null, .null, .int 0, .int 0, .int 0, .int 0, .int 0, .int 0, .null, .null, .null]) rfl] at hH
  refine x_sx C b_Mo_init_123_125 hl (L' := [(0, .ref a)]) (st' := [.int 3, .ref a]) rfl (fun ls hl => ?_)
  refine x_newi C hH hA (1001 + 1) (N := 3) rfl (by decide) (Nat.le_of_ble_eq_true rfl) (Nat.le_of_ble_eq_true rfl) d_Mo_init_125 (fun r1 H hH => ?_)
  rw [pW_new (k := 1) (c := 0) (N := 3) (by decide) rfl rfl] at hH
  refine x_putF C hH 1000 pW_o 3 (v := .ref r1) (show 3 < 33 by decide) rfl (by decide) t_645 (fun _ z => z) rfl hmn rfl rfl rfl d_Mo_init_127 (fun H locs hH => ?_)
  rw [pW_put (fs0 := [.int 0, .ref r0, .int 0, .null, .null, .null, .null, .null, .int 0, .int 0, .int 0, .int 0, .int 0, .null, .null, .null, .null, .null, .null, .null, .null, .null, .null, .null, .int 0, .int 0, .int 0, .int 0, .int 0, .int 0, .null, .null, .null]) (fs := ([.int 0, .ref r0, .int 0, .null, .null, .null, .null, .null, .int 0, .int 0, .int 0, .int 0, .int 0, .null, .null, .null, .null, .null, .null, .null, .null, .null, .null, .null, .int 0, .int 0, .int 0, .int 0, .int 0, .int 0, .null, .null, .null] : List Value).set 3 (.ref r1)) (fs' := [.int 0, .ref r0, .int 0, .ref r1, .null, .null, .null, .null, .int 0, .int 0, .int 0, .int 0, .int 0, .null, .null, .null, .null, .null, .null, .null, .null, .null, .null, .null, .int 0, .int 0, .int 0, .int 0, .int 0, .int 0, .null, .null, .null]) rfl] at hH
  refine x_sx C b_Mo_init_130_132 hl (L' := [(0, .ref a)]) (st' := [.int 3, .ref a]) rfl (fun ls hl => ?_)
  refine x_newi C hH hA (1001 + 2) (N := 3) rfl (by decide) (Nat.le_of_ble_eq_true rfl) (Nat.le_of_ble_eq_true rfl) d_Mo_init_132 (fun r2 H hH => ?_)
  rw [pW_new (k := 2) (c := 0) (N := 3) (by decide) rfl rfl] at hH
  refine x_putF C hH 1000 pW_o 4 (v := .ref r2) (show 4 < 33 by decide) rfl (by decide) t_646 (fun _ z => z) rfl hmn rfl rfl rfl d_Mo_init_134 (fun H locs hH => ?_)
  rw [pW_put (fs0 := [.int 0, .ref r0, .int 0, .ref r1, .null, .null, .null, .null, .int 0, .int 0, .int 0, .int 0, .int 0, .null, .null, .null, .null, .null, .null, .null, .null, .null, .null, .null, .int 0, .int 0, .int 0, .int 0, .int 0, .int 0, .null, .null, .null]) (fs := ([.int 0, .ref r0, .int 0, .ref r1, .null, .null, .null, .null, .int 0, .int 0, .int 0, .int 0, .int 0, .null, .null, .null, .null, .null, .null, .null, .null, .null, .null, .null, .int 0, .int 0, .int 0, .int 0, .int 0, .int 0, .null, .null, .null] : List Value).set 4 (.ref r2)) (fs' := [.int 0, .ref r0, .int 0, .ref r1, .ref r2, .null, .null, .null, .int 0, .int 0, .int 0, .int 0, .int 0, .null, .null, .null, .null, .null, .null, .null, .null, .null, .null, .null, .int 0, .int 0, .int 0, .int 0, .int 0, .int 0, .null, .null, .null]) rfl] at hH
  refine x_sx C b_Mo_init_137_139 hl (L' := [(0, .ref a)]) (st' := [.int 3, .ref a]) rfl (fun ls hl => ?_)
  refine x_newi C hH hA (1001 + 3) (N := 3) rfl (by decide) (Nat.le_of_ble_eq_true rfl) (Nat.le_of_ble_eq_true rfl) d_Mo_init_139 (fun r3 H hH => ?_)
  rw [pW_new (k := 3) (c := 0) (N := 3) (by decide) rfl rfl] at hH
  refine x_putF C hH 1000 pW_o 5 (v := .ref r3) (show 5 < 33 by decide) rfl (by decide) t_647 (fun _ z => z) rfl hmn rfl rfl rfl d_Mo_init_141 (fun H locs hH => ?_)
  rw [pW_put (fs0 := [.int 0, .ref r0, .int 0, .ref r1, .ref r2, .null, .null, .null, .int 0, .int 0, .int 0, .int 0, .int 0, .null, .null, .null, .null, .null, .null, .null, .null, .null, .null, .null, .int 0, .int 0, .int 0, .int 0, .int 0, .int 0, .null, .null, .null]) (fs := ([.int 0, .ref r0, .int 0, .ref r1, .ref r2, .null, .null, .null, .int 0, .int 0, .int 0, .int 0, .int 0, .null, .null, .null, .null, .null, .null, .null, .null, .null, .null, .null, .int 0, .int 0, .int 0, .int 0, .int 0, .int 0, .null, .null, .null] : List Value).set 5 (.ref r3)) (fs' := [.int 0, .ref r0, .int 0, .ref r1, .ref r2, .ref r3, .null, .null, .int 0, .int 0, .int 0, .int 0, .int 0, .null, .null, .null, .null, .null, .null, .null, .null, .null, .null, .null, .int 0, .int 0, .int 0, .int 0, .int 0, .int 0, .null, .null, .null]) rfl] at hH
  refine x_sx C b_Mo_init_144_146 hl (L' := [(0, .ref a)]) (st' := [.int 3, .ref a]) rfl (fun ls hl => ?_)
  refine x_newi C hH hA (1001 + 4) (N := 3) rfl (by decide) (Nat.le_of_ble_eq_true rfl) (Nat.le_of_ble_eq_true rfl) d_Mo_init_146 (fun r4 H hH => ?_)
  rw [pW_new (k := 4) (c := 0) (N := 3) (by decide) rfl rfl] at hH
  refine x_putF C hH 1000 pW_o 6 (v := .ref r4) (show 6 < 33 by decide) rfl (by decide) t_648 (fun _ z => z) rfl hmn rfl rfl rfl d_Mo_init_148 (fun H locs hH => ?_)
  rw [pW_put (fs0 := [.int 0, .ref r0, .int 0, .ref r1, .ref r2, .ref r3, .null, .null, .int 0, .int 0, .int 0, .int 0, .int 0, .null, .null, .null, .null, .null, .null, .null, .null, .null, .null, .null, .int 0, .int 0, .int 0, .int 0, .int 0, .int 0, .null, .null, .null]) (fs := ([.int 0, .ref r0, .int 0, .ref r1, .ref r2, .ref r3, .null, .null, .int 0, .int 0, .int 0, .int 0, .int 0, .null, .null, .null, .null, .null, .null, .null, .null, .null, .null, .null, .int 0, .int 0, .int 0, .int 0, .int 0, .int 0, .null, .null, .null] : List Value).set 6 (.ref r4)) (fs' := [.int 0, .ref r0, .int 0, .ref r1, .ref r2, .ref r3, .ref r4, .null, .int 0, .int 0, .int 0, .int 0, .int 0, .null, .null, .null, .null, .null, .null, .null, .null, .null, .null, .null, .int 0, .int 0, .int 0, .int 0, .int 0, .int 0, .null, .null, .null]) rfl] at hH
  refine x_sx C b_Mo_init_151_153 hl (L' := [(0, .ref a)]) (st' := [.int 3, .ref a]) rfl (fun ls hl => ?_)
  refine x_newi C hH hA (1001 + 5) (N := 3) rfl (by decide) (Nat.le_of_ble_eq_true rfl) (Nat.le_of_ble_eq_true rfl) d_Mo_init_153 (fun r5 H hH => ?_)
  rw [pW_new (k := 5) (c := 0) (N := 3) (by decide) rfl rfl] at hH
  refine x_putF C hH 1000 pW_o 7 (v := .ref r5) (show 7 < 33 by decide) rfl (by decide) t_649 (fun _ z => z) rfl hmn rfl rfl rfl d_Mo_init_155 (fun H locs hH => ?_)
  rw [pW_put (fs0 := [.int 0, .ref r0, .int 0, .ref r1, .ref r2, .ref r3, .ref r4, .null, .int 0, .int 0, .int 0, .int 0, .int 0, .null, .null, .null, .null, .null, .null, .null, .null, .null, .null, .null, .int 0, .int 0, .int 0, .int 0, .int 0, .int 0, .null, .null, .null]) (fs := ([.int 0, .ref r0, .int 0, .ref r1, .ref r2, .ref r3, .ref r4, .null, .int 0, .int 0, .int 0, .int 0, .int 0, .null, .null, .null, .null, .null, .null, .null, .null, .null, .null, .null, .int 0, .int 0, .int 0, .int 0, .int 0, .int 0, .null, .null, .null] : List Value).set 7 (.ref r5)) (fs' := [.int 0, .ref r0, .int 0, .ref r1, .ref r2, .ref r3, .ref r4, .ref r5, .int 0, .int 0, .int 0, .int 0, .int 0, .null, .null, .null, .null, .null, .null, .null, .null, .null, .null, .null, .int 0, .int 0, .int 0, .int 0, .int 0, .int 0, .null, .null, .null]) rfl] at hH
  refine x_sx C b_Mo_init_158_160 hl (L' := [(0, .ref a)]) (st' := [.int 4, .ref a]) rfl (fun ls hl => ?_)
  refine x_put C hH 1000 pW_o 11 (v := .int 4) (show 11 < 33 by decide) rfl (by decide) t_653 (fun _ z => z) rfl rfl rfl d_Mo_init_160 (fun H locs hH => ?_)
  rw [pW_put (fs0 := [.int 0, .ref r0, .int 0, .ref r1, .ref r2, .ref r3, .ref r4, .ref r5, .int 0, .int 0, .int 0, .int 0, .int 0, .null, .null, .null, .null, .null, .null, .null, .null, .null, .null, .null, .int 0, .int 0, .int 0, .int 0, .int 0, .int 0, .null, .null, .null]) (fs := ([.int 0, .ref r0, .int 0, .ref r1, .ref r2, .ref r3, .ref r4, .ref r5, .int 0, .int 0, .int 0, .int 0, .int 0, .null, .null, .null, .null, .null, .null, .null, .null, .null, .null, .null, .int 0, .int 0, .int 0, .int 0, .int 0, .int 0, .null, .null, .null] : List Value).set 11 (.int 4)) (fs' := [.int 0, .ref r0, .int 0, .ref r1, .ref r2, .ref r3, .ref r4, .ref r5, .int 0, .int 0, .int 0, .int 4, .int 0, .null, .null, .null, .null, .null, .null, .null, .null, .null, .null, .null, .int 0, .int 0, .int 0, .int 0, .int 0, .int 0, .null, .null, .null]) rfl] at hH
  refine x_sx C b_Mo_init_163_166 hl (L' := [(0, .ref a)]) (st' := [.int 20, .ref a]) rfl (fun ls hl => ?_)
  refine x_newi C hH hA (1001 + 6) (N := 20) rfl (by decide) (Nat.le_of_ble_eq_true rfl) (Nat.le_of_ble_eq_true rfl) d_Mo_init_166 (fun r6 H hH => ?_)
  rw [pW_new (k := 6) (c := 0) (N := 20) (by decide) rfl rfl] at hH
  refine x_putF C hH 1000 pW_o 13 (v := .ref r6) (show 13 < 33 by decide) rfl (by decide) t_655 (fun _ z => z) rfl hmn rfl rfl rfl d_Mo_init_168 (fun H locs hH => ?_)
  rw [pW_put (fs0 := [.int 0, .ref r0, .int 0, .ref r1, .ref r2, .ref r3, .ref r4, .ref r5, .int 0, .int 0, .int 0, .int 4, .int 0, .null, .null, .null, .null, .null, .null, .null, .null, .null, .null, .null, .int 0, .int 0, .int 0, .int 0, .int 0, .int 0, .null, .null, .null]) (fs := ([.int 0, .ref r0, .int 0, .ref r1, .ref r2, .ref r3, .ref r4, .ref r5, .int 0, .int 0, .int 0, .int 4, .int 0, .null, .null, .null, .null, .null, .null, .null, .null, .null, .null, .null, .int 0, .int 0, .int 0, .int 0, .int 0, .int 0, .null, .null, .null] : List Value).set 13 (.ref r6)) (fs' := [.int 0, .ref r0, .int 0, .ref r1, .ref r2, .ref r3, .ref r4, .ref r5, .int 0, .int 0, .int 0, .int 4, .int 0, .ref r6, .null, .null, .null, .null, .null, .null, .null, .null, .null, .null, .int 0, .int 0, .int 0, .int 0, .int 0, .int 0, .null, .null, .null]) rfl] at hH
  refine x_sx C b_Mo_init_171_174 hl (L' := [(0, .ref a)]) (st' := [.int 20, .ref a]) rfl (fun ls hl => ?_)
  refine x_newi C hH hA (1001 + 7) (N := 20) rfl (by decide) (Nat.le_of_ble_eq_true rfl) (Nat.le_of_ble_eq_true rfl) d_Mo_init_174 (fun r7 H hH => ?_)
  rw [pW_new (k := 7) (c := 0) (N := 20) (by decide) rfl rfl] at hH
  refine x_putF C hH 1000 pW_o 14 (v := .ref r7) (show 14 < 33 by decide) rfl (by decide) t_656 (fun _ z => z) rfl hmn rfl rfl rfl d_Mo_init_176 (fun H locs hH => ?_)
  rw [pW_put (fs0 := [.int 0, .ref r0, .int 0, .ref r1, .ref r2, .ref r3, .ref r4, .ref r5, .int 0, .int 0, .int 0, .int 4, .int 0, .ref r6, .null, .null, .null, .null, .null, .null, .null, .null, .null, .null, .int 0, .int 0, .int 0, .int 0, .int 0, .int 0, .null, .null, .null]) (fs := ([.int 0, .ref r0, .int 0, .ref r1, .ref r2, .ref r3, .ref r4, .ref r5, .int 0, .int 0, .int 0, .int 4, .int 0, .ref r6, .null, .null, .null, .null, .null, .null, .null, .null, .null, .null, .int 0, .int 0, .int 0, .int 0, .int 0, .int 0, .null, .null, .null] : List Value).set 14 (.ref r7)) (fs' := [.int 0, .ref r0, .int 0, .ref r1, .ref r2, .ref r3, .ref r4, .ref r5, .int 0, .int 0, .int 0, .int 4, .int 0, .ref r6, .ref r7, .null, .null, .null, .null, .null, .null, .null, .null, .null, .int 0, .int 0, .int 0, .int 0, .int 0, .int 0, .null, .null, .null]) rfl] at hH
  refine x_sx C b_Mo_init_179_181 hl (L' := [(0, .ref a)]) (st' := [.int 4, .ref a]) rfl (fun ls hl => ?_)
  refine x_newi C hH hA (1001 + 8) (N := 4) rfl (by decide) (Nat.le_of_ble_eq_true rfl) (Nat.le_of_ble_eq_true rfl) d_Mo_init_181 (fun r8 H hH => ?_)
  rw [pW_new (k := 8) (c := 0) (N := 4) (by decide) rfl rfl] at hH
  refine x_putF C hH 1000 pW_o 15 (v := .ref r8) (show 15 < 33 by decide) rfl (by decide) t_657 (fun _ z => z) rfl hmn rfl rfl rfl d_Mo_init_183 (fun H locs hH => ?_)
  rw [pW_put (fs0 := [.int 0, .ref r0, .int 0, .ref r1, .ref r2, .ref r3, .ref r4, .ref r5, .int 0, .int 0, .int 0, .int 4, .int 0, .ref r6, .ref r7, .null, .null, .null, .null, .null, .null, .null, .null, .null, .int 0, .int 0, .int 0, .int 0, .int 0, .int 0, .null, .null, .null]) (fs := ([.int 0, .ref r0, .int 0, .ref r1, .ref r2, .ref r3, .ref r4, .ref r5, .int 0, .int 0, .int 0, .int 4, .int 0, .ref r6, .ref r7, .null, .null, .null, .null, .null, .null, .null, .null, .null, .int 0, .int 0, .int 0, .int 0, .int 0, .int 0, .null, .null, .null] : List Value).set 15 (.ref r8)) (fs' := [.int 0, .ref r0, .int 0, .ref r1, .ref r2, .ref r3, .ref r4, .ref r5, .int 0, .int 0, .int 0, .int 4, .int 0, .ref r6, .ref r7, .ref r8, .null, .null, .null, .null, .null, .null, .null, .null, .int 0, .int 0, .int 0, .int 0, .int 0, .int 0, .null, .null, .null]) rfl] at hH
  refine x_sx C b_Mo_init_186_189 hl (L' := [(0, .ref a)]) (st' := [.int 24, .ref a]) rfl (fun ls hl => ?_)
  refine x_newi C hH hA (1001 + 9) (N := 24) rfl (by decide) (Nat.le_of_ble_eq_true rfl) (Nat.le_of_ble_eq_true rfl) d_Mo_init_189 (fun r9 H hH => ?_)
  rw [pW_new (k := 9) (c := 0) (N := 24) (by decide) rfl rfl] at hH
  refine x_putF C hH 1000 pW_o 16 (v := .ref r9) (show 16 < 33 by decide) rfl (by decide) t_658 (fun _ z => z) rfl hmn rfl rfl rfl d_Mo_init_191 (fun H locs hH => ?_)
  rw [pW_put (fs0 := [.int 0, .ref r0, .int 0, .ref r1, .ref r2, .ref r3, .ref r4, .ref r5, .int 0, .int 0, .int 0, .int 4, .int 0, .ref r6, .ref r7, .ref r8, .null, .null, .null, .null, .null, .null, .null, .null, .int 0, .int 0, .int 0, .int 0, .int 0, .int 0, .null, .null, .null]) (fs := ([.int 0, .ref r0, .int 0, .ref r1, .ref r2, .ref r3, .ref r4, .ref r5, .int 0, .int 0, .int 0, .int 4, .int 0, .ref r6, .ref r7, .ref r8, .null, .null, .null, .null, .null, .null, .null, .null, .int 0, .int 0, .int 0, .int 0, .int 0, .int 0, .null, .null, .null] : List Value).set 16 (.ref r9)) (fs' := [.int 0, .ref r0, .int 0, .ref r1, .ref r2, .ref r3, .ref r4, .ref r5, .int 0, .int 0, .int 0, .int 4, .int 0, .ref r6, .ref r7, .ref r8, .ref r9, .null, .null, .null, .null, .null, .null, .null, .int 0, .int 0, .int 0, .int 0, .int 0, .int 0, .null, .null, .null]) rfl] at hH
  refine x_sx C b_Mo_init_194_197 hl (L' := [(0, .ref a)]) (st' := [.int 24, .ref a]) rfl (fun ls hl => ?_)
  refine x_newi C hH hA (1001 + 10) (N := 24) rfl (by decide) (Nat.le_of_ble_eq_true rfl) (Nat.le_of_ble_eq_true rfl) d_Mo_init_197 (fun r10 H hH => ?_)
  rw [pW_new (k := 10) (c := 0) (N := 24) (by decide) rfl rfl] at hH
  refine x_putF C hH 1000 pW_o 17 (v := .ref r10) (show 17 < 33 by decide) rfl (by decide) t_659 (fun _ z => z) rfl hmn rfl rfl rfl d_Mo_init_199 (fun H locs hH => ?_)
  rw [pW_put (fs0 := [.int 0, .ref r0, .int 0, .ref r1, .ref r2, .ref r3, .ref r4, .ref r5, .int 0, .int 0, .int 0, .int 4, .int 0, .ref r6, .ref r7, .ref r8, .ref r9, .null, .null, .null, .null, .null, .null, .null, .int 0, .int 0, .int 0, .int 0, .int 0, .int 0, .null, .null, .null]) (fs := ([.int 0, .ref r0, .int 0, .ref r1, .ref r2, .ref r3, .ref r4, .ref r5, .int 0, .int 0, .int 0, .int 4, .int 0, .ref r6, .ref r7, .ref r8, .ref r9, .null, .null, .null, .null, .null, .null, .null, .int 0, .int 0, .int 0, .int 0, .int 0, .int 0, .null, .null, .null] : List Value).set 17 (.ref r10)) (fs' := [.int 0, .ref r0, .int 0, .ref r1, .ref r2, .ref r3, .ref r4, .ref r5, .int 0, .int 0, .int 0, .int 4, .int 0, .ref r6, .ref r7, .ref r8, .ref r9, .ref r10, .null, .null, .null, .null, .null, .null, .int 0, .int 0, .int 0, .int 0, .int 0, .int 0, .null, .null, .null]) rfl] at hH
  refine x_sx C b_Mo_init_202_205 hl (L' := [(0, .ref a)]) (st' := [.int 24, .ref a]) rfl (fun ls hl => ?_)
  refine x_newz C hH hA (1001 + 11) (N := 24) rfl (by decide) (Nat.le_of_ble_eq_true rfl) (Nat.le_of_ble_eq_true rfl) d_Mo_init_205 (fun r11 H hH => ?_)
  rw [pW_new (k := 11) (c := 1) (N := 24) (by decide) rfl rfl] at hH
  refine x_putF C hH 1000 pW_o 18 (v := .ref r11) (show 18 < 33 by decide) rfl (by decide) t_660 (fun _ z => z) rfl hmn rfl rfl rfl d_Mo_init_207 (fun H locs hH => ?_)
  rw [pW_put (fs0 := [.int 0, .ref r0, .int 0, .ref r1, .ref r2, .ref r3, .ref r4, .ref r5, .int 0, .int 0, .int 0, .int 4, .int 0, .ref r6, .ref r7, .ref r8, .ref r9, .ref r10, .null, .null, .null, .null, .null, .null, .int 0, .int 0, .int 0, .int 0, .int 0, .int 0, .null, .null, .null]) (fs := ([.int 0, .ref r0, .int 0, .ref r1, .ref r2, .ref r3, .ref r4, .ref r5, .int 0, .int 0, .int 0, .int 4, .int 0, .ref r6, .ref r7, .ref r8, .ref r9, .ref r10, .null, .null, .null, .null, .null, .null, .int 0, .int 0, .int 0, .int 0, .int 0, .int 0, .null, .null, .null] : List Value).set 18 (.ref r11)) (fs' := [.int 0, .ref r0, .int 0, .ref r1, .ref r2, .ref r3, .ref r4, .ref r5, .int 0, .int 0, .int 0, .int 4, .int 0, .ref r6, .ref r7, .ref r8, .ref r9, .ref r10, .ref r11, .null, .null, .null, .null, .null, .int 0, .int 0, .int 0, .int 0, .int 0, .int 0, .null, .null, .null]) rfl] at hH
  refine x_sx C b_Mo_init_210_212 hl (L' := [(0, .ref a)]) (st' := [.int 3, .ref a]) rfl (fun ls hl => ?_)
  refine x_newi C hH hA (1001 + 12) (N := 3) rfl (by decide) (Nat.le_of_ble_eq_true rfl) (Nat.le_of_ble_eq_true rfl) d_Mo_init_212 (fun r12 H hH => ?_)
  rw [pW_new (k := 12) (c := 0) (N := 3) (by decide) rfl rfl] at hH
  refine x_putF C hH 1000 pW_o 19 (v := .ref r12) (show 19 < 33 by decide) rfl (by decide) t_661 (fun _ z => z) rfl hmn rfl rfl rfl d_Mo_init_214 (fun H locs hH => ?_)
  rw [pW_put (fs0 := [.int 0, .ref r0, .int 0, .ref r1, .ref r2, .ref r3, .ref r4, .ref r5, .int 0, .int 0, .int 0, .int 4, .int 0, .ref r6, .ref r7, .ref r8, .ref r9, .ref r10, .ref r11, .null, .null, .null, .null, .null, .int 0, .int 0, .int 0, .int 0, .int 0, .int 0, .null, .null, .null]) (fs := ([.int 0, .ref r0, .int 0, .ref r1, .ref r2, .ref r3, .ref r4, .ref r5, .int 0, .int 0, .int 0, .int 4, .int 0, .ref r6, .ref r7, .ref r8, .ref r9, .ref r10, .ref r11, .null, .null, .null, .null, .null, .int 0, .int 0, .int 0, .int 0, .int 0, .int 0, .null, .null, .null] : List Value).set 19 (.ref r12)) (fs' := [.int 0, .ref r0, .int 0, .ref r1, .ref r2, .ref r3, .ref r4, .ref r5, .int 0, .int 0, .int 0, .int 4, .int 0, .ref r6, .ref r7, .ref r8, .ref r9, .ref r10, .ref r11, .ref r12, .null, .null, .null, .null, .int 0, .int 0, .int 0, .int 0, .int 0, .int 0, .null, .null, .null]) rfl] at hH
  refine x_sx C b_Mo_init_217_219 hl (L' := [(0, .ref a)]) (st' := [.int 3, .ref a]) rfl (fun ls hl => ?_)
  refine x_newi C hH hA (1001 + 13) (N := 3) rfl (by decide) (Nat.le_of_ble_eq_true rfl) (Nat.le_of_ble_eq_true rfl) d_Mo_init_219 (fun r13 H hH => ?_)
  rw [pW_new (k := 13) (c := 0) (N := 3) (by decide) rfl rfl] at hH
  refine x_putF C hH 1000 pW_o 20 (v := .ref r13) (show 20 < 33 by decide) rfl (by decide) t_662 (fun _ z => z) rfl hmn rfl rfl rfl d_Mo_init_221 (fun H locs hH => ?_)
  rw [pW_put (fs0 := [.int 0, .ref r0, .int 0, .ref r1, .ref r2, .ref r3, .ref r4, .ref r5, .int 0, .int 0, .int 0, .int 4, .int 0, .ref r6, .ref r7, .ref r8, .ref r9, .ref r10, .ref r11, .ref r12, .null, .null, .null, .null, .int 0, .int 0, .int 0, .int 0, .int 0, .int 0, .null, .null, .null]) (fs := ([.int 0, .ref r0, .int 0, .ref r1, .ref r2, .ref r3, .ref r4, .ref r5, .int 0, .int 0, .int 0, .int 4, .int 0, .ref r6, .ref r7, .ref r8, .ref r9, .ref r10, .ref r11, .ref r12, .null, .null, .null, .null, .int 0, .int 0, .int 0, .int 0, .int 0, .int 0, .null, .null, .null] : List Value).set 20 (.ref r13)) (fs' := [.int 0, .ref r0, .int 0, .ref r1, .ref r2, .ref r3, .ref r4, .ref r5, .int 0, .int 0, .int 0, .int 4, .int 0, .ref r6, .ref r7, .ref r8, .ref r9, .ref r10, .ref r11, .ref r12, .ref r13, .null, .null, .null, .int 0, .int 0, .int 0, .int 0, .int 0, .int 0, .null, .null, .null]) rfl] at hH
  refine x_sx C b_Mo_init_224_226 hl (L' := [(0, .ref a)]) (st' := [.int 3, .ref a]) rfl (fun ls hl => ?_)
  refine x_newi C hH hA (1001 + 14) (N := 3) rfl (by decide) (Nat.le_of_ble_eq_true rfl) (Nat.le_of_ble_eq_true rfl) d_Mo_init_226 (fun r14 H hH => ?_)
  rw [pW_new (k := 14) (c := 0) (N := 3) (by decide) rfl rfl] at hH
  refine x_putF C hH 1000 pW_o 21 (v := .ref r14) (show 21 < 33 by decide) rfl (by decide) t_663 (fun _ z => z) rfl hmn rfl rfl rfl d_Mo_init_228 (fun H locs hH => ?_)
  rw [pW_put (fs0 := [.int 0, .ref r0, .int 0, .ref r1, .ref r2, .ref r3, .ref r4, .ref r5, .int 0, .int 0, .int 0, .int 4, .int 0, .ref r6, .ref r7, .ref r8, .ref r9, .ref r10, .ref r11, .ref r12, .ref r13, .null, .null, .null, .int 0, .int 0, .int 0, .int 0, .int 0, .int 0, .null, .null, .null]) (fs := ([.int 0, .ref r0, .int 0, .ref r1, .ref r2, .ref r3, .ref r4, .ref r5, .int 0, .int 0, .int 0, .int 4, .int 0, .ref r6, .ref r7, .ref r8, .ref r9, .ref r10, .ref r11, .ref r12, .ref r13, .null, .null, .null, .int 0, .int 0, .int 0, .int 0, .int 0, .int 0, .null, .null, .null] : List Value).set 21 (.ref r14)) (fs' := [.int 0, .ref r0, .int 0, .ref r1, .ref r2, .ref r3, .ref r4, .ref r5, .int 0, .int 0, .int 0, .int 4, .int 0, .ref r6, .ref r7, .ref r8, .ref r9, .ref r10, .ref r11, .ref r12, .ref r13, .ref r14, .null, .null, .int 0, .int 0, .int 0, .int 0, .int 0, .int 0, .null, .null, .null]) rfl] at hH
  refine x_sx C b_Mo_init_231_233 hl (L' := [(0, .ref a)]) (st' := [.int 3, .ref a]) rfl (fun ls hl => ?_)
  refine x_newi C hH hA (1001 + 15) (N := 3) rfl (by decide) (Nat.le_of_ble_eq_true rfl) (Nat.le_of_ble_eq_true rfl) d_Mo_init_233 (fun r15 H hH => ?_)
  rw [pW_new (k := 15) (c := 0) (N := 3) (by decide) rfl rfl] at hH
  refine x_putF C hH 1000 pW_o 22 (v := .ref r15) (show 22 < 33 by decide) rfl (by decide) t_664 (fun _ z => z) rfl hmn rfl rfl rfl d_Mo_init_235 (fun H locs hH => ?_)
  rw [pW_put (fs0 := [.int 0, .ref r0, .int 0, .ref r1, .ref r2, .ref r3, .ref r4, .ref r5, .int 0, .int 0, .int 0, .int 4, .int 0, .ref r6, .ref r7, .ref r8, .ref r9, .ref r10, .ref r11, .ref r12, .ref r13, .ref r14, .null, .null, .int 0, .int 0, .int 0, .int 0, .int 0, .int 0, .null, .null, .null]) (fs := ([.int 0, .ref r0, .int 0, .ref r1, .ref r2, .ref r3, .ref r4, .ref r5, .int 0, .int 0, .int 0, .int 4, .int 0, .ref r6, .ref r7, .ref r8, .ref r9, .ref r10, .ref r11, .ref r12, .ref r13, .ref r14, .null, .null, .int 0, .int 0, .int 0, .int 0, .int 0, .int 0, .null, .null, .null] : List Value).set 22 (.ref r15)) (fs' := [.int 0, .ref r0, .int 0, .ref r1, .ref r2, .ref r3, .ref r4, .ref r5, .int 0, .int 0, .int 0, .int 4, .int 0, .ref r6, .ref r7, .ref r8, .ref r9, .ref r10, .ref r11, .ref r12, .ref r13, .ref r14, .ref r15, .null, .int 0, .int 0, .int 0, .int 0, .int 0, .int 0, .null, .null, .null]) rfl] at hH
  refine x_sx C b_Mo_init_238_240 hl (L' := [(0, .ref a)]) (st' := [.int 3, .ref a]) rfl (fun ls hl => ?_)
  refine x_newi C hH hA (1001 + 16) (N := 3) rfl (by decide) (Nat.le_of_ble_eq_true rfl) (Nat.le_of_ble_eq_true rfl) d_Mo_init_240 (fun r16 H hH => ?_)
  rw [pW_new (k := 16) (c := 0) (N := 3) (by decide) rfl rfl] at hH
  refine x_putF C hH 1000 pW_o 23 (v := .ref r16) (show 23 < 33 by decide) rfl (by decide) t_665 (fun _ z => z) rfl hmn rfl rfl rfl d_Mo_init_242 (fun H locs hH => ?_)
  rw [pW_put (fs0 := [.int 0, .ref r0, .int 0, .ref r1, .ref r2, .ref r3, .ref r4, .ref r5, .int 0, .int 0, .int 0, .int 4, .int 0, .ref r6, .ref r7, .ref r8, .ref r9, .ref r10, .ref r11, .ref r12, .ref r13, .ref r14, .ref r15, .null, .int 0, .int 0, .int 0, .int 0, .int 0, .int 0, .null, .null, .null]) (fs := ([.int 0, .ref r0, .int 0, .ref r1, .ref r2, .ref r3, .ref r4, .ref r5, .int 0, .int 0, .int 0, .int 4, .int 0, .ref r6, .ref r7, .ref r8, .ref r9, .ref r10, .ref r11, .ref r12, .ref r13, .ref r14, .ref r15, .null, .int 0, .int 0, .int 0, .int 0, .int 0, .int 0, .null, .null, .null] : List Value).set 23 (.ref r16)) (fs' := [.int 0, .ref r0, .int 0, .ref r1, .ref r2, .ref r3, .ref r4, .ref r5, .int 0, .int 0, .int 0, .int 4, .int 0, .ref r6, .ref r7, .ref r8, .ref r9, .ref r10, .ref r11, .ref r12, .ref r13, .ref r14, .ref r15, .ref r16, .int 0, .int 0, .int 0, .int 0, .int 0, .int 0, .null, .null, .null]) rfl] at hH
  refine x_sx C b_Mo_init_245_247 hl (L' := [(0, .ref a)]) (st' := [.int (-1), .ref a]) rfl (fun ls hl => ?_)
  refine x_put C hH 1000 pW_o 26 (v := .int (-1)) (show 26 < 33 by decide) rfl (by decide) t_668 (fun _ z => z) rfl rfl rfl d_Mo_init_247 (fun H locs hH => ?_)
  rw [pW_put (fs0 := [.int 0, .ref r0, .int 0, .ref r1, .ref r2, .ref r3, .ref r4, .ref r5, .int 0, .int 0, .int 0, .int 4, .int 0, .ref r6, .ref r7, .ref r8, .ref r9, .ref r10, .ref r11, .ref r12, .ref r13, .ref r14, .ref r15, .ref r16, .int 0, .int 0, .int 0, .int 0, .int 0, .int 0, .null, .null, .null]) (fs := ([.int 0, .ref r0, .int 0, .ref r1, .ref r2, .ref r3, .ref r4, .ref r5, .int 0, .int 0, .int 0, .int 4, .int 0, .ref r6, .ref r7, .ref r8, .ref r9, .ref r10, .ref r11, .ref r12, .ref r13, .ref r14, .ref r15, .ref r16, .int 0, .int 0, .int 0, .int 0, .int 0, .int 0, .null, .null, .null] : List Value).set 26 (.int (-1))) (fs' := [.int 0, .ref r0, .int 0, .ref r1, .ref r2, .ref r3, .ref r4, .ref r5, .int 0, .int 0, .int 0, .int 4, .int 0, .ref r6, .ref r7, .ref r8, .ref r9, .ref r10, .ref r11, .ref r12, .ref r13, .ref r14, .ref r15, .ref r16, .int 0, .int 0, .int (-1), .int 0, .int 0, .int 0, .null, .null, .null]) rfl] at hH
  refine x_sx C b_Mo_init_250_252 hl (L' := [(0, .ref a)]) (st' := [.int (-1), .ref a]) rfl (fun ls hl => ?_)
  refine x_put C hH 1000 pW_o 27 (v := .int (-1)) (show 27 < 33 by decide) rfl (by decide) t_669 (fun _ z => z) rfl rfl rfl d_Mo_init_252 (fun H locs hH => ?_)
  rw [pW_put (fs0 := [.int 0, .ref r0, .int 0, .ref r1, .ref r2, .ref r3, .ref r4, .ref r5, .int 0, .int 0, .int 0, .int 4, .int 0, .ref r6, .ref r7, .ref r8, .ref r9, .ref r10, .ref r11, .ref r12, .ref r13, .ref r14, .ref r15, .ref r16, .int 0, .int 0, .int (-1), .int 0, .int 0, .int 0, .null, .null, .null]) (fs := ([.int 0, .ref r0, .int 0, .ref r1, .ref r2, .ref r3, .ref r4, .ref r5, .int 0, .int 0, .int 0, .int 4, .int 0, .ref r6, .ref r7, .ref r8, .ref r9, .ref r10, .ref r11, .ref r12, .ref r13, .ref r14, .ref r15, .ref r16, .int 0, .int 0, .int (-1), .int 0, .int 0, .int 0, .null, .null, .null] : List Value).set 27 (.int (-1))) (fs' := [.int 0, .ref r0, .int 0, .ref r1, .ref r2, .ref r3, .ref r4, .ref r5, .int 0, .int 0, .int 0, .int 4, .int 0, .ref r6, .ref r7, .ref r8, .ref r9, .ref r10, .ref r11, .ref r12, .ref r13, .ref r14, .ref r15, .ref r16, .int 0, .int 0, .int (-1), .int (-1), .int 0, .int 0, .null, .null, .null]) rfl] at hH
  refine x_sx C b_Mo_init_255_257 hl (L' := [(0, .ref a)]) (st' := [.int (-1), .ref a]) rfl (fun ls hl => ?_)
  refine x_put C hH 1000 pW_o 28 (v := .int (-1)) (show 28 < 33 by decide) rfl (by decide) t_670 (fun _ z => z) rfl rfl rfl d_Mo_init_257 (fun H locs hH => ?_)
  rw [pW_put (fs0 := [.int 0, .ref r0, .int 0, .ref r1, .ref r2, .ref r3, .ref r4, .ref r5, .int 0, .int 0, .int 0, .int 4, .int 0, .ref r6, .ref r7, .ref r8, .ref r9, .ref r10, .ref r11, .ref r12, .ref r13, .ref r14, .ref r15, .ref r16, .int 0, .int 0, .int (-1), .int (-1), .int 0, .int 0, .null, .null, .null]) (fs := ([.int 0, .ref r0, .int 0, .ref r1, .ref r2, .ref r3, .ref r4, .ref r5, .int 0, .int 0, .int 0, .int 4, .int 0, .ref r6, .ref r7, .ref r8, .ref r9, .ref r10, .ref r11, .ref r12, .ref r13, .ref r14, .ref r15, .ref r16, .int 0, .int 0, .int (-1), .int (-1), .int 0, .int 0, .null, .null, .null] : List Value).set 28 (.int (-1))) (fs' := [.int 0, .ref r0, .int 0, .ref r1, .ref r2, .ref r3, .ref r4, .ref r5, .int 0, .int 0, .int 0, .int 4, .int 0, .ref r6, .ref r7, .ref r8, .ref r9, .ref r10, .ref r11, .ref r12, .ref r13, .ref r14, .ref r15, .ref r16, .int 0, .int 0, .int (-1), .int (-1), .int (-1), .int 0, .null, .null, .null]) rfl] at hH
  refine x_sx C b_Mo_init_260_264 hl (L' := [(0, .ref a)]) (st' := [.int 4096, .ref a]) rfl (fun ls hl => ?_)
  refine x_newz C hH hA (1001 + 17) (N := 4096) rfl (by decide) (Nat.le_of_ble_eq_true rfl) (Nat.le_of_ble_eq_true rfl) d_Mo_init_264 (fun r17 H hH => ?_)
  rw [pW_new (k := 17) (c := 1) (N := 4096) (by decide) rfl rfl] at hH
  refine x_putF C hH 1000 pW_o 30 (v := .ref r17) (show 30 < 33 by decide) rfl (by decide) t_672 (fun _ z => z) rfl hmn rfl rfl rfl d_Mo_init_266 (fun H locs hH => ?_)
  rw [pW_put (fs0 := [.int 0, .ref r0, .int 0, .ref r1, .ref r2, .ref r3, .ref r4, .ref r5, .int 0, .int 0, .int 0, .int 4, .int 0, .ref r6, .ref r7, .ref r8, .ref r9, .ref r10, .ref r11, .ref r12, .ref r13, .ref r14, .ref r15, .ref r16, .int 0, .int 0, .int (-1), .int (-1), .int (-1), .int 0, .null, .null, .null]) (fs := ([.int 0, .ref r0, .int 0, .ref r1, .ref r2, .ref r3, .ref r4, .ref r5, .int 0, .int 0, .int 0, .int 4, .int 0, .ref r6, .ref r7, .ref r8, .ref r9, .ref r10, .ref r11, .ref r12, .ref r13, .ref r14, .ref r15, .ref r16, .int 0, .int 0, .int (-1), .int (-1), .int (-1), .int 0, .null, .null, .null] : List Value).set 30 (.ref r17)) (fs' := [.int 0, .ref r0, .int 0, .ref r1, .ref r2, .ref r3, .ref r4, .ref r5, .int 0, .int 0, .int 0, .int 4, .int 0, .ref r6, .ref r7, .ref r8, .ref r9, .ref r10, .ref r11, .ref r12, .ref r13, .ref r14, .ref r15, .ref r16, .int 0, .int 0, .int (-1), .int (-1), .int (-1), .int 0, .ref r17, .null, .null]) rfl] at hH
  refine x_sx C b_Mo_init_269_272 hl (L' := [(0, .ref a)]) (st' := [.int 20, .ref a]) rfl (fun ls hl => ?_)
  refine x_newi C hH hA (1001 + 18) (N := 20) rfl (by decide) (Nat.le_of_ble_eq_true rfl) (Nat.le_of_ble_eq_true rfl) d_Mo_init_272 (fun r18 H hH => ?_)
  rw [pW_new (k := 18) (c := 0) (N := 20) (by decide) rfl rfl] at hH
  refine x_putF C hH 1000 pW_o 31 (v := .ref r18) (show 31 < 33 by decide) rfl (by decide) t_673 (fun _ z => z) rfl hmn rfl rfl rfl d_Mo_init_274 (fun H locs hH => ?_)
  rw [pW_put (fs0 := [.int 0, .ref r0, .int 0, .ref r1, .ref r2, .ref r3, .ref r4, .ref r5, .int 0, .int 0, .int 0, .int 4, .int 0, .ref r6, .ref r7, .ref r8, .ref r9, .ref r10, .ref r11, .ref r12, .ref r13, .ref r14, .ref r15, .ref r16, .int 0, .int 0, .int (-1), .int (-1), .int (-1), .int 0, .ref r17, .null, .null]) (fs := ([.int 0, .ref r0, .int 0, .ref r1, .ref r2, .ref r3, .ref r4, .ref r5, .int 0, .int 0, .int 0, .int 4, .int 0, .ref r6, .ref r7, .ref r8, .ref r9, .ref r10, .ref r11, .ref r12, .ref r13, .ref r14, .ref r15, .ref r16, .int 0, .int 0, .int (-1), .int (-1), .int (-1), .int 0, .ref r17, .null, .null] : List Value).set 31 (.ref r18)) (fs' := [.int 0, .ref r0, .int 0, .ref r1, .ref r2, .ref r3, .ref r4, .ref r5, .int 0, .int 0, .int 0, .int 4, .int 0, .ref r6, .ref r7, .ref r8, .ref r9, .ref r10, .ref r11, .ref r12, .ref r13, .ref r14, .ref r15, .ref r16, .int 0, .int 0, .int (-1), .int (-1), .int (-1), .int 0, .ref r17, .ref r18, .null]) rfl] at hH
  refine x_sx C b_Mo_init_277_281 hl (L' := [(0, .ref a)]) (st' := [.int 4096, .ref a]) rfl (fun ls hl => ?_)
  refine x_newz C hH hA (1001 + 19) (N := 4096) rfl (by decide) (Nat.le_of_ble_eq_true rfl) (Nat.le_of_ble_eq_true rfl) d_Mo_init_281 (fun r19 H hH => ?_)
  rw [pW_new (k := 19) (c := 1) (N := 4096) (by decide) rfl rfl] at hH
  refine x_putF C hH 1000 pW_o 32 (v := .ref r19) (show 32 < 33 by decide) rfl (by decide) t_674 (fun _ z => z) rfl hmn rfl rfl rfl d_Mo_init_283 (fun H locs hH => ?_)
  rw [pW_put (fs0 := [.int 0, .ref r0, .int 0, .ref r1, .ref r2, .ref r3, .ref r4, .ref r5, .int 0, .int 0, .int 0, .int 4, .int 0, .ref r6, .ref r7, .ref r8, .ref r9, .ref r10, .ref r11, .ref r12, .ref r13, .ref r14, .ref r15, .ref r16, .int 0, .int 0, .int (-1), .int (-1), .int (-1), .int 0, .ref r17, .ref r18, .null]) (fs := ([.int 0, .ref r0, .int 0, .ref r1, .ref r2, .ref r3, .ref r4, .ref r5, .int 0, .int 0, .int 0, .int 4, .int 0, .ref r6, .ref r7, .ref r8, .ref r9, .ref r10, .ref r11, .ref r12, .ref r13, .ref r14, .ref r15, .ref r16, .int 0, .int 0, .int (-1), .int (-1), .int (-1), .int 0, .ref r17, .ref r18, .null] : List Value).set 32 (.ref r19)) (fs' := [.int 0, .ref r0, .int 0, .ref r1, .ref r2, .ref r3, .ref r4, .ref r5, .int 0, .int 0, .int 0, .int 4, .int 0, .ref r6, .ref r7, .ref r8, .ref r9, .ref r10, .ref r11, .ref r12, .ref r13, .ref r14, .ref r15, .ref r16, .int 0, .int 0, .int (-1), .int (-1), .int (-1), .int 0, .ref r17, .ref r18, .ref r19]) rfl] at hH
  refine x_sx C b_Mo_init_286_288 hl (L' := [(0, .ref a)]) (st' := [.int 0, .ref a]) rfl (fun ls hl => ?_)
  refine x_put C hH 1000 pW_o 2 (v := .int 0) (show 2 < 33 by decide) rfl (by decide) t_644 (fun _ z => z) rfl rfl rfl d_Mo_init_288 (fun H locs hH => ?_)
  rw [pW_put (fs0 := [.int 0, .ref r0, .int 0, .ref r1, .ref r2, .ref r3, .ref r4, .ref r5, .int 0, .int 0, .int 0, .int 4, .int 0, .ref r6, .ref r7, .ref r8, .ref r9, .ref r10, .ref r11, .ref r12, .ref r13, .ref r14, .ref r15, .ref r16, .int 0, .int 0, .int (-1), .int (-1), .int (-1), .int 0, .ref r17, .ref r18, .ref r19]) (fs := ([.int 0, .ref r0, .int 0, .ref r1, .ref r2, .ref r3, .ref r4, .ref r5, .int 0, .int 0, .int 0, .int 4, .int 0, .ref r6, .ref r7, .ref r8, .ref r9, .ref r10, .ref r11, .ref r12, .ref r13, .ref r14, .ref r15, .ref r16, .int 0, .int 0, .int (-1), .int (-1), .int (-1), .int 0, .ref r17, .ref r18, .ref r19] : List Value).set 2 (.int 0)) (fs' := [.int 0, .ref r0, .int 0, .ref r1, .ref r2, .ref r3, .ref r4, .ref r5, .int 0, .int 0, .int 0, .int 4, .int 0, .ref r6, .ref r7, .ref r8, .ref r9, .ref r10, .ref r11, .ref r12, .ref r13, .ref r14, .ref r15, .ref r16, .int 0, .int 0, .int (-1), .int (-1), .int (-1), .int 0, .ref r17, .ref r18, .ref r19]) rfl] at hH
  obtain ⟨ad, had⟩ : ∃ ad : Nat → Nat, ad = va_up (va_up (va_up (va_up (va_up (va_up (va_up (va_up (va_up (va_up (va_up (va_up (va_up (va_up (va_up (va_up (va_up (va_up (va_up (va_up (va_up (fun _ => 0) 0 r0) 1 r1) 2 r2) 3 r3) 4 r4) 5 r5) 6 r6) 7 r7) 8 r8) 9 r9) 10 r10) 11 r11) 12 r12) 13 r13) 14 r14) 15 r15) 16 r16) 17 r17) 18 r18) 19 r19) 20 a := ⟨_, rfl⟩
  have hH : Hw G A s (mW G ad w sI (fun _ _ => 0)) H locs := by
    rw [← pW_mW (a := a) (fs := [.int 0, .ref r0, .int 0, .ref r1, .ref r2, .ref r3, .ref r4, .ref r5, .int 0, .int 0, .int 0, .int 4, .int 0, .ref r6, .ref r7, .ref r8, .ref r9, .ref r10, .ref r11, .ref r12, .ref r13, .ref r14, .ref r15, .ref r16, .int 0, .int 0, .int (-1), .int (-1), .int (-1), .int 0, .ref r17, .ref r18, .ref r19]) (by rw [had]; rfl) (by rw [had]; rfl)]
    refine hH.less (fun x y hy => ?_)
    unfold pW at hy ⊢
    by_cases e0 : x = 1000
    · rw [if_pos e0] at hy ⊢; exact hy
    rw [if_neg e0] at hy ⊢
    by_cases e1 : 1001 ≤ x ∧ x < 1001 + 20
    · rw [if_pos e1] at hy ⊢; rw [had, up_n _ _ (by omega)] at hy; exact hy
    · rw [if_neg e1] at hy ⊢; exact hy
  exact x_vrt C hr hH.2.2 ⟨ad, rfl, (by rw [had]; exact up_s _ _ _), hH.1, hH.2.1⟩ (Nat.le_of_ble_eq_true rfl) (Nat.le_of_ble_eq_true rfl) d_Mo_init_291
theorem hd_Mo_init : hdP y_Mo_init 0 := ⟨by decide +kernel, by decide +kernel, by decide +kernel⟩
