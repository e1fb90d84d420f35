theorem b_Law_law_116_122 : decs code [(.aload_n 1, 1), (.aload_n 0, 1), (.iload 4, 2), (.iconst 1, 1), (.iadd, 1)] 116 122 = true := by decide +kernel
theorem d_Law_law_122 : decode code 122 = .ok (.iaload, 1) := by decide +kernel
theorem b_Law_law_123_128 : decs code [(.aload_n 0, 1), (.iload 4, 2), (.iconst 2, 1), (.iadd, 1)] 123 128 = true := by decide +kernel
theorem d_Law_law_128 : decode code 128 = .ok (.iaload, 1) := by decide +kernel
theorem b_Law_law_129_134 : decs code [(.aload_n 0, 1), (.iload 4, 2), (.iconst 3, 1), (.iadd, 1)] 129 134 = true := by decide +kernel
theorem d_Law_law_134 : decode code 134 = .ok (.iaload, 1) := by decide +kernel
theorem b_Law_law_135_140 : decs code [(.aload_n 0, 1), (.iload 4, 2), (.iconst 4, 1), (.iadd, 1)] 135 140 = true := by decide +kernel
theorem d_Law_law_140 : decode code 140 = .ok (.iaload, 1) := by decide +kernel
theorem b_Law_law_141_146 : decs code [(.aload_n 0, 1), (.iload 4, 2), (.iconst 5, 1), (.iadd, 1)] 141 146 = true := by decide +kernel
theorem d_Law_law_146 : decode code 146 = .ok (.iaload, 1) := by decide +kernel
theorem b_Law_law_147_148 : decs code [(.aload_n 3, 1)] 147 148 = true := by decide +kernel
theorem d_Law_law_148 : decode code 148 = .ok (.invokestatic 65, 3) := by decide +kernel
theorem b_Law_law_151_159 : decs code [(.istore 5, 2), (.aload_n 2, 1), (.aload_n 0, 1), (.iload 4, 2), (.iconst 1, 1), (.iadd, 1)] 151 159 = true := by decide +kernel
theorem d_Law_law_159 : decode code 159 = .ok (.iaload, 1) := by decide +kernel
theorem b_Law_law_160_165 : decs code [(.aload_n 0, 1), (.iload 4, 2), (.iconst 2, 1), (.iadd, 1)] 160 165 = true := by decide +kernel
theorem d_Law_law_165 : decode code 165 = .ok (.iaload, 1) := by decide +kernel
theorem b_Law_law_166_171 : decs code [(.aload_n 0, 1), (.iload 4, 2), (.iconst 3, 1), (.iadd, 1)] 166 171 = true := by decide +kernel
theorem d_Law_law_171 : decode code 171 = .ok (.iaload, 1) := by decide +kernel
theorem b_Law_law_172_177 : decs code [(.aload_n 0, 1), (.iload 4, 2), (.iconst 4, 1), (.iadd, 1)] 172 177 = true := by decide +kernel
theorem d_Law_law_177 : decode code 177 = .ok (.iaload, 1) := by decide +kernel
theorem b_Law_law_178_183 : decs code [(.aload_n 0, 1), (.iload 4, 2), (.iconst 5, 1), (.iadd, 1)] 178 183 = true := by decide +kernel
theorem d_Law_law_183 : decode code 183 = .ok (.iaload, 1) := by decide +kernel
theorem d_Law_law_184 : decode code 184 = .ok (.invokevirtual 70, 3) := by decide +kernel
theorem b_Law_law_187_190 : decs code [(.istore 6, 2), (.aload_n 2, 1)] 187 190 = true := by decide +kernel
theorem d_Law_law_190 : decode code 190 = .ok (.invokevirtual 71, 3) := by decide +kernel
theorem b_Law_law_193_195 : decs code [(.iload 5, 2)] 193 195 = true := by decide +kernel
theorem d_Law_law_195 : decode code 195 = .ok (.if_icmp .eq 5, 3) := by decide +kernel
theorem b_Law_law_200_202 : decs code [(.iload 5, 2)] 200 202 = true := by decide +kernel
theorem d_Law_law_202 : decode code 202 = .ok (.ifCond .ne 15, 3) := by decide +kernel
theorem d_Law_law_217 : decode code 217 = .ok (.goto 852, 3) := by decide +kernel
theorem b_Law_law_205_207 : decs code [(.aload_n 3, 1), (.iconst 0, 1)] 205 207 = true := by decide +kernel
theorem d_Law_law_207 : decode code 207 = .ok (.laload, 1) := by decide +kernel
theorem b_Law_law_208_212 : decs code [(.iload 6, 2), (.i2l, 1), (.lcmp, 1)] 208 212 = true := by decide +kernel
theorem d_Law_law_212 : decode code 212 = .ok (.ifCond .eq 5, 3) := by decide +kernel
set_option maxRecDepth 100000 in
set_option maxHeartbeats 4000000 in
theorem lo_body {p : Program} {l : Launch} {e : Env} {s : State} {m : MethodId} {below : List Frame} {meth : Method} {c : Code} {G : GG} {A : Nat → Prop} {b0 L : Nat} {xs : Nat → Int32} {H : Heap} {locs : List Loc} {cells slots : Nat} {Q : State → Prop} {ls : Array Slot} {oa sa : Nat} {ad : Nat → Nat} {i : Nat} (C : Cx p s m #[.ref b0] meth c code 7 "SweptPathsLaw" G A) (hfl : l.flags = pinnedFlags ++ [noTraceFlag]) (hA : ∀ q, s.heap.size ≤ q → A q) (hX : va_X b0 L xs s s.heap) (hbl : b0 < s.heap.size) (hbA : ¬ A b0) (hL : L ≤ 384) (hi : i + 6 ≤ L) (hI : LI G A s oa ad sa H locs) (hce : cells ≤ 100000) (hsl : slots ≤ 1000000) (hl : lv_has ls 7 [(0, .ref b0), (1, .ref sa), (2, .ref (ad 20)), (3, .ref oa), (4, .int (nI i))]) (kk : ∀ (H : Heap) (locs : List Loc) (cells2 slots2 : Nat) (ls : Array Slot), LI G A s oa ad sa H locs → cells2 ≤ cells + 80 → slots2 ≤ slots + 2224 → lv_has ls 7 [(0, .ref b0), (1, .ref sa), (2, .ref (ad 20)), (3, .ref oa), (4, .int (nI i))] → W p l e room_1 s m #[.ref b0] below meth c H locs cells2 slots2 Q (F0 m 1069 ls [])) : W p l e room_1 s m #[.ref b0] below meth c H locs cells slots Q (F0 m 116 ls []) := by
  obtain ⟨rb, n, md, rd, sd, ms, fl, mn, sc, ar, b, np, f, hR, rfl, hH⟩ := hI
  have hn := hR.n3
  have hrbE := hR.1
  have h1 : sc 1 = nI n := hR.2.1.1.1
  have h6 : sc 6 = nI np := hR.2.1.1.2.2.1
  have hnp : np ≤ 20 := hR.2.1.1.2.2.2.1
  have hrb : 100 ≤ rb := by omega
  have hrb2 : rb ≤ 200 := by omega
  have hz0 : Z01 (ar 17) := hR.2.1.2.1
  by_cases hv : p_in (xs (i + 1)) 1 200 = 1 ∧ p_in (xs (i + 2)) 0 200 = 1 ∧ p_in (xs (i + 3)) 0 60 = 1 ∧ p_in (xs (i + 4)) 0 60 = 1 ∧ p_in (xs (i + 5)) 1 20 = 1
  · by_cases h3 : n = 3
    · rw [cW_0 (v := 2)] at hH
      refine x_sx C b_Law_law_116_122 hl (L' := [(0, .ref b0), (1, .ref (sd 0)), (2, .ref (ad 20)), (3, .ref oa), (4, .int (nI i))]) (st' := [.int ((nI i) + 1), .ref b0, .ref (sd 0)]) rfl (fun ls hl => ?_)
      refine x_sld C hX hbl hbA hH.2.2 hL (ix_1 i) (by omega) d_Law_law_122 ?_
      refine x_sx C b_Law_law_123_128 hl (L' := [(0, .ref b0), (1, .ref (sd 0)), (2, .ref (ad 20)), (3, .ref oa), (4, .int (nI i))]) (st' := [.int ((nI i) + 2), .ref b0, .int (xs (i + 1)), .ref (sd 0)]) rfl (fun ls hl => ?_)
      refine x_sld C hX hbl hbA hH.2.2 hL (ix_2 i) (by omega) d_Law_law_128 ?_
      refine x_sx C b_Law_law_129_134 hl (L' := [(0, .ref b0), (1, .ref (sd 0)), (2, .ref (ad 20)), (3, .ref oa), (4, .int (nI i))]) (st' := [.int ((nI i) + 3), .ref b0, .int (xs (i + 2)), .int (xs (i + 1)), .ref (sd 0)]) rfl (fun ls hl => ?_)
      refine x_sld C hX hbl hbA hH.2.2 hL (ix_3 i) (by omega) d_Law_law_134 ?_
      refine x_sx C b_Law_law_135_140 hl (L' := [(0, .ref b0), (1, .ref (sd 0)), (2, .ref (ad 20)), (3, .ref oa), (4, .int (nI i))]) (st' := [.int ((nI i) + 4), .ref b0, .int (xs (i + 3)), .int (xs (i + 2)), .int (xs (i + 1)), .ref (sd 0)]) rfl (fun ls hl => ?_)
      refine x_sld C hX hbl hbA hH.2.2 hL (ix_4 i) (by omega) d_Law_law_140 ?_
      refine x_sx C b_Law_law_141_146 hl (L' := [(0, .ref b0), (1, .ref (sd 0)), (2, .ref (ad 20)), (3, .ref oa), (4, .int (nI i))]) (st' := [.int ((nI i) + 5), .ref b0, .int (xs (i + 4)), .int (xs (i + 3)), .int (xs (i + 2)), .int (xs (i + 1)), .ref (sd 0)]) rfl (fun ls hl => ?_)
      refine x_sld C hX hbl hbA hH.2.2 hL (ix_5 i) (by omega) d_Law_law_146 ?_
      refine x_sx C b_Law_law_147_148 hl (L' := [(0, .ref b0), (1, .ref (sd 0)), (2, .ref (ad 20)), (3, .ref oa), (4, .int (nI i))]) (st' := [.ref oa, .int (xs (i + 5)), .int (xs (i + 4)), .int (xs (i + 3)), .int (xs (i + 2)), .int (xs (i + 1)), .ref (sd 0)]) rfl (fun ls hl => ?_)
      refine x_q1 (x_cSW C (c_Law_body_2 l G A rb n md rd sd ms fl mn (va_up sc 0 2) ar b (lwW G oa f ad sc ar) (xs (i + 1)) (xs (i + 2)) (xs (i + 3)) (xs (i + 4)) (xs (i + 5)) hfl hn hrb hv h3 oa f hrbE lwW_o) t_356 t_0 t_354 t_355 hd_Law_body blind_Pre (pre_mt C hH hA trivial) (As := [.ref (sd 0), .int (xs (i + 1)), .int (xs (i + 2)), .int (xs (i + 3)), .int (xs (i + 4)), .int (xs (i + 5)), .ref oa]) (rest := []) rfl hl.1 rfl rfl rfl ⟨(Nat.le_of_ble_eq_true rfl), (Nat.le_of_ble_eq_true rfl)⟩ (Nat.le_of_ble_eq_true rfl) ⟨by show cells + 1 ≤ 601024; omega, by show slots + 6 ≤ 7293034; omega⟩ d_Law_law_148) hH.2.2 (fun x H locs hx hH hz => ?_)
      rw [to_mW hn (by omega)] at hH
      refine x_sx C b_Law_law_151_159 hl (L' := [(5, .int 2), (0, .ref b0), (1, .ref (sd 0)), (2, .ref (ad 20)), (3, .ref oa), (4, .int (nI i))]) (st' := [.int ((nI i) + 1), .ref b0, .ref (ad 20)]) rfl (fun ls hl => ?_)
      refine x_sld C hX hbl hbA hH.2.2 hL (ix_1 i) (by omega) d_Law_law_159 ?_
      refine x_sx C b_Law_law_160_165 hl (L' := [(5, .int 2), (0, .ref b0), (1, .ref (sd 0)), (2, .ref (ad 20)), (3, .ref oa), (4, .int (nI i))]) (st' := [.int ((nI i) + 2), .ref b0, .int (xs (i + 1)), .ref (ad 20)]) rfl (fun ls hl => ?_)
      refine x_sld C hX hbl hbA hH.2.2 hL (ix_2 i) (by omega) d_Law_law_165 ?_
      refine x_sx C b_Law_law_166_171 hl (L' := [(5, .int 2), (0, .ref b0), (1, .ref (sd 0)), (2, .ref (ad 20)), (3, .ref oa), (4, .int (nI i))]) (st' := [.int ((nI i) + 3), .ref b0, .int (xs (i + 2)), .int (xs (i + 1)), .ref (ad 20)]) rfl (fun ls hl => ?_)
      refine x_sld C hX hbl hbA hH.2.2 hL (ix_3 i) (by omega) d_Law_law_171 ?_
      refine x_sx C b_Law_law_172_177 hl (L' := [(5, .int 2), (0, .ref b0), (1, .ref (sd 0)), (2, .ref (ad 20)), (3, .ref oa), (4, .int (nI i))]) (st' := [.int ((nI i) + 4), .ref b0, .int (xs (i + 3)), .int (xs (i + 2)), .int (xs (i + 1)), .ref (ad 20)]) rfl (fun ls hl => ?_)
      refine x_sld C hX hbl hbA hH.2.2 hL (ix_4 i) (by omega) d_Law_law_177 ?_
      refine x_sx C b_Law_law_178_183 hl (L' := [(5, .int 2), (0, .ref b0), (1, .ref (sd 0)), (2, .ref (ad 20)), (3, .ref oa), (4, .int (nI i))]) (st' := [.int ((nI i) + 5), .ref b0, .int (xs (i + 4)), .int (xs (i + 3)), .int (xs (i + 2)), .int (xs (i + 1)), .ref (ad 20)]) rfl (fun ls hl => ?_)
      refine x_sld C hX hbl hbA hH.2.2 hL (ix_5 i) (by omega) d_Law_law_183 ?_
      refine x_mw1 (x_cV C hH.1 mW_o rfl (c_Mo_body_2 l G A ad (cW G rb n md rd sd ms fl mn (va_up sc 0 2) ar b (oW G oa f)) sc ar (xs (i + 1)) (xs (i + 2)) (xs (i + 3)) (xs (i + 4)) (xs (i + 5)) hv (n_3 h1 h3)) t_750 t_14 t_747 t_748 t_749 hd_Mo_body blind_Pre (pre_mt C hH hA trivial) (As := [.int (xs (i + 1)), .int (xs (i + 2)), .int (xs (i + 3)), .int (xs (i + 4)), .int (xs (i + 5))]) (rest := []) rfl hl.1 rfl rfl rfl ⟨Nat.le_of_ble_eq_true rfl, Nat.le_of_ble_eq_true rfl⟩ (Nat.le_of_ble_eq_true rfl) ⟨by show cells + 1 + 0 ≤ 601024; omega, by show slots + 6 + 0 ≤ 7293034; omega⟩ d_Law_law_184) hH.2.2 (fun H locs hH => ?_)
      refine x_sx C b_Law_law_187_190 hl (L' := [(6, .int 0), (5, .int 2), (0, .ref b0), (1, .ref (sd 0)), (2, .ref (ad 20)), (3, .ref oa), (4, .int (nI i))]) (st' := [.ref (ad 20)]) rfl (fun ls hl => ?_)
      refine x_ro (x_cV C hH.1 mW_o rfl (c_Mo_thrown l G ad (cW G rb n md rd sd ms fl mn (va_up sc 0 2) ar b (oW G oa f)) (va_up sc 0 2) ar) t_746 t_14 t_743 t_744 t_745 hd_Mo_thrown blind_Pro (pre_ro C hH.1 hH.2.2) (As := []) (rest := []) rfl hl.1 rfl rfl rfl ⟨Nat.le_of_ble_eq_true rfl, Nat.le_of_ble_eq_true rfl⟩ (Nat.le_of_ble_eq_true rfl) ⟨by show cells + 1 + 0 ≤ 601024; omega, by show slots + 6 + 0 ≤ 7293034; omega⟩ d_Law_law_190) ?_
      refine x_sx C b_Law_law_193_195 hl (L' := [(6, .int 0), (5, .int 2), (0, .ref b0), (1, .ref (sd 0)), (2, .ref (ad 20)), (3, .ref oa), (4, .int (nI i))]) (st' := [.int 2, .int ((va_up sc 0 2) 0)]) rfl (fun ls hl => ?_)
      refine lv_icmp_eq (tgt := 200) C.1 C.2.1 d_Law_law_195 (by decide) (fun _ => ?_) (fun h => absurd (up_s _ _ _) h)
      refine x_sx C b_Law_law_200_202 hl (L' := [(6, .int 0), (5, .int 2), (0, .ref b0), (1, .ref (sd 0)), (2, .ref (ad 20)), (3, .ref oa), (4, .int (nI i))]) (st' := [.int 2]) rfl (fun ls hl => ?_)
      refine lv_if_ne (tgt := 217) C.1 C.2.1 d_Law_law_202 (by decide) (fun _ => ?_) (fun h => absurd h (by decide))
      refine x_goto (tgt := 1069) C d_Law_law_217 (by decide) ?_
      exact kk H locs _ _ ls ⟨rb, n, md, rd, sd, ms, fl, mn, (va_up sc 0 2), ar, b, np, f, (hR.z _), rfl, by rw [to_mW hn (by omega)]; exact hH⟩ (by omega) (by omega) (lv_sub hl [2, 3, 4, 5, 6] rfl)
    · have hn3 : n < 3 := by omega
      have hcf := cf_body hR.2.1.1 hn3 hv
      refine x_sx C b_Law_law_116_122 hl (L' := [(0, .ref b0), (1, .ref (sd 0)), (2, .ref (ad 20)), (3, .ref oa), (4, .int (nI i))]) (st' := [.int ((nI i) + 1), .ref b0, .ref (sd 0)]) rfl (fun ls hl => ?_)
      refine x_sld C hX hbl hbA hH.2.2 hL (ix_1 i) (by omega) d_Law_law_122 ?_
      refine x_sx C b_Law_law_123_128 hl (L' := [(0, .ref b0), (1, .ref (sd 0)), (2, .ref (ad 20)), (3, .ref oa), (4, .int (nI i))]) (st' := [.int ((nI i) + 2), .ref b0, .int (xs (i + 1)), .ref (sd 0)]) rfl (fun ls hl => ?_)
      refine x_sld C hX hbl hbA hH.2.2 hL (ix_2 i) (by omega) d_Law_law_128 ?_
      refine x_sx C b_Law_law_129_134 hl (L' := [(0, .ref b0), (1, .ref (sd 0)), (2, .ref (ad 20)), (3, .ref oa), (4, .int (nI i))]) (st' := [.int ((nI i) + 3), .ref b0, .int (xs (i + 2)), .int (xs (i + 1)), .ref (sd 0)]) rfl (fun ls hl => ?_)
      refine x_sld C hX hbl hbA hH.2.2 hL (ix_3 i) (by omega) d_Law_law_134 ?_
      refine x_sx C b_Law_law_135_140 hl (L' := [(0, .ref b0), (1, .ref (sd 0)), (2, .ref (ad 20)), (3, .ref oa), (4, .int (nI i))]) (st' := [.int ((nI i) + 4), .ref b0, .int (xs (i + 3)), .int (xs (i + 2)), .int (xs (i + 1)), .ref (sd 0)]) rfl (fun ls hl => ?_)
      refine x_sld C hX hbl hbA hH.2.2 hL (ix_4 i) (by omega) d_Law_law_140 ?_
      refine x_sx C b_Law_law_141_146 hl (L' := [(0, .ref b0), (1, .ref (sd 0)), (2, .ref (ad 20)), (3, .ref oa), (4, .int (nI i))]) (st' := [.int ((nI i) + 5), .ref b0, .int (xs (i + 4)), .int (xs (i + 3)), .int (xs (i + 2)), .int (xs (i + 1)), .ref (sd 0)]) rfl (fun ls hl => ?_)
      refine x_sld C hX hbl hbA hH.2.2 hL (ix_5 i) (by omega) d_Law_law_146 ?_
      refine x_sx C b_Law_law_147_148 hl (L' := [(0, .ref b0), (1, .ref (sd 0)), (2, .ref (ad 20)), (3, .ref oa), (4, .int (nI i))]) (st' := [.ref oa, .int (xs (i + 5)), .int (xs (i + 4)), .int (xs (i + 3)), .int (xs (i + 2)), .int (xs (i + 1)), .ref (sd 0)]) rfl (fun ls hl => ?_)
      refine x_q1 (x_cSW C (c_Law_body l G A rb n md rd sd ms fl mn sc ar b (lwW G oa f ad sc ar) np (xs (i + 1)) (xs (i + 2)) (xs (i + 3)) (xs (i + 4)) (xs (i + 5)) hn3 hrb hrbE (fun m h1 h2 => lwW_n (by omega)) hR.m6 hv h1 h6 hnp (fun k hk => (bg_rg hcf k hk).2) oa f hn lwW_o) t_356 t_0 t_354 t_355 hd_Law_body blind_Pre (pre_mt C hH hA trivial) (As := [.ref (sd 0), .int (xs (i + 1)), .int (xs (i + 2)), .int (xs (i + 3)), .int (xs (i + 4)), .int (xs (i + 5)), .ref oa]) (rest := []) rfl hl.1 rfl rfl rfl ⟨(Nat.le_of_ble_eq_true rfl), (Nat.le_of_ble_eq_true rfl)⟩ (Nat.le_of_ble_eq_true rfl) ⟨by show cells + 16 ≤ 601024; omega, by show slots + 315 ≤ 7293034; omega⟩ d_Law_law_148) hH.2.2 (fun x H locs hx hH hz => ?_)
      rw [lwW_up] at hH
      rw [to_mW (by omega) (by omega)] at hH
      refine x_sx C b_Law_law_151_159 hl (L' := [(5, .int 0), (0, .ref b0), (1, .ref (sd 0)), (2, .ref (ad 20)), (3, .ref oa), (4, .int (nI i))]) (st' := [.int ((nI i) + 1), .ref b0, .ref (ad 20)]) rfl (fun ls hl => ?_)
      refine x_sld C hX hbl hbA hH.2.2 hL (ix_1 i) (by omega) d_Law_law_159 ?_
      refine x_sx C b_Law_law_160_165 hl (L' := [(5, .int 0), (0, .ref b0), (1, .ref (sd 0)), (2, .ref (ad 20)), (3, .ref oa), (4, .int (nI i))]) (st' := [.int ((nI i) + 2), .ref b0, .int (xs (i + 1)), .ref (ad 20)]) rfl (fun ls hl => ?_)
      refine x_sld C hX hbl hbA hH.2.2 hL (ix_2 i) (by omega) d_Law_law_165 ?_
      refine x_sx C b_Law_law_166_171 hl (L' := [(5, .int 0), (0, .ref b0), (1, .ref (sd 0)), (2, .ref (ad 20)), (3, .ref oa), (4, .int (nI i))]) (st' := [.int ((nI i) + 3), .ref b0, .int (xs (i + 2)), .int (xs (i + 1)), .ref (ad 20)]) rfl (fun ls hl => ?_)
      refine x_sld C hX hbl hbA hH.2.2 hL (ix_3 i) (by omega) d_Law_law_171 ?_
      refine x_sx C b_Law_law_172_177 hl (L' := [(5, .int 0), (0, .ref b0), (1, .ref (sd 0)), (2, .ref (ad 20)), (3, .ref oa), (4, .int (nI i))]) (st' := [.int ((nI i) + 4), .ref b0, .int (xs (i + 3)), .int (xs (i + 2)), .int (xs (i + 1)), .ref (ad 20)]) rfl (fun ls hl => ?_)
      refine x_sld C hX hbl hbA hH.2.2 hL (ix_4 i) (by omega) d_Law_law_177 ?_
      refine x_sx C b_Law_law_178_183 hl (L' := [(5, .int 0), (0, .ref b0), (1, .ref (sd 0)), (2, .ref (ad 20)), (3, .ref oa), (4, .int (nI i))]) (st' := [.int ((nI i) + 5), .ref b0, .int (xs (i + 4)), .int (xs (i + 3)), .int (xs (i + 2)), .int (xs (i + 1)), .ref (ad 20)]) rfl (fun ls hl => ?_)
      refine x_sld C hX hbl hbA hH.2.2 hL (ix_5 i) (by omega) d_Law_law_183 ?_
      refine x_mw1 (x_cV C hH.1 mW_o rfl (c_Mo_body l G A ad (cW G (300 - rb) (n + 1) (nI (n + 1)) x.1.1 x.2 (va_up ms 0 (ms 0 + 1)) fl mn (fBegin (fBodyS sc, fBodyA ar n (xs (i + 1)) (xs (i + 2)) (xs (i + 3)) (xs (i + 4)) (xs (i + 5)))).1 (fBegin (fBodyS sc, fBodyA ar n (xs (i + 1)) (xs (i + 2)) (xs (i + 3)) (xs (i + 4)) (xs (i + 5)))).2 x.1.2 (oW G oa (vp_updL f 0 (nI n).toInt64))) sc ar (xs (i + 1)) (xs (i + 2)) (xs (i + 3)) (xs (i + 4)) (xs (i + 5)) n np hv h1 hn3 h6 hnp (fun k hk => (bg_rg hcf k hk).1)) t_750 t_14 t_747 t_748 t_749 hd_Mo_body blind_Pre (pre_mt C hH hA trivial) (As := [.int (xs (i + 1)), .int (xs (i + 2)), .int (xs (i + 3)), .int (xs (i + 4)), .int (xs (i + 5))]) (rest := []) rfl hl.1 rfl rfl rfl ⟨Nat.le_of_ble_eq_true rfl, Nat.le_of_ble_eq_true rfl⟩ (Nat.le_of_ble_eq_true rfl) ⟨by show cells + 16 + 0 ≤ 601024; omega, by show slots + 315 + 0 ≤ 7293034; omega⟩ d_Law_law_184) hH.2.2 (fun H locs hH => ?_)
      refine x_sx C b_Law_law_187_190 hl (L' := [(6, .int (nI n)), (5, .int 0), (0, .ref b0), (1, .ref (sd 0)), (2, .ref (ad 20)), (3, .ref oa), (4, .int (nI i))]) (st' := [.ref (ad 20)]) rfl (fun ls hl => ?_)
      refine x_ro (x_cV C hH.1 mW_o rfl (c_Mo_thrown l G ad (cW G (300 - rb) (n + 1) (nI (n + 1)) x.1.1 x.2 (va_up ms 0 (ms 0 + 1)) fl mn (fBegin (fBodyS sc, fBodyA ar n (xs (i + 1)) (xs (i + 2)) (xs (i + 3)) (xs (i + 4)) (xs (i + 5)))).1 (fBegin (fBodyS sc, fBodyA ar n (xs (i + 1)) (xs (i + 2)) (xs (i + 3)) (xs (i + 4)) (xs (i + 5)))).2 x.1.2 (oW G oa (vp_updL f 0 (nI n).toInt64))) (fBegin (fBodyS sc, fBodyA ar n (xs (i + 1)) (xs (i + 2)) (xs (i + 3)) (xs (i + 4)) (xs (i + 5)))).1 (fBegin (fBodyS sc, fBodyA ar n (xs (i + 1)) (xs (i + 2)) (xs (i + 3)) (xs (i + 4)) (xs (i + 5)))).2) t_746 t_14 t_743 t_744 t_745 hd_Mo_thrown blind_Pro (pre_ro C hH.1 hH.2.2) (As := []) (rest := []) rfl hl.1 rfl rfl rfl ⟨Nat.le_of_ble_eq_true rfl, Nat.le_of_ble_eq_true rfl⟩ (Nat.le_of_ble_eq_true rfl) ⟨by show cells + 16 + 0 ≤ 601024; omega, by show slots + 315 + 0 ≤ 7293034; omega⟩ d_Law_law_190) ?_
      refine x_sx C b_Law_law_193_195 hl (L' := [(6, .int (nI n)), (5, .int 0), (0, .ref b0), (1, .ref (sd 0)), (2, .ref (ad 20)), (3, .ref oa), (4, .int (nI i))]) (st' := [.int 0, .int ((fBegin (fBodyS sc, fBodyA ar n (xs (i + 1)) (xs (i + 2)) (xs (i + 3)) (xs (i + 4)) (xs (i + 5)))).1 0)]) rfl (fun ls hl => ?_)
      refine lv_icmp_eq (tgt := 200) C.1 C.2.1 d_Law_law_195 (by decide) (fun _ => ?_) (fun h => absurd z_body h)
      refine x_sx C b_Law_law_200_202 hl (L' := [(6, .int (nI n)), (5, .int 0), (0, .ref b0), (1, .ref (sd 0)), (2, .ref (ad 20)), (3, .ref oa), (4, .int (nI i))]) (st' := [.int 0]) rfl (fun ls hl => ?_)
      refine lv_if_ne (tgt := 217) C.1 C.2.1 d_Law_law_202 (by decide) (fun h => absurd (by decide) h) (fun _ => ?_)
      refine x_sx C b_Law_law_205_207 hl (L' := [(6, .int (nI n)), (5, .int 0), (0, .ref b0), (1, .ref (sd 0)), (2, .ref (ad 20)), (3, .ref oa), (4, .int (nI i))]) (st' := [.int 0, .ref oa]) rfl (fun ls hl => ?_)
      refine x_lld C hH.1 500 (mo_o (by omega) (by omega)) (j := 0) rfl (by decide) (by decide) d_Law_law_207 ?_
      refine x_sx C b_Law_law_208_212 hl (L' := [(6, .int (nI n)), (5, .int 0), (0, .ref b0), (1, .ref (sd 0)), (2, .ref (ad 20)), (3, .ref oa), (4, .int (nI i))]) (st' := [.int (lg_cmp ((nI n).toInt64) ((nI n).toInt64))]) rfl (fun ls hl => ?_)
      refine lv_if_eq (tgt := 217) C.1 C.2.1 d_Law_law_212 (by decide) (fun _ => ?_) (fun h => absurd ((lg_cmp_eq _ _).mpr rfl) h)
      refine x_goto (tgt := 1069) C d_Law_law_217 (by decide) ?_
      exact kk H locs _ _ ls ⟨(300 - rb), (n + 1), (nI (n + 1)), x.1.1, x.2, (va_up ms 0 (ms 0 + 1)), fl, mn, (fBegin (fBodyS sc, fBodyA ar n (xs (i + 1)) (xs (i + 2)) (xs (i + 3)) (xs (i + 4)) (xs (i + 5)))).1, (fBegin (fBodyS sc, fBodyA ar n (xs (i + 1)) (xs (i + 2)) (xs (i + 3)) (xs (i + 4)) (xs (i + 5)))).2, x.1.2, np, (vp_updL f 0 (nI n).toInt64), (hR.body hn3 hv hx.1), hx.2, by rw [to_mW (by omega) (by omega)]; exact hH⟩ (by omega) (by omega) (lv_sub hl [2, 3, 4, 5, 6] rfl)
  · rw [cW_0 (v := 1)] at hH
    refine x_sx C b_Law_law_116_122 hl (L' := [(0, .ref b0), (1, .ref (sd 0)), (2, .ref (ad 20)), (3, .ref oa), (4, .int (nI i))]) (st' := [.int ((nI i) + 1), .ref b0, .ref (sd 0)]) rfl (fun ls hl => ?_)
    refine x_sld C hX hbl hbA hH.2.2 hL (ix_1 i) (by omega) d_Law_law_122 ?_
    refine x_sx C b_Law_law_123_128 hl (L' := [(0, .ref b0), (1, .ref (sd 0)), (2, .ref (ad 20)), (3, .ref oa), (4, .int (nI i))]) (st' := [.int ((nI i) + 2), .ref b0, .int (xs (i + 1)), .ref (sd 0)]) rfl (fun ls hl => ?_)
    refine x_sld C hX hbl hbA hH.2.2 hL (ix_2 i) (by omega) d_Law_law_128 ?_
    refine x_sx C b_Law_law_129_134 hl (L' := [(0, .ref b0), (1, .ref (sd 0)), (2, .ref (ad 20)), (3, .ref oa), (4, .int (nI i))]) (st' := [.int ((nI i) + 3), .ref b0, .int (xs (i + 2)), .int (xs (i + 1)), .ref (sd 0)]) rfl (fun ls hl => ?_)
    refine x_sld C hX hbl hbA hH.2.2 hL (ix_3 i) (by omega) d_Law_law_134 ?_
    refine x_sx C b_Law_law_135_140 hl (L' := [(0, .ref b0), (1, .ref (sd 0)), (2, .ref (ad 20)), (3, .ref oa), (4, .int (nI i))]) (st' := [.int ((nI i) + 4), .ref b0, .int (xs (i + 3)), .int (xs (i + 2)), .int (xs (i + 1)), .ref (sd 0)]) rfl (fun ls hl => ?_)
    refine x_sld C hX hbl hbA hH.2.2 hL (ix_4 i) (by omega) d_Law_law_140 ?_
    refine x_sx C b_Law_law_141_146 hl (L' := [(0, .ref b0), (1, .ref (sd 0)), (2, .ref (ad 20)), (3, .ref oa), (4, .int (nI i))]) (st' := [.int ((nI i) + 5), .ref b0, .int (xs (i + 4)), .int (xs (i + 3)), .int (xs (i + 2)), .int (xs (i + 1)), .ref (sd 0)]) rfl (fun ls hl => ?_)
    refine x_sld C hX hbl hbA hH.2.2 hL (ix_5 i) (by omega) d_Law_law_146 ?_
    refine x_sx C b_Law_law_147_148 hl (L' := [(0, .ref b0), (1, .ref (sd 0)), (2, .ref (ad 20)), (3, .ref oa), (4, .int (nI i))]) (st' := [.ref oa, .int (xs (i + 5)), .int (xs (i + 4)), .int (xs (i + 3)), .int (xs (i + 2)), .int (xs (i + 1)), .ref (sd 0)]) rfl (fun ls hl => ?_)
    refine x_q1 (x_cSW C (c_Law_body_1 l G A rb n md rd sd ms fl mn (va_up sc 0 1) ar b (lwW G oa f ad sc ar) (xs (i + 1)) (xs (i + 2)) (xs (i + 3)) (xs (i + 4)) (xs (i + 5)) hfl hn hrb hv oa f hrbE lwW_o) t_356 t_0 t_354 t_355 hd_Law_body blind_Pre (pre_mt C hH hA trivial) (As := [.ref (sd 0), .int (xs (i + 1)), .int (xs (i + 2)), .int (xs (i + 3)), .int (xs (i + 4)), .int (xs (i + 5)), .ref oa]) (rest := []) rfl hl.1 rfl rfl rfl ⟨(Nat.le_of_ble_eq_true rfl), (Nat.le_of_ble_eq_true rfl)⟩ (Nat.le_of_ble_eq_true rfl) ⟨by show cells + 1 ≤ 601024; omega, by show slots + 6 ≤ 7293034; omega⟩ d_Law_law_148) hH.2.2 (fun x H locs hx hH hz => ?_)
    rw [to_mW hn (by omega)] at hH
    refine x_sx C b_Law_law_151_159 hl (L' := [(5, .int 1), (0, .ref b0), (1, .ref (sd 0)), (2, .ref (ad 20)), (3, .ref oa), (4, .int (nI i))]) (st' := [.int ((nI i) + 1), .ref b0, .ref (ad 20)]) rfl (fun ls hl => ?_)
    refine x_sld C hX hbl hbA hH.2.2 hL (ix_1 i) (by omega) d_Law_law_159 ?_
    refine x_sx C b_Law_law_160_165 hl (L' := [(5, .int 1), (0, .ref b0), (1, .ref (sd 0)), (2, .ref (ad 20)), (3, .ref oa), (4, .int (nI i))]) (st' := [.int ((nI i) + 2), .ref b0, .int (xs (i + 1)), .ref (ad 20)]) rfl (fun ls hl => ?_)
    refine x_sld C hX hbl hbA hH.2.2 hL (ix_2 i) (by omega) d_Law_law_165 ?_
    refine x_sx C b_Law_law_166_171 hl (L' := [(5, .int 1), (0, .ref b0), (1, .ref (sd 0)), (2, .ref (ad 20)), (3, .ref oa), (4, .int (nI i))]) (st' := [.int ((nI i) + 3), .ref b0, .int (xs (i + 2)), .int (xs (i + 1)), .ref (ad 20)]) rfl (fun ls hl => ?_)
    refine x_sld C hX hbl hbA hH.2.2 hL (ix_3 i) (by omega) d_Law_law_171 ?_
    refine x_sx C b_Law_law_172_177 hl (L' := [(5, .int 1), (0, .ref b0), (1, .ref (sd 0)), (2, .ref (ad 20)), (3, .ref oa), (4, .int (nI i))]) (st' := [.int ((nI i) + 4), .ref b0, .int (xs (i + 3)), .int (xs (i + 2)), .int (xs (i + 1)), .ref (ad 20)]) rfl (fun ls hl => ?_)
    refine x_sld C hX hbl hbA hH.2.2 hL (ix_4 i) (by omega) d_Law_law_177 ?_
    refine x_sx C b_Law_law_178_183 hl (L' := [(5, .int 1), (0, .ref b0), (1, .ref (sd 0)), (2, .ref (ad 20)), (3, .ref oa), (4, .int (nI i))]) (st' := [.int ((nI i) + 5), .ref b0, .int (xs (i + 4)), .int (xs (i + 3)), .int (xs (i + 2)), .int (xs (i + 1)), .ref (ad 20)]) rfl (fun ls hl => ?_)
    refine x_sld C hX hbl hbA hH.2.2 hL (ix_5 i) (by omega) d_Law_law_183 ?_
    refine x_mw1 (x_cV C hH.1 mW_o rfl (c_Mo_body_1 l G A ad (cW G rb n md rd sd ms fl mn (va_up sc 0 1) ar b (oW G oa f)) sc ar (xs (i + 1)) (xs (i + 2)) (xs (i + 3)) (xs (i + 4)) (xs (i + 5)) hv) t_750 t_14 t_747 t_748 t_749 hd_Mo_body blind_Pre (pre_mt C hH hA trivial) (As := [.int (xs (i + 1)), .int (xs (i + 2)), .int (xs (i + 3)), .int (xs (i + 4)), .int (xs (i + 5))]) (rest := []) rfl hl.1 rfl rfl rfl ⟨Nat.le_of_ble_eq_true rfl, Nat.le_of_ble_eq_true rfl⟩ (Nat.le_of_ble_eq_true rfl) ⟨by show cells + 1 + 0 ≤ 601024; omega, by show slots + 6 + 0 ≤ 7293034; omega⟩ d_Law_law_184) hH.2.2 (fun H locs hH => ?_)
    refine x_sx C b_Law_law_187_190 hl (L' := [(6, .int 0), (5, .int 1), (0, .ref b0), (1, .ref (sd 0)), (2, .ref (ad 20)), (3, .ref oa), (4, .int (nI i))]) (st' := [.ref (ad 20)]) rfl (fun ls hl => ?_)
    refine x_ro (x_cV C hH.1 mW_o rfl (c_Mo_thrown l G ad (cW G rb n md rd sd ms fl mn (va_up sc 0 1) ar b (oW G oa f)) (va_up sc 0 1) ar) t_746 t_14 t_743 t_744 t_745 hd_Mo_thrown blind_Pro (pre_ro C hH.1 hH.2.2) (As := []) (rest := []) rfl hl.1 rfl rfl rfl ⟨Nat.le_of_ble_eq_true rfl, Nat.le_of_ble_eq_true rfl⟩ (Nat.le_of_ble_eq_true rfl) ⟨by show cells + 1 + 0 ≤ 601024; omega, by show slots + 6 + 0 ≤ 7293034; omega⟩ d_Law_law_190) ?_
    refine x_sx C b_Law_law_193_195 hl (L' := [(6, .int 0), (5, .int 1), (0, .ref b0), (1, .ref (sd 0)), (2, .ref (ad 20)), (3, .ref oa), (4, .int (nI i))]) (st' := [.int 1, .int ((va_up sc 0 1) 0)]) rfl (fun ls hl => ?_)
    refine lv_icmp_eq (tgt := 200) C.1 C.2.1 d_Law_law_195 (by decide) (fun _ => ?_) (fun h => absurd (up_s _ _ _) h)
    refine x_sx C b_Law_law_200_202 hl (L' := [(6, .int 0), (5, .int 1), (0, .ref b0), (1, .ref (sd 0)), (2, .ref (ad 20)), (3, .ref oa), (4, .int (nI i))]) (st' := [.int 1]) rfl (fun ls hl => ?_)
    refine lv_if_ne (tgt := 217) C.1 C.2.1 d_Law_law_202 (by decide) (fun _ => ?_) (fun h => absurd h (by decide))
    refine x_goto (tgt := 1069) C d_Law_law_217 (by decide) ?_
    exact kk H locs _ _ ls ⟨rb, n, md, rd, sd, ms, fl, mn, (va_up sc 0 1), ar, b, np, f, (hR.z _), rfl, by rw [to_mW hn (by omega)]; exact hH⟩ (by omega) (by omega) (lv_sub hl [2, 3, 4, 5, 6] rfl)
theorem b_Law_law_220_226 : decs code [(.aload_n 1, 1), (.aload_n 0, 1), (.iload 4, 2), (.iconst 1, 1), (.iadd, 1)] 220 226 = true := by decide +kernel
theorem d_Law_law_226 : decode code 226 = .ok (.iaload, 1) := by decide +kernel
theorem b_Law_law_227_232 : decs code [(.aload_n 0, 1), (.iload 4, 2), (.iconst 2, 1), (.iadd, 1)] 227 232 = true := by decide +kernel
theorem d_Law_law_232 : decode code 232 = .ok (.iaload, 1) := by decide +kernel
theorem b_Law_law_233_238 : decs code [(.aload_n 0, 1), (.iload 4, 2), (.iconst 3, 1), (.iadd, 1)] 233 238 = true := by decide +kernel
theorem d_Law_law_238 : decode code 238 = .ok (.iaload, 1) := by decide +kernel
theorem d_Law_law_239 : decode code 239 = .ok (.invokestatic 74, 3) := by decide +kernel
theorem b_Law_law_242_250 : decs code [(.istore 5, 2), (.aload_n 2, 1), (.aload_n 0, 1), (.iload 4, 2), (.iconst 1, 1), (.iadd, 1)] 242 250 = true := by decide +kernel
theorem d_Law_law_250 : decode code 250 = .ok (.iaload, 1) := by decide +kernel
theorem b_Law_law_251_256 : decs code [(.aload_n 0, 1), (.iload 4, 2), (.iconst 2, 1), (.iadd, 1)] 251 256 = true := by decide +kernel
theorem d_Law_law_256 : decode code 256 = .ok (.iaload, 1) := by decide +kernel
theorem b_Law_law_257_262 : decs code [(.aload_n 0, 1), (.iload 4, 2), (.iconst 3, 1), (.iadd, 1)] 257 262 = true := by decide +kernel
theorem d_Law_law_262 : decode code 262 = .ok (.iaload, 1) := by decide +kernel
theorem d_Law_law_263 : decode code 263 = .ok (.invokevirtual 77, 3) := by decide +kernel
theorem b_Law_law_266_267 : decs code [(.aload_n 2, 1)] 266 267 = true := by decide +kernel
theorem d_Law_law_267 : decode code 267 = .ok (.invokevirtual 71, 3) := by decide +kernel
theorem b_Law_law_270_272 : decs code [(.iload 5, 2)] 270 272 = true := by decide +kernel
theorem d_Law_law_272 : decode code 272 = .ok (.if_icmp .eq 5, 3) := by decide +kernel
theorem d_Law_law_277 : decode code 277 = .ok (.goto 792, 3) := by decide +kernel
set_option maxRecDepth 100000 in
set_option maxHeartbeats 4000000 in
theorem lo_start {p : Program} {l : Launch} {e : Env} {s : State} {m : MethodId} {below : List Frame} {meth : Method} {c : Code} {G : GG} {A : Nat → Prop} {b0 L : Nat} {xs : Nat → Int32} {H : Heap} {locs : List Loc} {cells slots : Nat} {Q : State → Prop} {ls : Array Slot} {oa sa : Nat} {ad : Nat → Nat} {i : Nat} (C : Cx p s m #[.ref b0] meth c code 7 "SweptPathsLaw" G A) (hfl : l.flags = pinnedFlags ++ [noTraceFlag]) (hA : ∀ q, s.heap.size ≤ q → A q) (hX : va_X b0 L xs s s.heap) (hbl : b0 < s.heap.size) (hbA : ¬ A b0) (hL : L ≤ 384) (hi : i + 6 ≤ L) (hI : LI G A s oa ad sa H locs) (hce : cells ≤ 100000) (hsl : slots ≤ 1000000) (hl : lv_has ls 7 [(0, .ref b0), (1, .ref sa), (2, .ref (ad 20)), (3, .ref oa), (4, .int (nI i))]) (kk : ∀ (H : Heap) (locs : List Loc) (cells2 slots2 : Nat) (ls : Array Slot), LI G A s oa ad sa H locs → cells2 ≤ cells + 80 → slots2 ≤ slots + 2224 → lv_has ls 7 [(0, .ref b0), (1, .ref sa), (2, .ref (ad 20)), (3, .ref oa), (4, .int (nI i))] → W p l e room_1 s m #[.ref b0] below meth c H locs cells2 slots2 Q (F0 m 1069 ls [])) : W p l e room_1 s m #[.ref b0] below meth c H locs cells slots Q (F0 m 220 ls []) := by
  obtain ⟨rb, n, md, rd, sd, ms, fl, mn, sc, ar, b, np, f, hR, rfl, hH⟩ := hI
  have hn := hR.n3
  have hrbE := hR.1
  have h1 : sc 1 = nI n := hR.2.1.1.1
  have h6 : sc 6 = nI np := hR.2.1.1.2.2.1
  have hnp : np ≤ 20 := hR.2.1.1.2.2.2.1
  have hrb : 100 ≤ rb := by omega
  have hrb2 : rb ≤ 200 := by omega
  have hz0 : Z01 (ar 17) := hR.2.1.2.1
  by_cases hv : p_in (xs (i + 1)) (-1000) 1000 = 1 ∧ p_in (xs (i + 2)) (-1000) 1000 = 1 ∧ p_in (xs (i + 3)) 0 63 = 1
  · have hcf := cf_start hR.2.1.1 hv
    refine x_sx C b_Law_law_220_226 hl (L' := [(0, .ref b0), (1, .ref (sd 0)), (2, .ref (ad 20)), (3, .ref oa), (4, .int (nI i))]) (st' := [.int ((nI i) + 1), .ref b0, .ref (sd 0)]) rfl (fun ls hl => ?_)
    refine x_sld C hX hbl hbA hH.2.2 hL (ix_1 i) (by omega) d_Law_law_226 ?_
    refine x_sx C b_Law_law_227_232 hl (L' := [(0, .ref b0), (1, .ref (sd 0)), (2, .ref (ad 20)), (3, .ref oa), (4, .int (nI i))]) (st' := [.int ((nI i) + 2), .ref b0, .int (xs (i + 1)), .ref (sd 0)]) rfl (fun ls hl => ?_)
    refine x_sld C hX hbl hbA hH.2.2 hL (ix_2 i) (by omega) d_Law_law_232 ?_
    refine x_sx C b_Law_law_233_238 hl (L' := [(0, .ref b0), (1, .ref (sd 0)), (2, .ref (ad 20)), (3, .ref oa), (4, .int (nI i))]) (st' := [.int ((nI i) + 3), .ref b0, .int (xs (i + 2)), .int (xs (i + 1)), .ref (sd 0)]) rfl (fun ls hl => ?_)
    refine x_sld C hX hbl hbA hH.2.2 hL (ix_3 i) (by omega) d_Law_law_238 ?_
    refine x_q1 (x_cSW C (c_Law_start l G A rb n md rd sd ms fl mn sc ar b (lwW G oa f ad sc ar) np (xs (i + 1)) (xs (i + 2)) (xs (i + 3)) hn hrb hrbE (fun m h1 h2 => lwW_n (by omega)) hv h1 h6 hnp (fun k hk => (bg_rg hcf k hk).2)) t_485 t_0 t_483 t_484 hd_Law_start blind_Pre (pre_mt C hH hA trivial) (As := [.ref (sd 0), .int (xs (i + 1)), .int (xs (i + 2)), .int (xs (i + 3))]) (rest := []) rfl hl.1 rfl rfl rfl ⟨(Nat.le_of_ble_eq_true rfl), (Nat.le_of_ble_eq_true rfl)⟩ (Nat.le_of_ble_eq_true rfl) ⟨by show cells + 14 ≤ 601024; omega, by show slots + 300 ≤ 7293034; omega⟩ d_Law_law_239) hH.2.2 (fun x H locs hx hH hz => ?_)
    rw [to_mW hn (by omega)] at hH
    refine x_sx C b_Law_law_242_250 hl (L' := [(5, .int 0), (0, .ref b0), (1, .ref (sd 0)), (2, .ref (ad 20)), (3, .ref oa), (4, .int (nI i))]) (st' := [.int ((nI i) + 1), .ref b0, .ref (ad 20)]) rfl (fun ls hl => ?_)
    refine x_sld C hX hbl hbA hH.2.2 hL (ix_1 i) (by omega) d_Law_law_250 ?_
    refine x_sx C b_Law_law_251_256 hl (L' := [(5, .int 0), (0, .ref b0), (1, .ref (sd 0)), (2, .ref (ad 20)), (3, .ref oa), (4, .int (nI i))]) (st' := [.int ((nI i) + 2), .ref b0, .int (xs (i + 1)), .ref (ad 20)]) rfl (fun ls hl => ?_)
    refine x_sld C hX hbl hbA hH.2.2 hL (ix_2 i) (by omega) d_Law_law_256 ?_
    refine x_sx C b_Law_law_257_262 hl (L' := [(5, .int 0), (0, .ref b0), (1, .ref (sd 0)), (2, .ref (ad 20)), (3, .ref oa), (4, .int (nI i))]) (st' := [.int ((nI i) + 3), .ref b0, .int (xs (i + 2)), .int (xs (i + 1)), .ref (ad 20)]) rfl (fun ls hl => ?_)
    refine x_sld C hX hbl hbA hH.2.2 hL (ix_3 i) (by omega) d_Law_law_262 ?_
    refine x_mw0 (x_cV C hH.1 mW_o rfl (c_Mo_start l G A ad (cW G (300 - rb) n (nI n) x.1 sd ms fl mn (fBegin (fStartS sc (xs (i + 1)) (xs (i + 2)) (xs (i + 3)), ar)).1 (fBegin (fStartS sc (xs (i + 1)) (xs (i + 2)) (xs (i + 3)), ar)).2 x.2 (oW G oa f)) sc ar (xs (i + 1)) (xs (i + 2)) (xs (i + 3)) n np hv h1 hn h6 hnp (fun k hk => (bg_rg hcf k hk).1)) t_791 t_14 t_788 t_789 t_790 hd_Mo_start blind_Pre (pre_mt C hH hA trivial) (As := [.int (xs (i + 1)), .int (xs (i + 2)), .int (xs (i + 3))]) (rest := []) rfl hl.1 rfl rfl rfl ⟨Nat.le_of_ble_eq_true rfl, Nat.le_of_ble_eq_true rfl⟩ (Nat.le_of_ble_eq_true rfl) ⟨by show cells + 14 + 0 ≤ 601024; omega, by show slots + 300 + 0 ≤ 7293034; omega⟩ d_Law_law_263) hH.2.2 (fun H locs hH => ?_)
    refine x_sx C b_Law_law_266_267 hl (L' := [(5, .int 0), (0, .ref b0), (1, .ref (sd 0)), (2, .ref (ad 20)), (3, .ref oa), (4, .int (nI i))]) (st' := [.ref (ad 20)]) rfl (fun ls hl => ?_)
    refine x_ro (x_cV C hH.1 mW_o rfl (c_Mo_thrown l G ad (cW G (300 - rb) n (nI n) x.1 sd ms fl mn (fBegin (fStartS sc (xs (i + 1)) (xs (i + 2)) (xs (i + 3)), ar)).1 (fBegin (fStartS sc (xs (i + 1)) (xs (i + 2)) (xs (i + 3)), ar)).2 x.2 (oW G oa f)) (fBegin (fStartS sc (xs (i + 1)) (xs (i + 2)) (xs (i + 3)), ar)).1 (fBegin (fStartS sc (xs (i + 1)) (xs (i + 2)) (xs (i + 3)), ar)).2) t_746 t_14 t_743 t_744 t_745 hd_Mo_thrown blind_Pro (pre_ro C hH.1 hH.2.2) (As := []) (rest := []) rfl hl.1 rfl rfl rfl ⟨Nat.le_of_ble_eq_true rfl, Nat.le_of_ble_eq_true rfl⟩ (Nat.le_of_ble_eq_true rfl) ⟨by show cells + 14 + 0 ≤ 601024; omega, by show slots + 300 + 0 ≤ 7293034; omega⟩ d_Law_law_267) ?_
    refine x_sx C b_Law_law_270_272 hl (L' := [(5, .int 0), (0, .ref b0), (1, .ref (sd 0)), (2, .ref (ad 20)), (3, .ref oa), (4, .int (nI i))]) (st' := [.int 0, .int ((fBegin (fStartS sc (xs (i + 1)) (xs (i + 2)) (xs (i + 3)), ar)).1 0)]) rfl (fun ls hl => ?_)
    refine lv_icmp_eq (tgt := 277) C.1 C.2.1 d_Law_law_272 (by decide) (fun _ => ?_) (fun h => absurd z_start h)
    refine x_goto (tgt := 1069) C d_Law_law_277 (by decide) ?_
    exact kk H locs _ _ ls ⟨(300 - rb), n, (nI n), x.1, sd, ms, fl, mn, (fBegin (fStartS sc (xs (i + 1)) (xs (i + 2)) (xs (i + 3)), ar)).1, (fBegin (fStartS sc (xs (i + 1)) (xs (i + 2)) (xs (i + 3)), ar)).2, x.2, np, f, (hR.begin hcf hx), rfl, by rw [to_mW hn (by omega)]; exact hH⟩ (by omega) (by omega) (lv_sub hl [1, 2, 3, 4, 5] rfl)
  · rw [cW_0 (v := 1)] at hH
    refine x_sx C b_Law_law_220_226 hl (L' := [(0, .ref b0), (1, .ref (sd 0)), (2, .ref (ad 20)), (3, .ref oa), (4, .int (nI i))]) (st' := [.int ((nI i) + 1), .ref b0, .ref (sd 0)]) rfl (fun ls hl => ?_)
    refine x_sld C hX hbl hbA hH.2.2 hL (ix_1 i) (by omega) d_Law_law_226 ?_
    refine x_sx C b_Law_law_227_232 hl (L' := [(0, .ref b0), (1, .ref (sd 0)), (2, .ref (ad 20)), (3, .ref oa), (4, .int (nI i))]) (st' := [.int ((nI i) + 2), .ref b0, .int (xs (i + 1)), .ref (sd 0)]) rfl (fun ls hl => ?_)
    refine x_sld C hX hbl hbA hH.2.2 hL (ix_2 i) (by omega) d_Law_law_232 ?_
    refine x_sx C b_Law_law_233_238 hl (L' := [(0, .ref b0), (1, .ref (sd 0)), (2, .ref (ad 20)), (3, .ref oa), (4, .int (nI i))]) (st' := [.int ((nI i) + 3), .ref b0, .int (xs (i + 2)), .int (xs (i + 1)), .ref (sd 0)]) rfl (fun ls hl => ?_)
    refine x_sld C hX hbl hbA hH.2.2 hL (ix_3 i) (by omega) d_Law_law_238 ?_
    refine x_q1 (x_cSW C (c_Law_start_1 l G A rb n md rd sd ms fl mn (va_up sc 0 1) ar b (lwW G oa f ad sc ar) (xs (i + 1)) (xs (i + 2)) (xs (i + 3)) hfl hn hrb hv hrbE) t_485 t_0 t_483 t_484 hd_Law_start blind_Pre (pre_mt C hH hA trivial) (As := [.ref (sd 0), .int (xs (i + 1)), .int (xs (i + 2)), .int (xs (i + 3))]) (rest := []) rfl hl.1 rfl rfl rfl ⟨(Nat.le_of_ble_eq_true rfl), (Nat.le_of_ble_eq_true rfl)⟩ (Nat.le_of_ble_eq_true rfl) ⟨by show cells + 1 ≤ 601024; omega, by show slots + 6 ≤ 7293034; omega⟩ d_Law_law_239) hH.2.2 (fun x H locs hx hH hz => ?_)
    rw [to_mW hn (by omega)] at hH
    refine x_sx C b_Law_law_242_250 hl (L' := [(5, .int 1), (0, .ref b0), (1, .ref (sd 0)), (2, .ref (ad 20)), (3, .ref oa), (4, .int (nI i))]) (st' := [.int ((nI i) + 1), .ref b0, .ref (ad 20)]) rfl (fun ls hl => ?_)
    refine x_sld C hX hbl hbA hH.2.2 hL (ix_1 i) (by omega) d_Law_law_250 ?_
    refine x_sx C b_Law_law_251_256 hl (L' := [(5, .int 1), (0, .ref b0), (1, .ref (sd 0)), (2, .ref (ad 20)), (3, .ref oa), (4, .int (nI i))]) (st' := [.int ((nI i) + 2), .ref b0, .int (xs (i + 1)), .ref (ad 20)]) rfl (fun ls hl => ?_)
    refine x_sld C hX hbl hbA hH.2.2 hL (ix_2 i) (by omega) d_Law_law_256 ?_
    refine x_sx C b_Law_law_257_262 hl (L' := [(5, .int 1), (0, .ref b0), (1, .ref (sd 0)), (2, .ref (ad 20)), (3, .ref oa), (4, .int (nI i))]) (st' := [.int ((nI i) + 3), .ref b0, .int (xs (i + 2)), .int (xs (i + 1)), .ref (ad 20)]) rfl (fun ls hl => ?_)
    refine x_sld C hX hbl hbA hH.2.2 hL (ix_3 i) (by omega) d_Law_law_262 ?_
    refine x_mw0 (x_cV C hH.1 mW_o rfl (c_Mo_start_1 l G A ad (cW G rb n md rd sd ms fl mn (va_up sc 0 1) ar b (oW G oa f)) sc ar (xs (i + 1)) (xs (i + 2)) (xs (i + 3)) hv) t_791 t_14 t_788 t_789 t_790 hd_Mo_start blind_Pre (pre_mt C hH hA trivial) (As := [.int (xs (i + 1)), .int (xs (i + 2)), .int (xs (i + 3))]) (rest := []) rfl hl.1 rfl rfl rfl ⟨Nat.le_of_ble_eq_true rfl, Nat.le_of_ble_eq_true rfl⟩ (Nat.le_of_ble_eq_true rfl) ⟨by show cells + 1 + 0 ≤ 601024; omega, by show slots + 6 + 0 ≤ 7293034; omega⟩ d_Law_law_263) hH.2.2 (fun H locs hH => ?_)
    refine x_sx C b_Law_law_266_267 hl (L' := [(5, .int 1), (0, .ref b0), (1, .ref (sd 0)), (2, .ref (ad 20)), (3, .ref oa), (4, .int (nI i))]) (st' := [.ref (ad 20)]) rfl (fun ls hl => ?_)
    refine x_ro (x_cV C hH.1 mW_o rfl (c_Mo_thrown l G ad (cW G rb n md rd sd ms fl mn (va_up sc 0 1) ar b (oW G oa f)) (va_up sc 0 1) ar) t_746 t_14 t_743 t_744 t_745 hd_Mo_thrown blind_Pro (pre_ro C hH.1 hH.2.2) (As := []) (rest := []) rfl hl.1 rfl rfl rfl ⟨Nat.le_of_ble_eq_true rfl, Nat.le_of_ble_eq_true rfl⟩ (Nat.le_of_ble_eq_true rfl) ⟨by show cells + 1 + 0 ≤ 601024; omega, by show slots + 6 + 0 ≤ 7293034; omega⟩ d_Law_law_267) ?_
    refine x_sx C b_Law_law_270_272 hl (L' := [(5, .int 1), (0, .ref b0), (1, .ref (sd 0)), (2, .ref (ad 20)), (3, .ref oa), (4, .int (nI i))]) (st' := [.int 1, .int ((va_up sc 0 1) 0)]) rfl (fun ls hl => ?_)
    refine lv_icmp_eq (tgt := 277) C.1 C.2.1 d_Law_law_272 (by decide) (fun _ => ?_) (fun h => absurd (up_s _ _ _) h)
    refine x_goto (tgt := 1069) C d_Law_law_277 (by decide) ?_
    exact kk H locs _ _ ls ⟨rb, n, md, rd, sd, ms, fl, mn, (va_up sc 0 1), ar, b, np, f, (hR.z _), rfl, by rw [to_mW hn (by omega)]; exact hH⟩ (by omega) (by omega) (lv_sub hl [1, 2, 3, 4, 5] rfl)
theorem b_Law_law_280_286 : decs code [(.aload_n 1, 1), (.aload_n 0, 1), (.iload 4, 2), (.iconst 1, 1), (.iadd, 1)] 280 286 = true := by decide +kernel
theorem d_Law_law_286 : decode code 286 = .ok (.iaload, 1) := by decide +kernel
theorem b_Law_law_287_288 : decs code [(.aload_n 3, 1)] 287 288 = true := by decide +kernel
theorem d_Law_law_288 : decode code 288 = .ok (.invokestatic 78, 3) := by decide +kernel
theorem b_Law_law_291_299 : decs code [(.istore 5, 2), (.aload_n 2, 1), (.aload_n 0, 1), (.iload 4, 2), (.iconst 1, 1), (.iadd, 1)] 291 299 = true := by decide +kernel
theorem d_Law_law_299 : decode code 299 = .ok (.iaload, 1) := by decide +kernel
theorem d_Law_law_300 : decode code 300 = .ok (.invokevirtual 81, 3) := by decide +kernel
theorem b_Law_law_303_306 : decs code [(.istore 6, 2), (.aload_n 2, 1)] 303 306 = true := by decide +kernel
theorem d_Law_law_306 : decode code 306 = .ok (.invokevirtual 71, 3) := by decide +kernel
theorem b_Law_law_309_311 : decs code [(.iload 5, 2)] 309 311 = true := by decide +kernel
theorem d_Law_law_311 : decode code 311 = .ok (.if_icmp .eq 5, 3) := by decide +kernel
theorem b_Law_law_316_318 : decs code [(.iload 5, 2)] 316 318 = true := by decide +kernel
theorem d_Law_law_318 : decode code 318 = .ok (.ifCond .ne 15, 3) := by decide +kernel
theorem b_Law_law_321_323 : decs code [(.aload_n 3, 1), (.iconst 0, 1)] 321 323 = true := by decide +kernel
theorem d_Law_law_323 : decode code 323 = .ok (.laload, 1) := by decide +kernel
theorem b_Law_law_324_328 : decs code [(.iload 6, 2), (.i2l, 1), (.lcmp, 1)] 324 328 = true := by decide +kernel
theorem d_Law_law_328 : decode code 328 = .ok (.ifCond .eq 5, 3) := by decide +kernel
theorem d_Law_law_333 : decode code 333 = .ok (.goto 736, 3) := by decide +kernel
set_option maxRecDepth 100000 in
set_option maxHeartbeats 4000000 in
theorem lo_step {p : Program} {l : Launch} {e : Env} {s : State} {m : MethodId} {below : List Frame} {meth : Method} {c : Code} {G : GG} {A : Nat → Prop} {b0 L : Nat} {xs : Nat → Int32} {H : Heap} {locs : List Loc} {cells slots : Nat} {Q : State → Prop} {ls : Array Slot} {oa sa : Nat} {ad : Nat → Nat} {i : Nat} (C : Cx p s m #[.ref b0] meth c code 7 "SweptPathsLaw" G A) (hfl : l.flags = pinnedFlags ++ [noTraceFlag]) (hA : ∀ q, s.heap.size ≤ q → A q) (hX : va_X b0 L xs s s.heap) (hbl : b0 < s.heap.size) (hbA : ¬ A b0) (hL : L ≤ 384) (hi : i + 6 ≤ L) (hI : LI G A s oa ad sa H locs) (hce : cells ≤ 100000) (hsl : slots ≤ 1000000) (hl : lv_has ls 7 [(0, .ref b0), (1, .ref sa), (2, .ref (ad 20)), (3, .ref oa), (4, .int (nI i))]) (kk : ∀ (H : Heap) (locs : List Loc) (cells2 slots2 : Nat) (ls : Array Slot), LI G A s oa ad sa H locs → cells2 ≤ cells + 80 → slots2 ≤ slots + 2224 → lv_has ls 7 [(0, .ref b0), (1, .ref sa), (2, .ref (ad 20)), (3, .ref oa), (4, .int (nI i))] → W p l e room_1 s m #[.ref b0] below meth c H locs cells2 slots2 Q (F0 m 1069 ls [])) : W p l e room_1 s m #[.ref b0] below meth c H locs cells slots Q (F0 m 280 ls []) := by
  obtain ⟨rb, n, md, rd, sd, ms, fl, mn, sc, ar, b, np, f, hR, rfl, hH⟩ := hI
  have hn := hR.n3
  have hrbE := hR.1
  have h1 : sc 1 = nI n := hR.2.1.1.1
  have h6 : sc 6 = nI np := hR.2.1.1.2.2.1
  have hnp : np ≤ 20 := hR.2.1.1.2.2.2.1
  have hrb : 100 ≤ rb := by omega
  have hrb2 : rb ≤ 200 := by omega
  have hz0 : Z01 (ar 17) := hR.2.1.2.1
  by_cases hv : p_in (xs (i + 1)) 1 20 = 1
  · have hcf := cf_step hR.2.1.1 hv
    refine x_sx C b_Law_law_280_286 hl (L' := [(0, .ref b0), (1, .ref (sd 0)), (2, .ref (ad 20)), (3, .ref oa), (4, .int (nI i))]) (st' := [.int ((nI i) + 1), .ref b0, .ref (sd 0)]) rfl (fun ls hl => ?_)
    refine x_sld C hX hbl hbA hH.2.2 hL (ix_1 i) (by omega) d_Law_law_286 ?_
    refine x_sx C b_Law_law_287_288 hl (L' := [(0, .ref b0), (1, .ref (sd 0)), (2, .ref (ad 20)), (3, .ref oa), (4, .int (nI i))]) (st' := [.ref oa, .int (xs (i + 1)), .ref (sd 0)]) rfl (fun ls hl => ?_)
    refine x_q1 (x_cSW C (c_Law_step l G A rb n md rd sd ms fl mn sc ar b (lwW G oa f ad sc ar) np (xs (i + 1)) hn hrb hrbE (fun m h1 h2 => lwW_n (by omega)) hv h1 h6 hnp (fun k hk => (bg_rg hcf k hk).2) oa f lwW_o) t_492 t_0 t_490 t_491 hd_Law_step blind_Pre (pre_mt C hH hA trivial) (As := [.ref (sd 0), .int (xs (i + 1)), .ref oa]) (rest := []) rfl hl.1 rfl rfl rfl ⟨(Nat.le_of_ble_eq_true rfl), (Nat.le_of_ble_eq_true rfl)⟩ (Nat.le_of_ble_eq_true rfl) ⟨by show cells + 14 ≤ 601024; omega, by show slots + 300 ≤ 7293034; omega⟩ d_Law_law_288) hH.2.2 (fun x H locs hx hH hz => ?_)
    rw [lwW_up] at hH
    rw [to_mW hn (by omega)] at hH
    refine x_sx C b_Law_law_291_299 hl (L' := [(5, .int 0), (0, .ref b0), (1, .ref (sd 0)), (2, .ref (ad 20)), (3, .ref oa), (4, .int (nI i))]) (st' := [.int ((nI i) + 1), .ref b0, .ref (ad 20)]) rfl (fun ls hl => ?_)
    refine x_sld C hX hbl hbA hH.2.2 hL (ix_1 i) (by omega) d_Law_law_299 ?_
    refine x_mw1 (x_cV C hH.1 mW_o rfl (c_Mo_step l G A ad (cW G (300 - rb) n (nI n) x.1 sd ms fl mn (fBegin (fStepS sc (xs (i + 1)), ar)).1 (fBegin (fStepS sc (xs (i + 1)), ar)).2 x.2 (oW G oa (vp_updL f 0 (sc 5).toInt64))) sc ar (xs (i + 1)) n np hv h1 hn h6 hnp (fun k hk => (bg_rg hcf k hk).1)) t_795 t_14 t_792 t_793 t_794 hd_Mo_step blind_Pre (pre_mt C hH hA trivial) (As := [.int (xs (i + 1))]) (rest := []) rfl hl.1 rfl rfl rfl ⟨Nat.le_of_ble_eq_true rfl, Nat.le_of_ble_eq_true rfl⟩ (Nat.le_of_ble_eq_true rfl) ⟨by show cells + 14 + 0 ≤ 601024; omega, by show slots + 300 + 0 ≤ 7293034; omega⟩ d_Law_law_300) hH.2.2 (fun H locs hH => ?_)
    refine x_sx C b_Law_law_303_306 hl (L' := [(6, .int (sc 5)), (5, .int 0), (0, .ref b0), (1, .ref (sd 0)), (2, .ref (ad 20)), (3, .ref oa), (4, .int (nI i))]) (st' := [.ref (ad 20)]) rfl (fun ls hl => ?_)
    refine x_ro (x_cV C hH.1 mW_o rfl (c_Mo_thrown l G ad (cW G (300 - rb) n (nI n) x.1 sd ms fl mn (fBegin (fStepS sc (xs (i + 1)), ar)).1 (fBegin (fStepS sc (xs (i + 1)), ar)).2 x.2 (oW G oa (vp_updL f 0 (sc 5).toInt64))) (fBegin (fStepS sc (xs (i + 1)), ar)).1 (fBegin (fStepS sc (xs (i + 1)), ar)).2) t_746 t_14 t_743 t_744 t_745 hd_Mo_thrown blind_Pro (pre_ro C hH.1 hH.2.2) (As := []) (rest := []) rfl hl.1 rfl rfl rfl ⟨Nat.le_of_ble_eq_true rfl, Nat.le_of_ble_eq_true rfl⟩ (Nat.le_of_ble_eq_true rfl) ⟨by show cells + 14 + 0 ≤ 601024; omega, by show slots + 300 + 0 ≤ 7293034; omega⟩ d_Law_law_306) ?_
    refine x_sx C b_Law_law_309_311 hl (L' := [(6, .int (sc 5)), (5, .int 0), (0, .ref b0), (1, .ref (sd 0)), (2, .ref (ad 20)), (3, .ref oa), (4, .int (nI i))]) (st' := [.int 0, .int ((fBegin (fStepS sc (xs (i + 1)), ar)).1 0)]) rfl (fun ls hl => ?_)
    refine lv_icmp_eq (tgt := 316) C.1 C.2.1 d_Law_law_311 (by decide) (fun _ => ?_) (fun h => absurd z_step h)
    refine x_sx C b_Law_law_316_318 hl (L' := [(6, .int (sc 5)), (5, .int 0), (0, .ref b0), (1, .ref (sd 0)), (2, .ref (ad 20)), (3, .ref oa), (4, .int (nI i))]) (st' := [.int 0]) rfl (fun ls hl => ?_)
    refine lv_if_ne (tgt := 333) C.1 C.2.1 d_Law_law_318 (by decide) (fun h => absurd (by decide) h) (fun _ => ?_)
    refine x_sx C b_Law_law_321_323 hl (L' := [(6, .int (sc 5)), (5, .int 0), (0, .ref b0), (1, .ref (sd 0)), (2, .ref (ad 20)), (3, .ref oa), (4, .int (nI i))]) (st' := [.int 0, .ref oa]) rfl (fun ls hl => ?_)
    refine x_lld C hH.1 500 (mo_o hn (by omega)) (j := 0) rfl (by decide) (by decide) d_Law_law_323 ?_
    refine x_sx C b_Law_law_324_328 hl (L' := [(6, .int (sc 5)), (5, .int 0), (0, .ref b0), (1, .ref (sd 0)), (2, .ref (ad 20)), (3, .ref oa), (4, .int (nI i))]) (st' := [.int (lg_cmp ((sc 5).toInt64) ((sc 5).toInt64))]) rfl (fun ls hl => ?_)
    refine lv_if_eq (tgt := 333) C.1 C.2.1 d_Law_law_328 (by decide) (fun _ => ?_) (fun h => absurd ((lg_cmp_eq _ _).mpr rfl) h)
    refine x_goto (tgt := 1069) C d_Law_law_333 (by decide) ?_
    exact kk H locs _ _ ls ⟨(300 - rb), n, (nI n), x.1, sd, ms, fl, mn, (fBegin (fStepS sc (xs (i + 1)), ar)).1, (fBegin (fStepS sc (xs (i + 1)), ar)).2, x.2, np, (vp_updL f 0 (sc 5).toInt64), (hR.begin hcf hx), rfl, by rw [to_mW hn (by omega)]; exact hH⟩ (by omega) (by omega) (lv_sub hl [2, 3, 4, 5, 6] rfl)
  · rw [cW_0 (v := 1)] at hH
    refine x_sx C b_Law_law_280_286 hl (L' := [(0, .ref b0), (1, .ref (sd 0)), (2, .ref (ad 20)), (3, .ref oa), (4, .int (nI i))]) (st' := [.int ((nI i) + 1), .ref b0, .ref (sd 0)]) rfl (fun ls hl => ?_)
    refine x_sld C hX hbl hbA hH.2.2 hL (ix_1 i) (by omega) d_Law_law_286 ?_
    refine x_sx C b_Law_law_287_288 hl (L' := [(0, .ref b0), (1, .ref (sd 0)), (2, .ref (ad 20)), (3, .ref oa), (4, .int (nI i))]) (st' := [.ref oa, .int (xs (i + 1)), .ref (sd 0)]) rfl (fun ls hl => ?_)
    refine x_q1 (x_cSW C (c_Law_step_1 l G A rb n md rd sd ms fl mn (va_up sc 0 1) ar b (lwW G oa f ad sc ar) (xs (i + 1)) hfl hn hrb hv oa f hrbE lwW_o) t_492 t_0 t_490 t_491 hd_Law_step blind_Pre (pre_mt C hH hA trivial) (As := [.ref (sd 0), .int (xs (i + 1)), .ref oa]) (rest := []) rfl hl.1 rfl rfl rfl ⟨(Nat.le_of_ble_eq_true rfl), (Nat.le_of_ble_eq_true rfl)⟩ (Nat.le_of_ble_eq_true rfl) ⟨by show cells + 1 ≤ 601024; omega, by show slots + 6 ≤ 7293034; omega⟩ d_Law_law_288) hH.2.2 (fun x H locs hx hH hz => ?_)
    rw [to_mW hn (by omega)] at hH
    refine x_sx C b_Law_law_291_299 hl (L' := [(5, .int 1), (0, .ref b0), (1, .ref (sd 0)), (2, .ref (ad 20)), (3, .ref oa), (4, .int (nI i))]) (st' := [.int ((nI i) + 1), .ref b0, .ref (ad 20)]) rfl (fun ls hl => ?_)
    refine x_sld C hX hbl hbA hH.2.2 hL (ix_1 i) (by omega) d_Law_law_299 ?_
    refine x_mw1 (x_cV C hH.1 mW_o rfl (c_Mo_step_1 l G A ad (cW G rb n md rd sd ms fl mn (va_up sc 0 1) ar b (oW G oa f)) sc ar (xs (i + 1)) hv) t_795 t_14 t_792 t_793 t_794 hd_Mo_step blind_Pre (pre_mt C hH hA trivial) (As := [.int (xs (i + 1))]) (rest := []) rfl hl.1 rfl rfl rfl ⟨Nat.le_of_ble_eq_true rfl, Nat.le_of_ble_eq_true rfl⟩ (Nat.le_of_ble_eq_true rfl) ⟨by show cells + 1 + 0 ≤ 601024; omega, by show slots + 6 + 0 ≤ 7293034; omega⟩ d_Law_law_300) hH.2.2 (fun H locs hH => ?_)
    refine x_sx C b_Law_law_303_306 hl (L' := [(6, .int 0), (5, .int 1), (0, .ref b0), (1, .ref (sd 0)), (2, .ref (ad 20)), (3, .ref oa), (4, .int (nI i))]) (st' := [.ref (ad 20)]) rfl (fun ls hl => ?_)
    refine x_ro (x_cV C hH.1 mW_o rfl (c_Mo_thrown l G ad (cW G rb n md rd sd ms fl mn (va_up sc 0 1) ar b (oW G oa f)) (va_up sc 0 1) ar) t_746 t_14 t_743 t_744 t_745 hd_Mo_thrown blind_Pro (pre_ro C hH.1 hH.2.2) (As := []) (rest := []) rfl hl.1 rfl rfl rfl ⟨Nat.le_of_ble_eq_true rfl, Nat.le_of_ble_eq_true rfl⟩ (Nat.le_of_ble_eq_true rfl) ⟨by show cells + 1 + 0 ≤ 601024; omega, by show slots + 6 + 0 ≤ 7293034; omega⟩ d_Law_law_306) ?_
    refine x_sx C b_Law_law_309_311 hl (L' := [(6, .int 0), (5, .int 1), (0, .ref b0), (1, .ref (sd 0)), (2, .ref (ad 20)), (3, .ref oa), (4, .int (nI i))]) (st' := [.int 1, .int ((va_up sc 0 1) 0)]) rfl (fun ls hl => ?_)
    refine lv_icmp_eq (tgt := 316) C.1 C.2.1 d_Law_law_311 (by decide) (fun _ => ?_) (fun h => absurd (up_s _ _ _) h)
    refine x_sx C b_Law_law_316_318 hl (L' := [(6, .int 0), (5, .int 1), (0, .ref b0), (1, .ref (sd 0)), (2, .ref (ad 20)), (3, .ref oa), (4, .int (nI i))]) (st' := [.int 1]) rfl (fun ls hl => ?_)
    refine lv_if_ne (tgt := 333) C.1 C.2.1 d_Law_law_318 (by decide) (fun _ => ?_) (fun h => absurd h (by decide))
    refine x_goto (tgt := 1069) C d_Law_law_333 (by decide) ?_
    exact kk H locs _ _ ls ⟨rb, n, md, rd, sd, ms, fl, mn, (va_up sc 0 1), ar, b, np, f, (hR.z _), rfl, by rw [to_mW hn (by omega)]; exact hH⟩ (by omega) (by omega) (lv_sub hl [2, 3, 4, 5, 6] rfl)
theorem b_Law_law_336_342 : decs code [(.aload_n 1, 1), (.aload_n 0, 1), (.iload 4, 2), (.iconst 1, 1), (.iadd, 1)] 336 342 = true := by decide +kernel
theorem d_Law_law_342 : decode code 342 = .ok (.iaload, 1) := by decide +kernel
theorem b_Law_law_343_348 : decs code [(.aload_n 0, 1), (.iload 4, 2), (.iconst 2, 1), (.iadd, 1)] 343 348 = true := by decide +kernel
theorem d_Law_law_348 : decode code 348 = .ok (.iaload, 1) := by decide +kernel
theorem b_Law_law_349_350 : decs code [(.aload_n 3, 1)] 349 350 = true := by decide +kernel
theorem d_Law_law_350 : decode code 350 = .ok (.invokestatic 82, 3) := by decide +kernel
theorem b_Law_law_353_361 : decs code [(.istore 5, 2), (.aload_n 2, 1), (.aload_n 0, 1), (.iload 4, 2), (.iconst 1, 1), (.iadd, 1)] 353 361 = true := by decide +kernel
theorem d_Law_law_361 : decode code 361 = .ok (.iaload, 1) := by decide +kernel
theorem b_Law_law_362_367 : decs code [(.aload_n 0, 1), (.iload 4, 2), (.iconst 2, 1), (.iadd, 1)] 362 367 = true := by decide +kernel
theorem d_Law_law_367 : decode code 367 = .ok (.iaload, 1) := by decide +kernel
theorem d_Law_law_368 : decode code 368 = .ok (.invokevirtual 85, 3) := by decide +kernel
theorem b_Law_law_371_374 : decs code [(.istore 6, 2), (.aload_n 2, 1)] 371 374 = true := by decide +kernel
theorem d_Law_law_374 : decode code 374 = .ok (.invokevirtual 71, 3) := by decide +kernel
theorem b_Law_law_377_379 : decs code [(.iload 5, 2)] 377 379 = true := by decide +kernel
theorem d_Law_law_379 : decode code 379 = .ok (.if_icmp .eq 5, 3) := by decide +kernel
theorem b_Law_law_384_386 : decs code [(.iload 5, 2)] 384 386 = true := by decide +kernel
theorem d_Law_law_386 : decode code 386 = .ok (.ifCond .ne 15, 3) := by decide +kernel
theorem d_Law_law_401 : decode code 401 = .ok (.goto 668, 3) := by decide +kernel
theorem b_Law_law_389_391 : decs code [(.aload_n 3, 1), (.iconst 0, 1)] 389 391 = true := by decide +kernel
theorem d_Law_law_391 : decode code 391 = .ok (.laload, 1) := by decide +kernel
theorem b_Law_law_392_396 : decs code [(.iload 6, 2), (.i2l, 1), (.lcmp, 1)] 392 396 = true := by decide +kernel
theorem d_Law_law_396 : decode code 396 = .ok (.ifCond .eq 5, 3) := by decide +kernel
set_option maxRecDepth 100000 in
set_option maxHeartbeats 4000000 in
theorem lo_pole {p : Program} {l : Launch} {e : Env} {s : State} {m : MethodId} {below : List Frame} {meth : Method} {c : Code} {G : GG} {A : Nat → Prop} {b0 L : Nat} {xs : Nat → Int32} {H : Heap} {locs : List Loc} {cells slots : Nat} {Q : State → Prop} {ls : Array Slot} {oa sa : Nat} {ad : Nat → Nat} {i : Nat} (C : Cx p s m #[.ref b0] meth c code 7 "SweptPathsLaw" G A) (hfl : l.flags = pinnedFlags ++ [noTraceFlag]) (hA : ∀ q, s.heap.size ≤ q → A q) (hX : va_X b0 L xs s s.heap) (hbl : b0 < s.heap.size) (hbA : ¬ A b0) (hL : L ≤ 384) (hi : i + 6 ≤ L) (hI : LI G A s oa ad sa H locs) (hce : cells ≤ 100000) (hsl : slots ≤ 1000000) (hl : lv_has ls 7 [(0, .ref b0), (1, .ref sa), (2, .ref (ad 20)), (3, .ref oa), (4, .int (nI i))]) (kk : ∀ (H : Heap) (locs : List Loc) (cells2 slots2 : Nat) (ls : Array Slot), LI G A s oa ad sa H locs → cells2 ≤ cells + 80 → slots2 ≤ slots + 2224 → lv_has ls 7 [(0, .ref b0), (1, .ref sa), (2, .ref (ad 20)), (3, .ref oa), (4, .int (nI i))] → W p l e room_1 s m #[.ref b0] below meth c H locs cells2 slots2 Q (F0 m 1069 ls [])) : W p l e room_1 s m #[.ref b0] below meth c H locs cells slots Q (F0 m 336 ls []) := by
  obtain ⟨rb, n, md, rd, sd, ms, fl, mn, sc, ar, b, np, f, hR, rfl, hH⟩ := hI
  have hn := hR.n3
  have hrbE := hR.1
  have h1 : sc 1 = nI n := hR.2.1.1.1
  have h6 : sc 6 = nI np := hR.2.1.1.2.2.1
  have hnp : np ≤ 20 := hR.2.1.1.2.2.2.1
  have hrb : 100 ≤ rb := by omega
  have hrb2 : rb ≤ 200 := by omega
  have hz0 : Z01 (ar 17) := hR.2.1.2.1
  by_cases hv : p_in (xs (i + 1)) (-1000) 1000 = 1 ∧ p_in (xs (i + 2)) (-1000) 1000 = 1
  · by_cases h20 : np = 20
    · rw [cW_0 (v := 2)] at hH
      refine x_sx C b_Law_law_336_342 hl (L' := [(0, .ref b0), (1, .ref (sd 0)), (2, .ref (ad 20)), (3, .ref oa), (4, .int (nI i))]) (st' := [.int ((nI i) + 1), .ref b0, .ref (sd 0)]) rfl (fun ls hl => ?_)
      refine x_sld C hX hbl hbA hH.2.2 hL (ix_1 i) (by omega) d_Law_law_342 ?_
      refine x_sx C b_Law_law_343_348 hl (L' := [(0, .ref b0), (1, .ref (sd 0)), (2, .ref (ad 20)), (3, .ref oa), (4, .int (nI i))]) (st' := [.int ((nI i) + 2), .ref b0, .int (xs (i + 1)), .ref (sd 0)]) rfl (fun ls hl => ?_)
      refine x_sld C hX hbl hbA hH.2.2 hL (ix_2 i) (by omega) d_Law_law_348 ?_
      refine x_sx C b_Law_law_349_350 hl (L' := [(0, .ref b0), (1, .ref (sd 0)), (2, .ref (ad 20)), (3, .ref oa), (4, .int (nI i))]) (st' := [.ref oa, .int (xs (i + 2)), .int (xs (i + 1)), .ref (sd 0)]) rfl (fun ls hl => ?_)
      refine x_q1 (x_cSW C (c_Law_pole_2 l G A rb n md rd sd ms fl mn (va_up sc 0 2) ar b (lwW G oa f ad sc ar) (xs (i + 1)) (xs (i + 2)) hfl hn hrb hv (n_20 h6 h20) oa f hrbE lwW_o) t_499 t_0 t_497 t_498 hd_Law_pole blind_Pre (pre_mt C hH hA trivial) (As := [.ref (sd 0), .int (xs (i + 1)), .int (xs (i + 2)), .ref oa]) (rest := []) rfl hl.1 rfl rfl rfl ⟨(Nat.le_of_ble_eq_true rfl), (Nat.le_of_ble_eq_true rfl)⟩ (Nat.le_of_ble_eq_true rfl) ⟨by show cells + 1 ≤ 601024; omega, by show slots + 6 ≤ 7293034; omega⟩ d_Law_law_350) hH.2.2 (fun x H locs hx hH hz => ?_)
      rw [to_mW hn (by omega)] at hH
      refine x_sx C b_Law_law_353_361 hl (L' := [(5, .int 2), (0, .ref b0), (1, .ref (sd 0)), (2, .ref (ad 20)), (3, .ref oa), (4, .int (nI i))]) (st' := [.int ((nI i) + 1), .ref b0, .ref (ad 20)]) rfl (fun ls hl => ?_)
      refine x_sld C hX hbl hbA hH.2.2 hL (ix_1 i) (by omega) d_Law_law_361 ?_
      refine x_sx C b_Law_law_362_367 hl (L' := [(5, .int 2), (0, .ref b0), (1, .ref (sd 0)), (2, .ref (ad 20)), (3, .ref oa), (4, .int (nI i))]) (st' := [.int ((nI i) + 2), .ref b0, .int (xs (i + 1)), .ref (ad 20)]) rfl (fun ls hl => ?_)
      refine x_sld C hX hbl hbA hH.2.2 hL (ix_2 i) (by omega) d_Law_law_367 ?_
      refine x_mw1 (x_cV C hH.1 mW_o rfl (c_Mo_pole_2 l G A ad (cW G rb n md rd sd ms fl mn (va_up sc 0 2) ar b (oW G oa f)) sc ar (xs (i + 1)) (xs (i + 2)) hv (n_20 h6 h20)) t_799 t_14 t_796 t_797 t_798 hd_Mo_pole blind_Pre (pre_mt C hH hA trivial) (As := [.int (xs (i + 1)), .int (xs (i + 2))]) (rest := []) rfl hl.1 rfl rfl rfl ⟨Nat.le_of_ble_eq_true rfl, Nat.le_of_ble_eq_true rfl⟩ (Nat.le_of_ble_eq_true rfl) ⟨by show cells + 1 + 0 ≤ 601024; omega, by show slots + 6 + 0 ≤ 7293034; omega⟩ d_Law_law_368) hH.2.2 (fun H locs hH => ?_)
      refine x_sx C b_Law_law_371_374 hl (L' := [(6, .int 0), (5, .int 2), (0, .ref b0), (1, .ref (sd 0)), (2, .ref (ad 20)), (3, .ref oa), (4, .int (nI i))]) (st' := [.ref (ad 20)]) rfl (fun ls hl => ?_)
      refine x_ro (x_cV C hH.1 mW_o rfl (c_Mo_thrown l G ad (cW G rb n md rd sd ms fl mn (va_up sc 0 2) ar b (oW G oa f)) (va_up sc 0 2) ar) t_746 t_14 t_743 t_744 t_745 hd_Mo_thrown blind_Pro (pre_ro C hH.1 hH.2.2) (As := []) (rest := []) rfl hl.1 rfl rfl rfl ⟨Nat.le_of_ble_eq_true rfl, Nat.le_of_ble_eq_true rfl⟩ (Nat.le_of_ble_eq_true rfl) ⟨by show cells + 1 + 0 ≤ 601024; omega, by show slots + 6 + 0 ≤ 7293034; omega⟩ d_Law_law_374) ?_
      refine x_sx C b_Law_law_377_379 hl (L' := [(6, .int 0), (5, .int 2), (0, .ref b0), (1, .ref (sd 0)), (2, .ref (ad 20)), (3, .ref oa), (4, .int (nI i))]) (st' := [.int 2, .int ((va_up sc 0 2) 0)]) rfl (fun ls hl => ?_)
      refine lv_icmp_eq (tgt := 384) C.1 C.2.1 d_Law_law_379 (by decide) (fun _ => ?_) (fun h => absurd (up_s _ _ _) h)
      refine x_sx C b_Law_law_384_386 hl (L' := [(6, .int 0), (5, .int 2), (0, .ref b0), (1, .ref (sd 0)), (2, .ref (ad 20)), (3, .ref oa), (4, .int (nI i))]) (st' := [.int 2]) rfl (fun ls hl => ?_)
      refine lv_if_ne (tgt := 401) C.1 C.2.1 d_Law_law_386 (by decide) (fun _ => ?_) (fun h => absurd h (by decide))
      refine x_goto (tgt := 1069) C d_Law_law_401 (by decide) ?_
      exact kk H locs _ _ ls ⟨rb, n, md, rd, sd, ms, fl, mn, (va_up sc 0 2), ar, b, np, f, (hR.z _), rfl, by rw [to_mW hn (by omega)]; exact hH⟩ (by omega) (by omega) (lv_sub hl [2, 3, 4, 5, 6] rfl)
    · have hnp2 : np < 20 := by omega
      refine x_sx C b_Law_law_336_342 hl (L' := [(0, .ref b0), (1, .ref (sd 0)), (2, .ref (ad 20)), (3, .ref oa), (4, .int (nI i))]) (st' := [.int ((nI i) + 1), .ref b0, .ref (sd 0)]) rfl (fun ls hl => ?_)
      refine x_sld C hX hbl hbA hH.2.2 hL (ix_1 i) (by omega) d_Law_law_342 ?_
      refine x_sx C b_Law_law_343_348 hl (L' := [(0, .ref b0), (1, .ref (sd 0)), (2, .ref (ad 20)), (3, .ref oa), (4, .int (nI i))]) (st' := [.int ((nI i) + 2), .ref b0, .int (xs (i + 1)), .ref (sd 0)]) rfl (fun ls hl => ?_)
      refine x_sld C hX hbl hbA hH.2.2 hL (ix_2 i) (by omega) d_Law_law_348 ?_
      refine x_sx C b_Law_law_349_350 hl (L' := [(0, .ref b0), (1, .ref (sd 0)), (2, .ref (ad 20)), (3, .ref oa), (4, .int (nI i))]) (st' := [.ref oa, .int (xs (i + 2)), .int (xs (i + 1)), .ref (sd 0)]) rfl (fun ls hl => ?_)
      refine x_q1 (x_cSW C (c_Law_pole l G A rb n md rd sd ms fl mn sc ar b (lwW G oa f ad sc ar) np (xs (i + 1)) (xs (i + 2)) hn hrb hv h6 hnp2 oa f hrbE lwW_o) t_499 t_0 t_497 t_498 hd_Law_pole blind_Pre (pre_mt C hH hA trivial) (As := [.ref (sd 0), .int (xs (i + 1)), .int (xs (i + 2)), .ref oa]) (rest := []) rfl hl.1 rfl rfl rfl ⟨(Nat.le_of_ble_eq_true rfl), (Nat.le_of_ble_eq_true rfl)⟩ (Nat.le_of_ble_eq_true rfl) ⟨by show cells + 0 ≤ 601024; omega, by show slots + 0 ≤ 7293034; omega⟩ d_Law_law_350) hH.2.2 (fun x H locs hx hH hz => ?_)
      rw [lwW_up] at hH
      rw [to_mW hn (by omega)] at hH
      refine x_sx C b_Law_law_353_361 hl (L' := [(5, .int 0), (0, .ref b0), (1, .ref (sd 0)), (2, .ref (ad 20)), (3, .ref oa), (4, .int (nI i))]) (st' := [.int ((nI i) + 1), .ref b0, .ref (ad 20)]) rfl (fun ls hl => ?_)
      refine x_sld C hX hbl hbA hH.2.2 hL (ix_1 i) (by omega) d_Law_law_361 ?_
      refine x_sx C b_Law_law_362_367 hl (L' := [(5, .int 0), (0, .ref b0), (1, .ref (sd 0)), (2, .ref (ad 20)), (3, .ref oa), (4, .int (nI i))]) (st' := [.int ((nI i) + 2), .ref b0, .int (xs (i + 1)), .ref (ad 20)]) rfl (fun ls hl => ?_)
      refine x_sld C hX hbl hbA hH.2.2 hL (ix_2 i) (by omega) d_Law_law_367 ?_
      refine x_mw1 (x_cV C hH.1 mW_o rfl (c_Mo_pole l G A ad (cW G rb n md rd sd ms fl mn (fPoleS sc) (fPoleA ar np (xs (i + 1)) (xs (i + 2))) b (oW G oa (vp_updL f 0 (nI np).toInt64))) sc ar (xs (i + 1)) (xs (i + 2)) np hv h6 hnp2) t_799 t_14 t_796 t_797 t_798 hd_Mo_pole blind_Pre (pre_mt C hH hA trivial) (As := [.int (xs (i + 1)), .int (xs (i + 2))]) (rest := []) rfl hl.1 rfl rfl rfl ⟨Nat.le_of_ble_eq_true rfl, Nat.le_of_ble_eq_true rfl⟩ (Nat.le_of_ble_eq_true rfl) ⟨by show cells + 0 + 0 ≤ 601024; omega, by show slots + 0 + 0 ≤ 7293034; omega⟩ d_Law_law_368) hH.2.2 (fun H locs hH => ?_)
      refine x_sx C b_Law_law_371_374 hl (L' := [(6, .int (nI np)), (5, .int 0), (0, .ref b0), (1, .ref (sd 0)), (2, .ref (ad 20)), (3, .ref oa), (4, .int (nI i))]) (st' := [.ref (ad 20)]) rfl (fun ls hl => ?_)
      refine x_ro (x_cV C hH.1 mW_o rfl (c_Mo_thrown l G ad (cW G rb n md rd sd ms fl mn (fPoleS sc) (fPoleA ar np (xs (i + 1)) (xs (i + 2))) b (oW G oa (vp_updL f 0 (nI np).toInt64))) (fPoleS sc) (fPoleA ar np (xs (i + 1)) (xs (i + 2)))) t_746 t_14 t_743 t_744 t_745 hd_Mo_thrown blind_Pro (pre_ro C hH.1 hH.2.2) (As := []) (rest := []) rfl hl.1 rfl rfl rfl ⟨Nat.le_of_ble_eq_true rfl, Nat.le_of_ble_eq_true rfl⟩ (Nat.le_of_ble_eq_true rfl) ⟨by show cells + 0 + 0 ≤ 601024; omega, by show slots + 0 + 0 ≤ 7293034; omega⟩ d_Law_law_374) ?_
      refine x_sx C b_Law_law_377_379 hl (L' := [(6, .int (nI np)), (5, .int 0), (0, .ref b0), (1, .ref (sd 0)), (2, .ref (ad 20)), (3, .ref oa), (4, .int (nI i))]) (st' := [.int 0, .int ((fPoleS sc) 0)]) rfl (fun ls hl => ?_)
      refine lv_icmp_eq (tgt := 384) C.1 C.2.1 d_Law_law_379 (by decide) (fun _ => ?_) (fun h => absurd z_pole h)
      refine x_sx C b_Law_law_384_386 hl (L' := [(6, .int (nI np)), (5, .int 0), (0, .ref b0), (1, .ref (sd 0)), (2, .ref (ad 20)), (3, .ref oa), (4, .int (nI i))]) (st' := [.int 0]) rfl (fun ls hl => ?_)
      refine lv_if_ne (tgt := 401) C.1 C.2.1 d_Law_law_386 (by decide) (fun h => absurd (by decide) h) (fun _ => ?_)
      refine x_sx C b_Law_law_389_391 hl (L' := [(6, .int (nI np)), (5, .int 0), (0, .ref b0), (1, .ref (sd 0)), (2, .ref (ad 20)), (3, .ref oa), (4, .int (nI i))]) (st' := [.int 0, .ref oa]) rfl (fun ls hl => ?_)
      refine x_lld C hH.1 500 (mo_o hn (by omega)) (j := 0) rfl (by decide) (by decide) d_Law_law_391 ?_
      refine x_sx C b_Law_law_392_396 hl (L' := [(6, .int (nI np)), (5, .int 0), (0, .ref b0), (1, .ref (sd 0)), (2, .ref (ad 20)), (3, .ref oa), (4, .int (nI i))]) (st' := [.int (lg_cmp ((nI np).toInt64) ((nI np).toInt64))]) rfl (fun ls hl => ?_)
      refine lv_if_eq (tgt := 401) C.1 C.2.1 d_Law_law_396 (by decide) (fun _ => ?_) (fun h => absurd ((lg_cmp_eq _ _).mpr rfl) h)
      refine x_goto (tgt := 1069) C d_Law_law_401 (by decide) ?_
      exact kk H locs _ _ ls ⟨rb, n, md, rd, sd, ms, fl, mn, (fPoleS sc), (fPoleA ar np (xs (i + 1)) (xs (i + 2))), b, (np + 1), (vp_updL f 0 (nI np).toInt64), (hR.pole hnp2), rfl, by rw [to_mW hn (by omega)]; exact hH⟩ (by omega) (by omega) (lv_sub hl [2, 3, 4, 5, 6] rfl)
  · rw [cW_0 (v := 1)] at hH
    refine x_sx C b_Law_law_336_342 hl (L' := [(0, .ref b0), (1, .ref (sd 0)), (2, .ref (ad 20)), (3, .ref oa), (4, .int (nI i))]) (st' := [.int ((nI i) + 1), .ref b0, .ref (sd 0)]) rfl (fun ls hl => ?_)
    refine x_sld C hX hbl hbA hH.2.2 hL (ix_1 i) (by omega) d_Law_law_342 ?_
    refine x_sx C b_Law_law_343_348 hl (L' := [(0, .ref b0), (1, .ref (sd 0)), (2, .ref (ad 20)), (3, .ref oa), (4, .int (nI i))]) (st' := [.int ((nI i) + 2), .ref b0, .int (xs (i + 1)), .ref (sd 0)]) rfl (fun ls hl => ?_)
    refine x_sld C hX hbl hbA hH.2.2 hL (ix_2 i) (by omega) d_Law_law_348 ?_
    refine x_sx C b_Law_law_349_350 hl (L' := [(0, .ref b0), (1, .ref (sd 0)), (2, .ref (ad 20)), (3, .ref oa), (4, .int (nI i))]) (st' := [.ref oa, .int (xs (i + 2)), .int (xs (i + 1)), .ref (sd 0)]) rfl (fun ls hl => ?_)
    refine x_q1 (x_cSW C (c_Law_pole_1 l G A rb n md rd sd ms fl mn (va_up sc 0 1) ar b (lwW G oa f ad sc ar) (xs (i + 1)) (xs (i + 2)) hfl hn hrb hv oa f hrbE lwW_o) t_499 t_0 t_497 t_498 hd_Law_pole blind_Pre (pre_mt C hH hA trivial) (As := [.ref (sd 0), .int (xs (i + 1)), .int (xs (i + 2)), .ref oa]) (rest := []) rfl hl.1 rfl rfl rfl ⟨(Nat.le_of_ble_eq_true rfl), (Nat.le_of_ble_eq_true rfl)⟩ (Nat.le_of_ble_eq_true rfl) ⟨by show cells + 1 ≤ 601024; omega, by show slots + 6 ≤ 7293034; omega⟩ d_Law_law_350) hH.2.2 (fun x H locs hx hH hz => ?_)
    rw [to_mW hn (by omega)] at hH
    refine x_sx C b_Law_law_353_361 hl (L' := [(5, .int 1), (0, .ref b0), (1, .ref (sd 0)), (2, .ref (ad 20)), (3, .ref oa), (4, .int (nI i))]) (st' := [.int ((nI i) + 1), .ref b0, .ref (ad 20)]) rfl (fun ls hl => ?_)
    refine x_sld C hX hbl hbA hH.2.2 hL (ix_1 i) (by omega) d_Law_law_361 ?_
    refine x_sx C b_Law_law_362_367 hl (L' := [(5, .int 1), (0, .ref b0), (1, .ref (sd 0)), (2, .ref (ad 20)), (3, .ref oa), (4, .int (nI i))]) (st' := [.int ((nI i) + 2), .ref b0, .int (xs (i + 1)), .ref (ad 20)]) rfl (fun ls hl => ?_)
    refine x_sld C hX hbl hbA hH.2.2 hL (ix_2 i) (by omega) d_Law_law_367 ?_
    refine x_mw1 (x_cV C hH.1 mW_o rfl (c_Mo_pole_1 l G A ad (cW G rb n md rd sd ms fl mn (va_up sc 0 1) ar b (oW G oa f)) sc ar (xs (i + 1)) (xs (i + 2)) hv) t_799 t_14 t_796 t_797 t_798 hd_Mo_pole blind_Pre (pre_mt C hH hA trivial) (As := [.int (xs (i + 1)), .int (xs (i + 2))]) (rest := []) rfl hl.1 rfl rfl rfl ⟨Nat.le_of_ble_eq_true rfl, Nat.le_of_ble_eq_true rfl⟩ (Nat.le_of_ble_eq_true rfl) ⟨by show cells + 1 + 0 ≤ 601024; omega, by show slots + 6 + 0 ≤ 7293034; omega⟩ d_Law_law_368) hH.2.2 (fun H locs hH => ?_)
    refine x_sx C b_Law_law_371_374 hl (L' := [(6, .int 0), (5, .int 1), (0, .ref b0), (1, .ref (sd 0)), (2, .ref (ad 20)), (3, .ref oa), (4, .int (nI i))]) (st' := [.ref (ad 20)]) rfl (fun ls hl => ?_)
    refine x_ro (x_cV C hH.1 mW_o rfl (c_Mo_thrown l G ad (cW G rb n md rd sd ms fl mn (va_up sc 0 1) ar b (oW G oa f)) (va_up sc 0 1) ar) t_746 t_14 t_743 t_744 t_745 hd_Mo_thrown blind_Pro (pre_ro C hH.1 hH.2.2) (As := []) (rest := []) rfl hl.1 rfl rfl rfl ⟨Nat.le_of_ble_eq_true rfl, Nat.le_of_ble_eq_true rfl⟩ (Nat.le_of_ble_eq_true rfl) ⟨by show cells + 1 + 0 ≤ 601024; omega, by show slots + 6 + 0 ≤ 7293034; omega⟩ d_Law_law_374) ?_
    refine x_sx C b_Law_law_377_379 hl (L' := [(6, .int 0), (5, .int 1), (0, .ref b0), (1, .ref (sd 0)), (2, .ref (ad 20)), (3, .ref oa), (4, .int (nI i))]) (st' := [.int 1, .int ((va_up sc 0 1) 0)]) rfl (fun ls hl => ?_)
    refine lv_icmp_eq (tgt := 384) C.1 C.2.1 d_Law_law_379 (by decide) (fun _ => ?_) (fun h => absurd (up_s _ _ _) h)
    refine x_sx C b_Law_law_384_386 hl (L' := [(6, .int 0), (5, .int 1), (0, .ref b0), (1, .ref (sd 0)), (2, .ref (ad 20)), (3, .ref oa), (4, .int (nI i))]) (st' := [.int 1]) rfl (fun ls hl => ?_)
    refine lv_if_ne (tgt := 401) C.1 C.2.1 d_Law_law_386 (by decide) (fun _ => ?_) (fun h => absurd h (by decide))
    refine x_goto (tgt := 1069) C d_Law_law_401 (by decide) ?_
    exact kk H locs _ _ ls ⟨rb, n, md, rd, sd, ms, fl, mn, (va_up sc 0 1), ar, b, np, f, (hR.z _), rfl, by rw [to_mW hn (by omega)]; exact hH⟩ (by omega) (by omega) (lv_sub hl [2, 3, 4, 5, 6] rfl)
theorem b_Law_law_404_410 : decs code [(.aload_n 1, 1), (.aload_n 0, 1), (.iload 4, 2), (.iconst 1, 1), (.iadd, 1)] 404 410 = true := by decide +kernel
theorem d_Law_law_410 : decode code 410 = .ok (.iaload, 1) := by decide +kernel
theorem b_Law_law_411_416 : decs code [(.aload_n 0, 1), (.iload 4, 2), (.iconst 2, 1), (.iadd, 1)] 411 416 = true := by decide +kernel
theorem d_Law_law_416 : decode code 416 = .ok (.iaload, 1) := by decide +kernel
theorem b_Law_law_417_422 : decs code [(.aload_n 0, 1), (.iload 4, 2), (.iconst 3, 1), (.iadd, 1)] 417 422 = true := by decide +kernel
theorem d_Law_law_422 : decode code 422 = .ok (.iaload, 1) := by decide +kernel
theorem d_Law_law_423 : decode code 423 = .ok (.ifCond .eq 7, 3) := by decide +kernel
theorem b_Law_law_430_432 : decs code [(.iconst 0, 1), (.aload_n 3, 1)] 430 432 = true := by decide +kernel
theorem d_Law_law_432 : decode code 432 = .ok (.invokestatic 86, 3) := by decide +kernel
theorem b_Law_law_435_443 : decs code [(.istore 5, 2), (.aload_n 2, 1), (.aload_n 0, 1), (.iload 4, 2), (.iconst 1, 1), (.iadd, 1)] 435 443 = true := by decide +kernel
theorem d_Law_law_443 : decode code 443 = .ok (.iaload, 1) := by decide +kernel
theorem b_Law_law_444_449 : decs code [(.aload_n 0, 1), (.iload 4, 2), (.iconst 2, 1), (.iadd, 1)] 444 449 = true := by decide +kernel
theorem d_Law_law_449 : decode code 449 = .ok (.iaload, 1) := by decide +kernel
theorem b_Law_law_450_455 : decs code [(.aload_n 0, 1), (.iload 4, 2), (.iconst 3, 1), (.iadd, 1)] 450 455 = true := by decide +kernel
theorem d_Law_law_455 : decode code 455 = .ok (.iaload, 1) := by decide +kernel
theorem d_Law_law_456 : decode code 456 = .ok (.ifCond .eq 7, 3) := by decide +kernel
theorem b_Law_law_463_464 : decs code [(.iconst 0, 1)] 463 464 = true := by decide +kernel
theorem d_Law_law_464 : decode code 464 = .ok (.invokevirtual 89, 3) := by decide +kernel
theorem b_Law_law_467_470 : decs code [(.istore 6, 2), (.aload_n 2, 1)] 467 470 = true := by decide +kernel
theorem d_Law_law_470 : decode code 470 = .ok (.invokevirtual 71, 3) := by decide +kernel
theorem b_Law_law_473_475 : decs code [(.iload 5, 2)] 473 475 = true := by decide +kernel
theorem d_Law_law_475 : decode code 475 = .ok (.if_icmp .eq 5, 3) := by decide +kernel
theorem b_Law_law_480_482 : decs code [(.iload 5, 2)] 480 482 = true := by decide +kernel
theorem d_Law_law_482 : decode code 482 = .ok (.ifCond .ne 15, 3) := by decide +kernel
theorem d_Law_law_497 : decode code 497 = .ok (.goto 572, 3) := by decide +kernel
theorem b_Law_law_485_487 : decs code [(.aload_n 3, 1), (.iconst 0, 1)] 485 487 = true := by decide +kernel
theorem d_Law_law_487 : decode code 487 = .ok (.laload, 1) := by decide +kernel
theorem b_Law_law_488_492 : decs code [(.iload 6, 2), (.i2l, 1), (.lcmp, 1)] 488 492 = true := by decide +kernel
theorem d_Law_law_492 : decode code 492 = .ok (.ifCond .eq 5, 3) := by decide +kernel
theorem b_Law_law_426_427 : decs code [(.iconst 1, 1)] 426 427 = true := by decide +kernel
theorem d_Law_law_427 : decode code 427 = .ok (.goto 4, 3) := by decide +kernel
theorem b_Law_law_431_432 : decs code [(.aload_n 3, 1)] 431 432 = true := by decide +kernel
theorem b_Law_law_459_460 : decs code [(.iconst 1, 1)] 459 460 = true := by decide +kernel
theorem d_Law_law_460 : decode code 460 = .ok (.goto 4, 3) := by decide +kernel
set_option maxRecDepth 100000 in
set_option maxHeartbeats 4000000 in
theorem lo_go {p : Program} {l : Launch} {e : Env} {s : State} {m : MethodId} {below : List Frame} {meth : Method} {c : Code} {G : GG} {A : Nat → Prop} {b0 L : Nat} {xs : Nat → Int32} {H : Heap} {locs : List Loc} {cells slots : Nat} {Q : State → Prop} {ls : Array Slot} {oa sa : Nat} {ad : Nat → Nat} {i : Nat} (C : Cx p s m #[.ref b0] meth c code 7 "SweptPathsLaw" G A) (hfl : l.flags = pinnedFlags ++ [noTraceFlag]) (hA : ∀ q, s.heap.size ≤ q → A q) (hX : va_X b0 L xs s s.heap) (hbl : b0 < s.heap.size) (hbA : ¬ A b0) (hL : L ≤ 384) (hi : i + 6 ≤ L) (hI : LI G A s oa ad sa H locs) (hce : cells ≤ 100000) (hsl : slots ≤ 1000000) (hl : lv_has ls 7 [(0, .ref b0), (1, .ref sa), (2, .ref (ad 20)), (3, .ref oa), (4, .int (nI i))]) (kk : ∀ (H : Heap) (locs : List Loc) (cells2 slots2 : Nat) (ls : Array Slot), LI G A s oa ad sa H locs → cells2 ≤ cells + 80 → slots2 ≤ slots + 2224 → lv_has ls 7 [(0, .ref b0), (1, .ref sa), (2, .ref (ad 20)), (3, .ref oa), (4, .int (nI i))] → W p l e room_1 s m #[.ref b0] below meth c H locs cells2 slots2 Q (F0 m 1069 ls [])) : W p l e room_1 s m #[.ref b0] below meth c H locs cells slots Q (F0 m 404 ls []) := by
  obtain ⟨rb, n, md, rd, sd, ms, fl, mn, sc, ar, b, np, f, hR, rfl, hH⟩ := hI
  have hn := hR.n3
  have hrbE := hR.1
  have h1 : sc 1 = nI n := hR.2.1.1.1
  have h6 : sc 6 = nI np := hR.2.1.1.2.2.1
  have hnp : np ≤ 20 := hR.2.1.1.2.2.2.1
  have hrb : 100 ≤ rb := by omega
  have hrb2 : rb ≤ 200 := by omega
  have hz0 : Z01 (ar 17) := hR.2.1.2.1
  by_cases hb : (xs (i + 3)) = 0
  · by_cases hv : p_in (xs (i + 1)) (-3) 3 = 1 ∧ p_in (xs (i + 2)) 1 200 = 1
    · by_cases h0 : n = 0
      · rw [cW_0 (v := 2)] at hH
        refine x_sx C b_Law_law_404_410 hl (L' := [(0, .ref b0), (1, .ref (sd 0)), (2, .ref (ad 20)), (3, .ref oa), (4, .int (nI i))]) (st' := [.int ((nI i) + 1), .ref b0, .ref (sd 0)]) rfl (fun ls hl => ?_)
        refine x_sld C hX hbl hbA hH.2.2 hL (ix_1 i) (by omega) d_Law_law_410 ?_
        refine x_sx C b_Law_law_411_416 hl (L' := [(0, .ref b0), (1, .ref (sd 0)), (2, .ref (ad 20)), (3, .ref oa), (4, .int (nI i))]) (st' := [.int ((nI i) + 2), .ref b0, .int (xs (i + 1)), .ref (sd 0)]) rfl (fun ls hl => ?_)
        refine x_sld C hX hbl hbA hH.2.2 hL (ix_2 i) (by omega) d_Law_law_416 ?_
        refine x_sx C b_Law_law_417_422 hl (L' := [(0, .ref b0), (1, .ref (sd 0)), (2, .ref (ad 20)), (3, .ref oa), (4, .int (nI i))]) (st' := [.int ((nI i) + 3), .ref b0, .int (xs (i + 2)), .int (xs (i + 1)), .ref (sd 0)]) rfl (fun ls hl => ?_)
        refine x_sld C hX hbl hbA hH.2.2 hL (ix_3 i) (by omega) d_Law_law_422 ?_
        refine lv_if_eq (tgt := 430) C.1 C.2.1 d_Law_law_423 (by decide) (fun _ => ?_) (fun h => absurd hb h)
        refine x_sx C b_Law_law_430_432 hl (L' := [(0, .ref b0), (1, .ref (sd 0)), (2, .ref (ad 20)), (3, .ref oa), (4, .int (nI i))]) (st' := [.ref oa, .int 0, .int (xs (i + 2)), .int (xs (i + 1)), .ref (sd 0)]) rfl (fun ls hl => ?_)
        refine x_q1 (x_cSW C (c_Law_go_2 l G A rb n md rd sd ms fl mn (va_up sc 0 2) ar b (lwW G oa f ad sc ar) (xs (i + 1)) (xs (i + 2)) 0 hfl hn hrb hv h0 oa f hrbE lwW_o) t_506 t_0 t_504 t_505 hd_Law_go blind_Pre (pre_mt C hH hA trivial) (As := [.ref (sd 0), .int (xs (i + 1)), .int (xs (i + 2)), .int 0, .ref oa]) (rest := []) rfl hl.1 rfl rfl rfl ⟨(Nat.le_of_ble_eq_true rfl), (Nat.le_of_ble_eq_true rfl)⟩ (Nat.le_of_ble_eq_true rfl) ⟨by show cells + 1 ≤ 601024; omega, by show slots + 6 ≤ 7293034; omega⟩ d_Law_law_432) hH.2.2 (fun x H locs hx hH hz => ?_)
        rw [to_mW hn (by omega)] at hH
        refine x_sx C b_Law_law_435_443 hl (L' := [(5, .int 2), (0, .ref b0), (1, .ref (sd 0)), (2, .ref (ad 20)), (3, .ref oa), (4, .int (nI i))]) (st' := [.int ((nI i) + 1), .ref b0, .ref (ad 20)]) rfl (fun ls hl => ?_)
        refine x_sld C hX hbl hbA hH.2.2 hL (ix_1 i) (by omega) d_Law_law_443 ?_
        refine x_sx C b_Law_law_444_449 hl (L' := [(5, .int 2), (0, .ref b0), (1, .ref (sd 0)), (2, .ref (ad 20)), (3, .ref oa), (4, .int (nI i))]) (st' := [.int ((nI i) + 2), .ref b0, .int (xs (i + 1)), .ref (ad 20)]) rfl (fun ls hl => ?_)
        refine x_sld C hX hbl hbA hH.2.2 hL (ix_2 i) (by omega) d_Law_law_449 ?_
        refine x_sx C b_Law_law_450_455 hl (L' := [(5, .int 2), (0, .ref b0), (1, .ref (sd 0)), (2, .ref (ad 20)), (3, .ref oa), (4, .int (nI i))]) (st' := [.int ((nI i) + 3), .ref b0, .int (xs (i + 2)), .int (xs (i + 1)), .ref (ad 20)]) rfl (fun ls hl => ?_)
        refine x_sld C hX hbl hbA hH.2.2 hL (ix_3 i) (by omega) d_Law_law_455 ?_
        refine lv_if_eq (tgt := 463) C.1 C.2.1 d_Law_law_456 (by decide) (fun _ => ?_) (fun h => absurd hb h)
        refine x_sx C b_Law_law_463_464 hl (L' := [(5, .int 2), (0, .ref b0), (1, .ref (sd 0)), (2, .ref (ad 20)), (3, .ref oa), (4, .int (nI i))]) (st' := [.int 0, .int (xs (i + 2)), .int (xs (i + 1)), .ref (ad 20)]) rfl (fun ls hl => ?_)
        refine x_mw1 (x_cV C hH.1 mW_o rfl (c_Mo_go_2 l G A ad (cW G rb n md rd sd ms fl mn (va_up sc 0 2) ar b (oW G oa f)) sc ar (xs (i + 1)) (xs (i + 2)) 0 hv (n_0 h1 h0)) t_803 t_14 t_800 t_801 t_802 hd_Mo_go blind_Pre (pre_mt C hH hA trivial) (As := [.int (xs (i + 1)), .int (xs (i + 2)), .int 0]) (rest := []) rfl hl.1 rfl rfl rfl ⟨Nat.le_of_ble_eq_true rfl, Nat.le_of_ble_eq_true rfl⟩ (Nat.le_of_ble_eq_true rfl) ⟨by show cells + 1 + 0 ≤ 601024; omega, by show slots + 6 + 0 ≤ 7293034; omega⟩ d_Law_law_464) hH.2.2 (fun H locs hH => ?_)
        refine x_sx C b_Law_law_467_470 hl (L' := [(6, .int 0), (5, .int 2), (0, .ref b0), (1, .ref (sd 0)), (2, .ref (ad 20)), (3, .ref oa), (4, .int (nI i))]) (st' := [.ref (ad 20)]) rfl (fun ls hl => ?_)
        refine x_ro (x_cV C hH.1 mW_o rfl (c_Mo_thrown l G ad (cW G rb n md rd sd ms fl mn (va_up sc 0 2) ar b (oW G oa f)) (va_up sc 0 2) ar) t_746 t_14 t_743 t_744 t_745 hd_Mo_thrown blind_Pro (pre_ro C hH.1 hH.2.2) (As := []) (rest := []) rfl hl.1 rfl rfl rfl ⟨Nat.le_of_ble_eq_true rfl, Nat.le_of_ble_eq_true rfl⟩ (Nat.le_of_ble_eq_true rfl) ⟨by show cells + 1 + 0 ≤ 601024; omega, by show slots + 6 + 0 ≤ 7293034; omega⟩ d_Law_law_470) ?_
        refine x_sx C b_Law_law_473_475 hl (L' := [(6, .int 0), (5, .int 2), (0, .ref b0), (1, .ref (sd 0)), (2, .ref (ad 20)), (3, .ref oa), (4, .int (nI i))]) (st' := [.int 2, .int ((va_up sc 0 2) 0)]) rfl (fun ls hl => ?_)
        refine lv_icmp_eq (tgt := 480) C.1 C.2.1 d_Law_law_475 (by decide) (fun _ => ?_) (fun h => absurd (up_s _ _ _) h)
        refine x_sx C b_Law_law_480_482 hl (L' := [(6, .int 0), (5, .int 2), (0, .ref b0), (1, .ref (sd 0)), (2, .ref (ad 20)), (3, .ref oa), (4, .int (nI i))]) (st' := [.int 2]) rfl (fun ls hl => ?_)
        refine lv_if_ne (tgt := 497) C.1 C.2.1 d_Law_law_482 (by decide) (fun _ => ?_) (fun h => absurd h (by decide))
        refine x_goto (tgt := 1069) C d_Law_law_497 (by decide) ?_
        exact kk H locs _ _ ls ⟨rb, n, md, rd, sd, ms, fl, mn, (va_up sc 0 2), ar, b, np, f, (hR.z _), rfl, by rw [to_mW hn (by omega)]; exact hH⟩ (by omega) (by omega) (lv_sub hl [2, 3, 4, 5, 6] rfl)
      · have hn0 : 0 < n := by omega
        obtain ⟨N, hN, eN⟩ := pos_ix hv.2
        rw [eN] at hv
        rw [cW_0 (v := 0)] at hH
        refine x_sx C b_Law_law_404_410 hl (L' := [(0, .ref b0), (1, .ref (sd 0)), (2, .ref (ad 20)), (3, .ref oa), (4, .int (nI i))]) (st' := [.int ((nI i) + 1), .ref b0, .ref (sd 0)]) rfl (fun ls hl => ?_)
        refine x_sld C hX hbl hbA hH.2.2 hL (ix_1 i) (by omega) d_Law_law_410 ?_
        refine x_sx C b_Law_law_411_416 hl (L' := [(0, .ref b0), (1, .ref (sd 0)), (2, .ref (ad 20)), (3, .ref oa), (4, .int (nI i))]) (st' := [.int ((nI i) + 2), .ref b0, .int (xs (i + 1)), .ref (sd 0)]) rfl (fun ls hl => ?_)
        refine x_sld C hX hbl hbA hH.2.2 hL (ix_2 i) (by omega) d_Law_law_416 ?_
        rw [eN]
        refine x_sx C b_Law_law_417_422 hl (L' := [(0, .ref b0), (1, .ref (sd 0)), (2, .ref (ad 20)), (3, .ref oa), (4, .int (nI i))]) (st' := [.int ((nI i) + 3), .ref b0, .int (nI N), .int (xs (i + 1)), .ref (sd 0)]) rfl (fun ls hl => ?_)
        refine x_sld C hX hbl hbA hH.2.2 hL (ix_3 i) (by omega) d_Law_law_422 ?_
        refine lv_if_eq (tgt := 430) C.1 C.2.1 d_Law_law_423 (by decide) (fun _ => ?_) (fun h => absurd hb h)
        refine x_sx C b_Law_law_430_432 hl (L' := [(0, .ref b0), (1, .ref (sd 0)), (2, .ref (ad 20)), (3, .ref oa), (4, .int (nI i))]) (st' := [.ref oa, .int 0, .int (nI N), .int (xs (i + 1)), .ref (sd 0)]) rfl (fun ls hl => ?_)
        refine x_q1 (x_cSW C (c_Law_go l G A rb n md rd sd ms fl mn (va_up sc 0 0) ar b (lwW G oa f ad sc ar) np N (xs (i + 1)) 0 (KK n np) hn hrb hn0 hN hv hR.2.2.2.2 (KK_c n np) (KK_0 hR.2.1 0) oa f hrbE lwW_o) t_506 t_0 t_504 t_505 hd_Law_go blind_Pre (pre_mt C hH hA trivial) (As := [.ref (sd 0), .int (xs (i + 1)), .int (nI N), .int 0, .ref oa]) (rest := []) rfl hl.1 rfl rfl rfl ⟨(Nat.le_of_ble_eq_true rfl), (Nat.le_of_ble_eq_true rfl)⟩ (Nat.le_of_ble_eq_true rfl) ⟨by show cells + 6 ≤ 601024; omega, by show slots + 256 ≤ 7293034; omega⟩ d_Law_law_432) hH.2.2 (fun x H locs hx hH hz => ?_)
        rw [lwW_up] at hH
        rw [to_mW hn (by omega)] at hH
        refine x_sx C b_Law_law_435_443 hl (L' := [(5, .int 0), (0, .ref b0), (1, .ref (sd 0)), (2, .ref (ad 20)), (3, .ref oa), (4, .int (nI i))]) (st' := [.int ((nI i) + 1), .ref b0, .ref (ad 20)]) rfl (fun ls hl => ?_)
        refine x_sld C hX hbl hbA hH.2.2 hL (ix_1 i) (by omega) d_Law_law_443 ?_
        refine x_sx C b_Law_law_444_449 hl (L' := [(5, .int 0), (0, .ref b0), (1, .ref (sd 0)), (2, .ref (ad 20)), (3, .ref oa), (4, .int (nI i))]) (st' := [.int ((nI i) + 2), .ref b0, .int (xs (i + 1)), .ref (ad 20)]) rfl (fun ls hl => ?_)
        refine x_sld C hX hbl hbA hH.2.2 hL (ix_2 i) (by omega) d_Law_law_449 ?_
        rw [eN]
        refine x_sx C b_Law_law_450_455 hl (L' := [(5, .int 0), (0, .ref b0), (1, .ref (sd 0)), (2, .ref (ad 20)), (3, .ref oa), (4, .int (nI i))]) (st' := [.int ((nI i) + 3), .ref b0, .int (nI N), .int (xs (i + 1)), .ref (ad 20)]) rfl (fun ls hl => ?_)
        refine x_sld C hX hbl hbA hH.2.2 hL (ix_3 i) (by omega) d_Law_law_455 ?_
        refine lv_if_eq (tgt := 463) C.1 C.2.1 d_Law_law_456 (by decide) (fun _ => ?_) (fun h => absurd hb h)
        refine x_sx C b_Law_law_463_464 hl (L' := [(5, .int 0), (0, .ref b0), (1, .ref (sd 0)), (2, .ref (ad 20)), (3, .ref oa), (4, .int (nI i))]) (st' := [.int 0, .int (nI N), .int (xs (i + 1)), .ref (ad 20)]) rfl (fun ls hl => ?_)
        refine x_mw1 (x_cV C hH.1 mW_o rfl (c_Mo_go l G A ad (cW G rb n md rd sd ms fl mn (goI ((va_up sc 0 0), ar) (xs (i + 1)) 0 N).1 (goI ((va_up sc 0 0), ar) (xs (i + 1)) 0 N).2 x (oW G oa (vp_updL f 0 ((goI ((va_up sc 0 0), ar) (xs (i + 1)) 0 N).1 7).toInt64))) sc ar (xs (i + 1)) 0 n np N (KK n np) hN hv (n_pos h1 hn hn0) (KK_p n np) (KK_0 hR.2.1 0)) t_803 t_14 t_800 t_801 t_802 hd_Mo_go blind_Pre (pre_mt C hH hA trivial) (As := [.int (xs (i + 1)), .int (nI N), .int 0]) (rest := []) rfl hl.1 rfl rfl rfl ⟨Nat.le_of_ble_eq_true rfl, Nat.le_of_ble_eq_true rfl⟩ (Nat.le_of_ble_eq_true rfl) ⟨by show cells + 6 + 0 ≤ 601024; omega, by show slots + 256 + 0 ≤ 7293034; omega⟩ d_Law_law_464) hH.2.2 (fun H locs hH => ?_)
        rw [fGo_nI hN] at hH
        rw [fGo_nI hN]
        refine x_sx C b_Law_law_467_470 hl (L' := [(6, .int ((goI (va_up sc 0 0, ar) (xs (i + 1)) 0 N).1 7)), (5, .int 0), (0, .ref b0), (1, .ref (sd 0)), (2, .ref (ad 20)), (3, .ref oa), (4, .int (nI i))]) (st' := [.ref (ad 20)]) rfl (fun ls hl => ?_)
        refine x_ro (x_cV C hH.1 mW_o rfl (c_Mo_thrown l G ad (cW G rb n md rd sd ms fl mn (goI ((va_up sc 0 0), ar) (xs (i + 1)) 0 N).1 (goI ((va_up sc 0 0), ar) (xs (i + 1)) 0 N).2 x (oW G oa (vp_updL f 0 ((goI ((va_up sc 0 0), ar) (xs (i + 1)) 0 N).1 7).toInt64))) (goI (va_up sc 0 0, ar) (xs (i + 1)) 0 N).1 (goI (va_up sc 0 0, ar) (xs (i + 1)) 0 N).2) t_746 t_14 t_743 t_744 t_745 hd_Mo_thrown blind_Pro (pre_ro C hH.1 hH.2.2) (As := []) (rest := []) rfl hl.1 rfl rfl rfl ⟨Nat.le_of_ble_eq_true rfl, Nat.le_of_ble_eq_true rfl⟩ (Nat.le_of_ble_eq_true rfl) ⟨by show cells + 6 + 0 ≤ 601024; omega, by show slots + 256 + 0 ≤ 7293034; omega⟩ d_Law_law_470) ?_
        refine x_sx C b_Law_law_473_475 hl (L' := [(6, .int ((goI (va_up sc 0 0, ar) (xs (i + 1)) 0 N).1 7)), (5, .int 0), (0, .ref b0), (1, .ref (sd 0)), (2, .ref (ad 20)), (3, .ref oa), (4, .int (nI i))]) (st' := [.int 0, .int ((goI (va_up sc 0 0, ar) (xs (i + 1)) 0 N).1 0)]) rfl (fun ls hl => ?_)
        refine lv_icmp_eq (tgt := 480) C.1 C.2.1 d_Law_law_475 (by decide) (fun _ => ?_) (fun h => absurd z_go h)
        refine x_sx C b_Law_law_480_482 hl (L' := [(6, .int ((goI (va_up sc 0 0, ar) (xs (i + 1)) 0 N).1 7)), (5, .int 0), (0, .ref b0), (1, .ref (sd 0)), (2, .ref (ad 20)), (3, .ref oa), (4, .int (nI i))]) (st' := [.int 0]) rfl (fun ls hl => ?_)
        refine lv_if_ne (tgt := 497) C.1 C.2.1 d_Law_law_482 (by decide) (fun h => absurd (by decide) h) (fun _ => ?_)
        refine x_sx C b_Law_law_485_487 hl (L' := [(6, .int ((goI (va_up sc 0 0, ar) (xs (i + 1)) 0 N).1 7)), (5, .int 0), (0, .ref b0), (1, .ref (sd 0)), (2, .ref (ad 20)), (3, .ref oa), (4, .int (nI i))]) (st' := [.int 0, .ref oa]) rfl (fun ls hl => ?_)
        refine x_lld C hH.1 500 (mo_o hn (by omega)) (j := 0) rfl (by decide) (by decide) d_Law_law_487 ?_
        refine x_sx C b_Law_law_488_492 hl (L' := [(6, .int ((goI (va_up sc 0 0, ar) (xs (i + 1)) 0 N).1 7)), (5, .int 0), (0, .ref b0), (1, .ref (sd 0)), (2, .ref (ad 20)), (3, .ref oa), (4, .int (nI i))]) (st' := [.int (lg_cmp (((goI ((va_up sc 0 0), ar) (xs (i + 1)) 0 N).1 7).toInt64) (((goI (va_up sc 0 0, ar) (xs (i + 1)) 0 N).1 7).toInt64))]) rfl (fun ls hl => ?_)
        refine lv_if_eq (tgt := 497) C.1 C.2.1 d_Law_law_492 (by decide) (fun _ => ?_) (fun h => absurd ((lg_cmp_eq _ _).mpr rfl) h)
        refine x_goto (tgt := 1069) C d_Law_law_497 (by decide) ?_
        exact kk H locs _ _ ls ⟨rb, n, md, rd, sd, ms, fl, mn, (goI (va_up sc 0 0, ar) (xs (i + 1)) 0 N).1, (goI (va_up sc 0 0, ar) (xs (i + 1)) 0 N).2, x, np, (vp_updL f 0 ((goI ((va_up sc 0 0), ar) (xs (i + 1)) 0 N).1 7).toInt64), ((hR.z 0).go hv.1 hx), rfl, by rw [to_mW hn (by omega)]; exact hH⟩ (by omega) (by omega) (lv_sub hl [2, 3, 4, 5, 6] rfl)
    · rw [cW_0 (v := 1)] at hH
      refine x_sx C b_Law_law_404_410 hl (L' := [(0, .ref b0), (1, .ref (sd 0)), (2, .ref (ad 20)), (3, .ref oa), (4, .int (nI i))]) (st' := [.int ((nI i) + 1), .ref b0, .ref (sd 0)]) rfl (fun ls hl => ?_)
      refine x_sld C hX hbl hbA hH.2.2 hL (ix_1 i) (by omega) d_Law_law_410 ?_
      refine x_sx C b_Law_law_411_416 hl (L' := [(0, .ref b0), (1, .ref (sd 0)), (2, .ref (ad 20)), (3, .ref oa), (4, .int (nI i))]) (st' := [.int ((nI i) + 2), .ref b0, .int (xs (i + 1)), .ref (sd 0)]) rfl (fun ls hl => ?_)
      refine x_sld C hX hbl hbA hH.2.2 hL (ix_2 i) (by omega) d_Law_law_416 ?_
      refine x_sx C b_Law_law_417_422 hl (L' := [(0, .ref b0), (1, .ref (sd 0)), (2, .ref (ad 20)), (3, .ref oa), (4, .int (nI i))]) (st' := [.int ((nI i) + 3), .ref b0, .int (xs (i + 2)), .int (xs (i + 1)), .ref (sd 0)]) rfl (fun ls hl => ?_)
      refine x_sld C hX hbl hbA hH.2.2 hL (ix_3 i) (by omega) d_Law_law_422 ?_
      refine lv_if_eq (tgt := 430) C.1 C.2.1 d_Law_law_423 (by decide) (fun _ => ?_) (fun h => absurd hb h)
      refine x_sx C b_Law_law_430_432 hl (L' := [(0, .ref b0), (1, .ref (sd 0)), (2, .ref (ad 20)), (3, .ref oa), (4, .int (nI i))]) (st' := [.ref oa, .int 0, .int (xs (i + 2)), .int (xs (i + 1)), .ref (sd 0)]) rfl (fun ls hl => ?_)
      refine x_q1 (x_cSW C (c_Law_go_1 l G A rb n md rd sd ms fl mn (va_up sc 0 1) ar b (lwW G oa f ad sc ar) (xs (i + 1)) (xs (i + 2)) 0 hfl hn hrb hv oa f hrbE lwW_o) t_506 t_0 t_504 t_505 hd_Law_go blind_Pre (pre_mt C hH hA trivial) (As := [.ref (sd 0), .int (xs (i + 1)), .int (xs (i + 2)), .int 0, .ref oa]) (rest := []) rfl hl.1 rfl rfl rfl ⟨(Nat.le_of_ble_eq_true rfl), (Nat.le_of_ble_eq_true rfl)⟩ (Nat.le_of_ble_eq_true rfl) ⟨by show cells + 1 ≤ 601024; omega, by show slots + 6 ≤ 7293034; omega⟩ d_Law_law_432) hH.2.2 (fun x H locs hx hH hz => ?_)
      rw [to_mW hn (by omega)] at hH
      refine x_sx C b_Law_law_435_443 hl (L' := [(5, .int 1), (0, .ref b0), (1, .ref (sd 0)), (2, .ref (ad 20)), (3, .ref oa), (4, .int (nI i))]) (st' := [.int ((nI i) + 1), .ref b0, .ref (ad 20)]) rfl (fun ls hl => ?_)
      refine x_sld C hX hbl hbA hH.2.2 hL (ix_1 i) (by omega) d_Law_law_443 ?_
      refine x_sx C b_Law_law_444_449 hl (L' := [(5, .int 1), (0, .ref b0), (1, .ref (sd 0)), (2, .ref (ad 20)), (3, .ref oa), (4, .int (nI i))]) (st' := [.int ((nI i) + 2), .ref b0, .int (xs (i + 1)), .ref (ad 20)]) rfl (fun ls hl => ?_)
      refine x_sld C hX hbl hbA hH.2.2 hL (ix_2 i) (by omega) d_Law_law_449 ?_
      refine x_sx C b_Law_law_450_455 hl (L' := [(5, .int 1), (0, .ref b0), (1, .ref (sd 0)), (2, .ref (ad 20)), (3, .ref oa), (4, .int (nI i))]) (st' := [.int ((nI i) + 3), .ref b0, .int (xs (i + 2)), .int (xs (i + 1)), .ref (ad 20)]) rfl (fun ls hl => ?_)
      refine x_sld C hX hbl hbA hH.2.2 hL (ix_3 i) (by omega) d_Law_law_455 ?_
      refine lv_if_eq (tgt := 463) C.1 C.2.1 d_Law_law_456 (by decide) (fun _ => ?_) (fun h => absurd hb h)
      refine x_sx C b_Law_law_463_464 hl (L' := [(5, .int 1), (0, .ref b0), (1, .ref (sd 0)), (2, .ref (ad 20)), (3, .ref oa), (4, .int (nI i))]) (st' := [.int 0, .int (xs (i + 2)), .int (xs (i + 1)), .ref (ad 20)]) rfl (fun ls hl => ?_)
      refine x_mw1 (x_cV C hH.1 mW_o rfl (c_Mo_go_1 l G A ad (cW G rb n md rd sd ms fl mn (va_up sc 0 1) ar b (oW G oa f)) sc ar (xs (i + 1)) (xs (i + 2)) 0 hv) t_803 t_14 t_800 t_801 t_802 hd_Mo_go blind_Pre (pre_mt C hH hA trivial) (As := [.int (xs (i + 1)), .int (xs (i + 2)), .int 0]) (rest := []) rfl hl.1 rfl rfl rfl ⟨Nat.le_of_ble_eq_true rfl, Nat.le_of_ble_eq_true rfl⟩ (Nat.le_of_ble_eq_true rfl) ⟨by show cells + 1 + 0 ≤ 601024; omega, by show slots + 6 + 0 ≤ 7293034; omega⟩ d_Law_law_464) hH.2.2 (fun H locs hH => ?_)
      refine x_sx C b_Law_law_467_470 hl (L' := [(6, .int 0), (5, .int 1), (0, .ref b0), (1, .ref (sd 0)), (2, .ref (ad 20)), (3, .ref oa), (4, .int (nI i))]) (st' := [.ref (ad 20)]) rfl (fun ls hl => ?_)
      refine x_ro (x_cV C hH.1 mW_o rfl (c_Mo_thrown l G ad (cW G rb n md rd sd ms fl mn (va_up sc 0 1) ar b (oW G oa f)) (va_up sc 0 1) ar) t_746 t_14 t_743 t_744 t_745 hd_Mo_thrown blind_Pro (pre_ro C hH.1 hH.2.2) (As := []) (rest := []) rfl hl.1 rfl rfl rfl ⟨Nat.le_of_ble_eq_true rfl, Nat.le_of_ble_eq_true rfl⟩ (Nat.le_of_ble_eq_true rfl) ⟨by show cells + 1 + 0 ≤ 601024; omega, by show slots + 6 + 0 ≤ 7293034; omega⟩ d_Law_law_470) ?_
      refine x_sx C b_Law_law_473_475 hl (L' := [(6, .int 0), (5, .int 1), (0, .ref b0), (1, .ref (sd 0)), (2, .ref (ad 20)), (3, .ref oa), (4, .int (nI i))]) (st' := [.int 1, .int ((va_up sc 0 1) 0)]) rfl (fun ls hl => ?_)
      refine lv_icmp_eq (tgt := 480) C.1 C.2.1 d_Law_law_475 (by decide) (fun _ => ?_) (fun h => absurd (up_s _ _ _) h)
      refine x_sx C b_Law_law_480_482 hl (L' := [(6, .int 0), (5, .int 1), (0, .ref b0), (1, .ref (sd 0)), (2, .ref (ad 20)), (3, .ref oa), (4, .int (nI i))]) (st' := [.int 1]) rfl (fun ls hl => ?_)
      refine lv_if_ne (tgt := 497) C.1 C.2.1 d_Law_law_482 (by decide) (fun _ => ?_) (fun h => absurd h (by decide))
      refine x_goto (tgt := 1069) C d_Law_law_497 (by decide) ?_
      exact kk H locs _ _ ls ⟨rb, n, md, rd, sd, ms, fl, mn, (va_up sc 0 1), ar, b, np, f, (hR.z _), rfl, by rw [to_mW hn (by omega)]; exact hH⟩ (by omega) (by omega) (lv_sub hl [2, 3, 4, 5, 6] rfl)
  · by_cases hv : p_in (xs (i + 1)) (-3) 3 = 1 ∧ p_in (xs (i + 2)) 1 200 = 1
    · by_cases h0 : n = 0
      · rw [cW_0 (v := 2)] at hH
        refine x_sx C b_Law_law_404_410 hl (L' := [(0, .ref b0), (1, .ref (sd 0)), (2, .ref (ad 20)), (3, .ref oa), (4, .int (nI i))]) (st' := [.int ((nI i) + 1), .ref b0, .ref (sd 0)]) rfl (fun ls hl => ?_)
        refine x_sld C hX hbl hbA hH.2.2 hL (ix_1 i) (by omega) d_Law_law_410 ?_
        refine x_sx C b_Law_law_411_416 hl (L' := [(0, .ref b0), (1, .ref (sd 0)), (2, .ref (ad 20)), (3, .ref oa), (4, .int (nI i))]) (st' := [.int ((nI i) + 2), .ref b0, .int (xs (i + 1)), .ref (sd 0)]) rfl (fun ls hl => ?_)
        refine x_sld C hX hbl hbA hH.2.2 hL (ix_2 i) (by omega) d_Law_law_416 ?_
        refine x_sx C b_Law_law_417_422 hl (L' := [(0, .ref b0), (1, .ref (sd 0)), (2, .ref (ad 20)), (3, .ref oa), (4, .int (nI i))]) (st' := [.int ((nI i) + 3), .ref b0, .int (xs (i + 2)), .int (xs (i + 1)), .ref (sd 0)]) rfl (fun ls hl => ?_)
        refine x_sld C hX hbl hbA hH.2.2 hL (ix_3 i) (by omega) d_Law_law_422 ?_
        refine lv_if_eq (tgt := 430) C.1 C.2.1 d_Law_law_423 (by decide) (fun h => absurd h hb) (fun _ => ?_)
        refine x_sx C b_Law_law_426_427 hl (L' := [(0, .ref b0), (1, .ref (sd 0)), (2, .ref (ad 20)), (3, .ref oa), (4, .int (nI i))]) (st' := [.int 1, .int (xs (i + 2)), .int (xs (i + 1)), .ref (sd 0)]) rfl (fun ls hl => ?_)
        refine x_goto (tgt := 431) C d_Law_law_427 (by decide) ?_
        refine x_sx C b_Law_law_431_432 hl (L' := [(0, .ref b0), (1, .ref (sd 0)), (2, .ref (ad 20)), (3, .ref oa), (4, .int (nI i))]) (st' := [.ref oa, .int 1, .int (xs (i + 2)), .int (xs (i + 1)), .ref (sd 0)]) rfl (fun ls hl => ?_)
        refine x_q1 (x_cSW C (c_Law_go_2 l G A rb n md rd sd ms fl mn (va_up sc 0 2) ar b (lwW G oa f ad sc ar) (xs (i + 1)) (xs (i + 2)) 1 hfl hn hrb hv h0 oa f hrbE lwW_o) t_506 t_0 t_504 t_505 hd_Law_go blind_Pre (pre_mt C hH hA trivial) (As := [.ref (sd 0), .int (xs (i + 1)), .int (xs (i + 2)), .int 1, .ref oa]) (rest := []) rfl hl.1 rfl rfl rfl ⟨(Nat.le_of_ble_eq_true rfl), (Nat.le_of_ble_eq_true rfl)⟩ (Nat.le_of_ble_eq_true rfl) ⟨by show cells + 1 ≤ 601024; omega, by show slots + 6 ≤ 7293034; omega⟩ d_Law_law_432) hH.2.2 (fun x H locs hx hH hz => ?_)
        rw [to_mW hn (by omega)] at hH
        refine x_sx C b_Law_law_435_443 hl (L' := [(5, .int 2), (0, .ref b0), (1, .ref (sd 0)), (2, .ref (ad 20)), (3, .ref oa), (4, .int (nI i))]) (st' := [.int ((nI i) + 1), .ref b0, .ref (ad 20)]) rfl (fun ls hl => ?_)
        refine x_sld C hX hbl hbA hH.2.2 hL (ix_1 i) (by omega) d_Law_law_443 ?_
        refine x_sx C b_Law_law_444_449 hl (L' := [(5, .int 2), (0, .ref b0), (1, .ref (sd 0)), (2, .ref (ad 20)), (3, .ref oa), (4, .int (nI i))]) (st' := [.int ((nI i) + 2), .ref b0, .int (xs (i + 1)), .ref (ad 20)]) rfl (fun ls hl => ?_)
        refine x_sld C hX hbl hbA hH.2.2 hL (ix_2 i) (by omega) d_Law_law_449 ?_
        refine x_sx C b_Law_law_450_455 hl (L' := [(5, .int 2), (0, .ref b0), (1, .ref (sd 0)), (2, .ref (ad 20)), (3, .ref oa), (4, .int (nI i))]) (st' := [.int ((nI i) + 3), .ref b0, .int (xs (i + 2)), .int (xs (i + 1)), .ref (ad 20)]) rfl (fun ls hl => ?_)
        refine x_sld C hX hbl hbA hH.2.2 hL (ix_3 i) (by omega) d_Law_law_455 ?_
        refine lv_if_eq (tgt := 463) C.1 C.2.1 d_Law_law_456 (by decide) (fun h => absurd h hb) (fun _ => ?_)
        refine x_sx C b_Law_law_459_460 hl (L' := [(5, .int 2), (0, .ref b0), (1, .ref (sd 0)), (2, .ref (ad 20)), (3, .ref oa), (4, .int (nI i))]) (st' := [.int 1, .int (xs (i + 2)), .int (xs (i + 1)), .ref (ad 20)]) rfl (fun ls hl => ?_)
        refine x_goto (tgt := 464) C d_Law_law_460 (by decide) ?_
        refine x_mw1 (x_cV C hH.1 mW_o rfl (c_Mo_go_2 l G A ad (cW G rb n md rd sd ms fl mn (va_up sc 0 2) ar b (oW G oa f)) sc ar (xs (i + 1)) (xs (i + 2)) 1 hv (n_0 h1 h0)) t_803 t_14 t_800 t_801 t_802 hd_Mo_go blind_Pre (pre_mt C hH hA trivial) (As := [.int (xs (i + 1)), .int (xs (i + 2)), .int 1]) (rest := []) rfl hl.1 rfl rfl rfl ⟨Nat.le_of_ble_eq_true rfl, Nat.le_of_ble_eq_true rfl⟩ (Nat.le_of_ble_eq_true rfl) ⟨by show cells + 1 + 0 ≤ 601024; omega, by show slots + 6 + 0 ≤ 7293034; omega⟩ d_Law_law_464) hH.2.2 (fun H locs hH => ?_)
        refine x_sx C b_Law_law_467_470 hl (L' := [(6, .int 0), (5, .int 2), (0, .ref b0), (1, .ref (sd 0)), (2, .ref (ad 20)), (3, .ref oa), (4, .int (nI i))]) (st' := [.ref (ad 20)]) rfl (fun ls hl => ?_)
        refine x_ro (x_cV C hH.1 mW_o rfl (c_Mo_thrown l G ad (cW G rb n md rd sd ms fl mn (va_up sc 0 2) ar b (oW G oa f)) (va_up sc 0 2) ar) t_746 t_14 t_743 t_744 t_745 hd_Mo_thrown blind_Pro (pre_ro C hH.1 hH.2.2) (As := []) (rest := []) rfl hl.1 rfl rfl rfl ⟨Nat.le_of_ble_eq_true rfl, Nat.le_of_ble_eq_true rfl⟩ (Nat.le_of_ble_eq_true rfl) ⟨by show cells + 1 + 0 ≤ 601024; omega, by show slots + 6 + 0 ≤ 7293034; omega⟩ d_Law_law_470) ?_
        refine x_sx C b_Law_law_473_475 hl (L' := [(6, .int 0), (5, .int 2), (0, .ref b0), (1, .ref (sd 0)), (2, .ref (ad 20)), (3, .ref oa), (4, .int (nI i))]) (st' := [.int 2, .int ((va_up sc 0 2) 0)]) rfl (fun ls hl => ?_)
        refine lv_icmp_eq (tgt := 480) C.1 C.2.1 d_Law_law_475 (by decide) (fun _ => ?_) (fun h => absurd (up_s _ _ _) h)
        refine x_sx C b_Law_law_480_482 hl (L' := [(6, .int 0), (5, .int 2), (0, .ref b0), (1, .ref (sd 0)), (2, .ref (ad 20)), (3, .ref oa), (4, .int (nI i))]) (st' := [.int 2]) rfl (fun ls hl => ?_)
        refine lv_if_ne (tgt := 497) C.1 C.2.1 d_Law_law_482 (by decide) (fun _ => ?_) (fun h => absurd h (by decide))
        refine x_goto (tgt := 1069) C d_Law_law_497 (by decide) ?_
        exact kk H locs _ _ ls ⟨rb, n, md, rd, sd, ms, fl, mn, (va_up sc 0 2), ar, b, np, f, (hR.z _), rfl, by rw [to_mW hn (by omega)]; exact hH⟩ (by omega) (by omega) (lv_sub hl [2, 3, 4, 5, 6] rfl)
      · have hn0 : 0 < n := by omega
        obtain ⟨N, hN, eN⟩ := pos_ix hv.2
        rw [eN] at hv
        rw [cW_0 (v := 0)] at hH
        refine x_sx C b_Law_law_404_410 hl (L' := [(0, .ref b0), (1, .ref (sd 0)), (2, .ref (ad 20)), (3, .ref oa), (4, .int (nI i))]) (st' := [.int ((nI i) + 1), .ref b0, .ref (sd 0)]) rfl (fun ls hl => ?_)
        refine x_sld C hX hbl hbA hH.2.2 hL (ix_1 i) (by omega) d_Law_law_410 ?_
        refine x_sx C b_Law_law_411_416 hl (L' := [(0, .ref b0), (1, .ref (sd 0)), (2, .ref (ad 20)), (3, .ref oa), (4, .int (nI i))]) (st' := [.int ((nI i) + 2), .ref b0, .int (xs (i + 1)), .ref (sd 0)]) rfl (fun ls hl => ?_)
        refine x_sld C hX hbl hbA hH.2.2 hL (ix_2 i) (by omega) d_Law_law_416 ?_
        rw [eN]
        refine x_sx C b_Law_law_417_422 hl (L' := [(0, .ref b0), (1, .ref (sd 0)), (2, .ref (ad 20)), (3, .ref oa), (4, .int (nI i))]) (st' := [.int ((nI i) + 3), .ref b0, .int (nI N), .int (xs (i + 1)), .ref (sd 0)]) rfl (fun ls hl => ?_)
        refine x_sld C hX hbl hbA hH.2.2 hL (ix_3 i) (by omega) d_Law_law_422 ?_
        refine lv_if_eq (tgt := 430) C.1 C.2.1 d_Law_law_423 (by decide) (fun h => absurd h hb) (fun _ => ?_)
        refine x_sx C b_Law_law_426_427 hl (L' := [(0, .ref b0), (1, .ref (sd 0)), (2, .ref (ad 20)), (3, .ref oa), (4, .int (nI i))]) (st' := [.int 1, .int (nI N), .int (xs (i + 1)), .ref (sd 0)]) rfl (fun ls hl => ?_)
        refine x_goto (tgt := 431) C d_Law_law_427 (by decide) ?_
        refine x_sx C b_Law_law_431_432 hl (L' := [(0, .ref b0), (1, .ref (sd 0)), (2, .ref (ad 20)), (3, .ref oa), (4, .int (nI i))]) (st' := [.ref oa, .int 1, .int (nI N), .int (xs (i + 1)), .ref (sd 0)]) rfl (fun ls hl => ?_)
        refine x_q1 (x_cSW C (c_Law_go l G A rb n md rd sd ms fl mn (va_up sc 0 0) ar b (lwW G oa f ad sc ar) np N (xs (i + 1)) 1 (KK n np) hn hrb hn0 hN hv hR.2.2.2.2 (KK_c n np) (KK_0 hR.2.1 0) oa f hrbE lwW_o) t_506 t_0 t_504 t_505 hd_Law_go blind_Pre (pre_mt C hH hA trivial) (As := [.ref (sd 0), .int (xs (i + 1)), .int (nI N), .int 1, .ref oa]) (rest := []) rfl hl.1 rfl rfl rfl ⟨(Nat.le_of_ble_eq_true rfl), (Nat.le_of_ble_eq_true rfl)⟩ (Nat.le_of_ble_eq_true rfl) ⟨by show cells + 6 ≤ 601024; omega, by show slots + 256 ≤ 7293034; omega⟩ d_Law_law_432) hH.2.2 (fun x H locs hx hH hz => ?_)
        rw [lwW_up] at hH
        rw [to_mW hn (by omega)] at hH
        refine x_sx C b_Law_law_435_443 hl (L' := [(5, .int 0), (0, .ref b0), (1, .ref (sd 0)), (2, .ref (ad 20)), (3, .ref oa), (4, .int (nI i))]) (st' := [.int ((nI i) + 1), .ref b0, .ref (ad 20)]) rfl (fun ls hl => ?_)
        refine x_sld C hX hbl hbA hH.2.2 hL (ix_1 i) (by omega) d_Law_law_443 ?_
        refine x_sx C b_Law_law_444_449 hl (L' := [(5, .int 0), (0, .ref b0), (1, .ref (sd 0)), (2, .ref (ad 20)), (3, .ref oa), (4, .int (nI i))]) (st' := [.int ((nI i) + 2), .ref b0, .int (xs (i + 1)), .ref (ad 20)]) rfl (fun ls hl => ?_)
        refine x_sld C hX hbl hbA hH.2.2 hL (ix_2 i) (by omega) d_Law_law_449 ?_
        rw [eN]
        refine x_sx C b_Law_law_450_455 hl (L' := [(5, .int 0), (0, .ref b0), (1, .ref (sd 0)), (2, .ref (ad 20)), (3, .ref oa), (4, .int (nI i))]) (st' := [.int ((nI i) + 3), .ref b0, .int (nI N), .int (xs (i + 1)), .ref (ad 20)]) rfl (fun ls hl => ?_)
        refine x_sld C hX hbl hbA hH.2.2 hL (ix_3 i) (by omega) d_Law_law_455 ?_
        refine lv_if_eq (tgt := 463) C.1 C.2.1 d_Law_law_456 (by decide) (fun h => absurd h hb) (fun _ => ?_)
        refine x_sx C b_Law_law_459_460 hl (L' := [(5, .int 0), (0, .ref b0), (1, .ref (sd 0)), (2, .ref (ad 20)), (3, .ref oa), (4, .int (nI i))]) (st' := [.int 1, .int (nI N), .int (xs (i + 1)), .ref (ad 20)]) rfl (fun ls hl => ?_)
        refine x_goto (tgt := 464) C d_Law_law_460 (by decide) ?_
        refine x_mw1 (x_cV C hH.1 mW_o rfl (c_Mo_go l G A ad (cW G rb n md rd sd ms fl mn (goI ((va_up sc 0 0), ar) (xs (i + 1)) 1 N).1 (goI ((va_up sc 0 0), ar) (xs (i + 1)) 1 N).2 x (oW G oa (vp_updL f 0 ((goI ((va_up sc 0 0), ar) (xs (i + 1)) 1 N).1 7).toInt64))) sc ar (xs (i + 1)) 1 n np N (KK n np) hN hv (n_pos h1 hn hn0) (KK_p n np) (KK_0 hR.2.1 0)) t_803 t_14 t_800 t_801 t_802 hd_Mo_go blind_Pre (pre_mt C hH hA trivial) (As := [.int (xs (i + 1)), .int (nI N), .int 1]) (rest := []) rfl hl.1 rfl rfl rfl ⟨Nat.le_of_ble_eq_true rfl, Nat.le_of_ble_eq_true rfl⟩ (Nat.le_of_ble_eq_true rfl) ⟨by show cells + 6 + 0 ≤ 601024; omega, by show slots + 256 + 0 ≤ 7293034; omega⟩ d_Law_law_464) hH.2.2 (fun H locs hH => ?_)
        rw [fGo_nI hN] at hH
        rw [fGo_nI hN]
        refine x_sx C b_Law_law_467_470 hl (L' := [(6, .int ((goI (va_up sc 0 0, ar) (xs (i + 1)) 1 N).1 7)), (5, .int 0), (0, .ref b0), (1, .ref (sd 0)), (2, .ref (ad 20)), (3, .ref oa), (4, .int (nI i))]) (st' := [.ref (ad 20)]) rfl (fun ls hl => ?_)
        refine x_ro (x_cV C hH.1 mW_o rfl (c_Mo_thrown l G ad (cW G rb n md rd sd ms fl mn (goI ((va_up sc 0 0), ar) (xs (i + 1)) 1 N).1 (goI ((va_up sc 0 0), ar) (xs (i + 1)) 1 N).2 x (oW G oa (vp_updL f 0 ((goI ((va_up sc 0 0), ar) (xs (i + 1)) 1 N).1 7).toInt64))) (goI (va_up sc 0 0, ar) (xs (i + 1)) 1 N).1 (goI (va_up sc 0 0, ar) (xs (i + 1)) 1 N).2) t_746 t_14 t_743 t_744 t_745 hd_Mo_thrown blind_Pro (pre_ro C hH.1 hH.2.2) (As := []) (rest := []) rfl hl.1 rfl rfl rfl ⟨Nat.le_of_ble_eq_true rfl, Nat.le_of_ble_eq_true rfl⟩ (Nat.le_of_ble_eq_true rfl) ⟨by show cells + 6 + 0 ≤ 601024; omega, by show slots + 256 + 0 ≤ 7293034; omega⟩ d_Law_law_470) ?_
        refine x_sx C b_Law_law_473_475 hl (L' := [(6, .int ((goI (va_up sc 0 0, ar) (xs (i + 1)) 1 N).1 7)), (5, .int 0), (0, .ref b0), (1, .ref (sd 0)), (2, .ref (ad 20)), (3, .ref oa), (4, .int (nI i))]) (st' := [.int 0, .int ((goI (va_up sc 0 0, ar) (xs (i + 1)) 1 N).1 0)]) rfl (fun ls hl => ?_)
        refine lv_icmp_eq (tgt := 480) C.1 C.2.1 d_Law_law_475 (by decide) (fun _ => ?_) (fun h => absurd z_go h)
        refine x_sx C b_Law_law_480_482 hl (L' := [(6, .int ((goI (va_up sc 0 0, ar) (xs (i + 1)) 1 N).1 7)), (5, .int 0), (0, .ref b0), (1, .ref (sd 0)), (2, .ref (ad 20)), (3, .ref oa), (4, .int (nI i))]) (st' := [.int 0]) rfl (fun ls hl => ?_)
        refine lv_if_ne (tgt := 497) C.1 C.2.1 d_Law_law_482 (by decide) (fun h => absurd (by decide) h) (fun _ => ?_)
        refine x_sx C b_Law_law_485_487 hl (L' := [(6, .int ((goI (va_up sc 0 0, ar) (xs (i + 1)) 1 N).1 7)), (5, .int 0), (0, .ref b0), (1, .ref (sd 0)), (2, .ref (ad 20)), (3, .ref oa), (4, .int (nI i))]) (st' := [.int 0, .ref oa]) rfl (fun ls hl => ?_)
        refine x_lld C hH.1 500 (mo_o hn (by omega)) (j := 0) rfl (by decide) (by decide) d_Law_law_487 ?_
        refine x_sx C b_Law_law_488_492 hl (L' := [(6, .int ((goI (va_up sc 0 0, ar) (xs (i + 1)) 1 N).1 7)), (5, .int 0), (0, .ref b0), (1, .ref (sd 0)), (2, .ref (ad 20)), (3, .ref oa), (4, .int (nI i))]) (st' := [.int (lg_cmp (((goI ((va_up sc 0 0), ar) (xs (i + 1)) 1 N).1 7).toInt64) (((goI (va_up sc 0 0, ar) (xs (i + 1)) 1 N).1 7).toInt64))]) rfl (fun ls hl => ?_)
        refine lv_if_eq (tgt := 497) C.1 C.2.1 d_Law_law_492 (by decide) (fun _ => ?_) (fun h => absurd ((lg_cmp_eq _ _).mpr rfl) h)
        refine x_goto (tgt := 1069) C d_Law_law_497 (by decide) ?_
        exact kk H locs _ _ ls ⟨rb, n, md, rd, sd, ms, fl, mn, (goI (va_up sc 0 0, ar) (xs (i + 1)) 1 N).1, (goI (va_up sc 0 0, ar) (xs (i + 1)) 1 N).2, x, np, (vp_updL f 0 ((goI ((va_up sc 0 0), ar) (xs (i + 1)) 1 N).1 7).toInt64), ((hR.z 0).go hv.1 hx), rfl, by rw [to_mW hn (by omega)]; exact hH⟩ (by omega) (by omega) (lv_sub hl [2, 3, 4, 5, 6] rfl)
    · rw [cW_0 (v := 1)] at hH
      refine x_sx C b_Law_law_404_410 hl (L' := [(0, .ref b0), (1, .ref (sd 0)), (2, .ref (ad 20)), (3, .ref oa), (4, .int (nI i))]) (st' := [.int ((nI i) + 1), .ref b0, .ref (sd 0)]) rfl (fun ls hl => ?_)
      refine x_sld C hX hbl hbA hH.2.2 hL (ix_1 i) (by omega) d_Law_law_410 ?_
      refine x_sx C b_Law_law_411_416 hl (L' := [(0, .ref b0), (1, .ref (sd 0)), (2, .ref (ad 20)), (3, .ref oa), (4, .int (nI i))]) (st' := [.int ((nI i) + 2), .ref b0, .int (xs (i + 1)), .ref (sd 0)]) rfl (fun ls hl => ?_)
      refine x_sld C hX hbl hbA hH.2.2 hL (ix_2 i) (by omega) d_Law_law_416 ?_
      refine x_sx C b_Law_law_417_422 hl (L' := [(0, .ref b0), (1, .ref (sd 0)), (2, .ref (ad 20)), (3, .ref oa), (4, .int (nI i))]) (st' := [.int ((nI i) + 3), .ref b0, .int (xs (i + 2)), .int (xs (i + 1)), .ref (sd 0)]) rfl (fun ls hl => ?_)
      refine x_sld C hX hbl hbA hH.2.2 hL (ix_3 i) (by omega) d_Law_law_422 ?_
      refine lv_if_eq (tgt := 430) C.1 C.2.1 d_Law_law_423 (by decide) (fun h => absurd h hb) (fun _ => ?_)
      refine x_sx C b_Law_law_426_427 hl (L' := [(0, .ref b0), (1, .ref (sd 0)), (2, .ref (ad 20)), (3, .ref oa), (4, .int (nI i))]) (st' := [.int 1, .int (xs (i + 2)), .int (xs (i + 1)), .ref (sd 0)]) rfl (fun ls hl => ?_)
      refine x_goto (tgt := 431) C d_Law_law_427 (by decide) ?_
      refine x_sx C b_Law_law_431_432 hl (L' := [(0, .ref b0), (1, .ref (sd 0)), (2, .ref (ad 20)), (3, .ref oa), (4, .int (nI i))]) (st' := [.ref oa, .int 1, .int (xs (i + 2)), .int (xs (i + 1)), .ref (sd 0)]) rfl (fun ls hl => ?_)
      refine x_q1 (x_cSW C (c_Law_go_1 l G A rb n md rd sd ms fl mn (va_up sc 0 1) ar b (lwW G oa f ad sc ar) (xs (i + 1)) (xs (i + 2)) 1 hfl hn hrb hv oa f hrbE lwW_o) t_506 t_0 t_504 t_505 hd_Law_go blind_Pre (pre_mt C hH hA trivial) (As := [.ref (sd 0), .int (xs (i + 1)), .int (xs (i + 2)), .int 1, .ref oa]) (rest := []) rfl hl.1 rfl rfl rfl ⟨(Nat.le_of_ble_eq_true rfl), (Nat.le_of_ble_eq_true rfl)⟩ (Nat.le_of_ble_eq_true rfl) ⟨by show cells + 1 ≤ 601024; omega, by show slots + 6 ≤ 7293034; omega⟩ d_Law_law_432) hH.2.2 (fun x H locs hx hH hz => ?_)
      rw [to_mW hn (by omega)] at hH
      refine x_sx C b_Law_law_435_443 hl (L' := [(5, .int 1), (0, .ref b0), (1, .ref (sd 0)), (2, .ref (ad 20)), (3, .ref oa), (4, .int (nI i))]) (st' := [.int ((nI i) + 1), .ref b0, .ref (ad 20)]) rfl (fun ls hl => ?_)
      refine x_sld C hX hbl hbA hH.2.2 hL (ix_1 i) (by omega) d_Law_law_443 ?_
      refine x_sx C b_Law_law_444_449 hl (L' := [(5, .int 1), (0, .ref b0), (1, .ref (sd 0)), (2, .ref (ad 20)), (3, .ref oa), (4, .int (nI i))]) (st' := [.int ((nI i) + 2), .ref b0, .int (xs (i + 1)), .ref (ad 20)]) rfl (fun ls hl => ?_)
      refine x_sld C hX hbl hbA hH.2.2 hL (ix_2 i) (by omega) d_Law_law_449 ?_
      refine x_sx C b_Law_law_450_455 hl (L' := [(5, .int 1), (0, .ref b0), (1, .ref (sd 0)), (2, .ref (ad 20)), (3, .ref oa), (4, .int (nI i))]) (st' := [.int ((nI i) + 3), .ref b0, .int (xs (i + 2)), .int (xs (i + 1)), .ref (ad 20)]) rfl (fun ls hl => ?_)
      refine x_sld C hX hbl hbA hH.2.2 hL (ix_3 i) (by omega) d_Law_law_455 ?_
      refine lv_if_eq (tgt := 463) C.1 C.2.1 d_Law_law_456 (by decide) (fun h => absurd h hb) (fun _ => ?_)
      refine x_sx C b_Law_law_459_460 hl (L' := [(5, .int 1), (0, .ref b0), (1, .ref (sd 0)), (2, .ref (ad 20)), (3, .ref oa), (4, .int (nI i))]) (st' := [.int 1, .int (xs (i + 2)), .int (xs (i + 1)), .ref (ad 20)]) rfl (fun ls hl => ?_)
      refine x_goto (tgt := 464) C d_Law_law_460 (by decide) ?_
      refine x_mw1 (x_cV C hH.1 mW_o rfl (c_Mo_go_1 l G A ad (cW G rb n md rd sd ms fl mn (va_up sc 0 1) ar b (oW G oa f)) sc ar (xs (i + 1)) (xs (i + 2)) 1 hv) t_803 t_14 t_800 t_801 t_802 hd_Mo_go blind_Pre (pre_mt C hH hA trivial) (As := [.int (xs (i + 1)), .int (xs (i + 2)), .int 1]) (rest := []) rfl hl.1 rfl rfl rfl ⟨Nat.le_of_ble_eq_true rfl, Nat.le_of_ble_eq_true rfl⟩ (Nat.le_of_ble_eq_true rfl) ⟨by show cells + 1 + 0 ≤ 601024; omega, by show slots + 6 + 0 ≤ 7293034; omega⟩ d_Law_law_464) hH.2.2 (fun H locs hH => ?_)
      refine x_sx C b_Law_law_467_470 hl (L' := [(6, .int 0), (5, .int 1), (0, .ref b0), (1, .ref (sd 0)), (2, .ref (ad 20)), (3, .ref oa), (4, .int (nI i))]) (st' := [.ref (ad 20)]) rfl (fun ls hl => ?_)
      refine x_ro (x_cV C hH.1 mW_o rfl (c_Mo_thrown l G ad (cW G rb n md rd sd ms fl mn (va_up sc 0 1) ar b (oW G oa f)) (va_up sc 0 1) ar) t_746 t_14 t_743 t_744 t_745 hd_Mo_thrown blind_Pro (pre_ro C hH.1 hH.2.2) (As := []) (rest := []) rfl hl.1 rfl rfl rfl ⟨Nat.le_of_ble_eq_true rfl, Nat.le_of_ble_eq_true rfl⟩ (Nat.le_of_ble_eq_true rfl) ⟨by show cells + 1 + 0 ≤ 601024; omega, by show slots + 6 + 0 ≤ 7293034; omega⟩ d_Law_law_470) ?_
      refine x_sx C b_Law_law_473_475 hl (L' := [(6, .int 0), (5, .int 1), (0, .ref b0), (1, .ref (sd 0)), (2, .ref (ad 20)), (3, .ref oa), (4, .int (nI i))]) (st' := [.int 1, .int ((va_up sc 0 1) 0)]) rfl (fun ls hl => ?_)
      refine lv_icmp_eq (tgt := 480) C.1 C.2.1 d_Law_law_475 (by decide) (fun _ => ?_) (fun h => absurd (up_s _ _ _) h)
      refine x_sx C b_Law_law_480_482 hl (L' := [(6, .int 0), (5, .int 1), (0, .ref b0), (1, .ref (sd 0)), (2, .ref (ad 20)), (3, .ref oa), (4, .int (nI i))]) (st' := [.int 1]) rfl (fun ls hl => ?_)
      refine lv_if_ne (tgt := 497) C.1 C.2.1 d_Law_law_482 (by decide) (fun _ => ?_) (fun h => absurd h (by decide))
      refine x_goto (tgt := 1069) C d_Law_law_497 (by decide) ?_
      exact kk H locs _ _ ls ⟨rb, n, md, rd, sd, ms, fl, mn, (va_up sc 0 1), ar, b, np, f, (hR.z _), rfl, by rw [to_mW hn (by omega)]; exact hH⟩ (by omega) (by omega) (lv_sub hl [2, 3, 4, 5, 6] rfl)
theorem b_Law_law_500_506 : decs code [(.aload_n 1, 1), (.aload_n 0, 1), (.iload 4, 2), (.iconst 1, 1), (.iadd, 1)] 500 506 = true := by decide +kernel
theorem d_Law_law_506 : decode code 506 = .ok (.iaload, 1) := by decide +kernel
theorem b_Law_law_507_512 : decs code [(.aload_n 0, 1), (.iload 4, 2), (.iconst 2, 1), (.iadd, 1)] 507 512 = true := by decide +kernel
theorem d_Law_law_512 : decode code 512 = .ok (.iaload, 1) := by decide +kernel
theorem b_Law_law_513_514 : decs code [(.aload_n 3, 1)] 513 514 = true := by decide +kernel
theorem d_Law_law_514 : decode code 514 = .ok (.invokestatic 90, 3) := by decide +kernel
theorem b_Law_law_517_525 : decs code [(.istore 5, 2), (.aload_n 2, 1), (.aload_n 0, 1), (.iload 4, 2), (.iconst 1, 1), (.iadd, 1)] 517 525 = true := by decide +kernel
theorem d_Law_law_525 : decode code 525 = .ok (.iaload, 1) := by decide +kernel
theorem b_Law_law_526_531 : decs code [(.aload_n 0, 1), (.iload 4, 2), (.iconst 2, 1), (.iadd, 1)] 526 531 = true := by decide +kernel
theorem d_Law_law_531 : decode code 531 = .ok (.iaload, 1) := by decide +kernel
theorem d_Law_law_532 : decode code 532 = .ok (.invokevirtual 92, 3) := by decide +kernel
theorem b_Law_law_535_538 : decs code [(.istore 6, 2), (.aload_n 2, 1)] 535 538 = true := by decide +kernel
theorem d_Law_law_538 : decode code 538 = .ok (.invokevirtual 71, 3) := by decide +kernel
theorem b_Law_law_541_543 : decs code [(.iload 5, 2)] 541 543 = true := by decide +kernel
theorem d_Law_law_543 : decode code 543 = .ok (.if_icmp .eq 5, 3) := by decide +kernel
theorem b_Law_law_548_550 : decs code [(.iload 5, 2)] 548 550 = true := by decide +kernel
theorem d_Law_law_550 : decode code 550 = .ok (.ifCond .ne 15, 3) := by decide +kernel
theorem b_Law_law_553_555 : decs code [(.aload_n 3, 1), (.iconst 0, 1)] 553 555 = true := by decide +kernel
theorem d_Law_law_555 : decode code 555 = .ok (.laload, 1) := by decide +kernel
theorem b_Law_law_556_560 : decs code [(.iload 6, 2), (.i2l, 1), (.lcmp, 1)] 556 560 = true := by decide +kernel
theorem d_Law_law_560 : decode code 560 = .ok (.ifCond .eq 5, 3) := by decide +kernel
theorem d_Law_law_565 : decode code 565 = .ok (.goto 504, 3) := by decide +kernel
set_option maxRecDepth 100000 in
set_option maxHeartbeats 4000000 in
theorem lo_told {p : Program} {l : Launch} {e : Env} {s : State} {m : MethodId} {below : List Frame} {meth : Method} {c : Code} {G : GG} {A : Nat → Prop} {b0 L : Nat} {xs : Nat → Int32} {H : Heap} {locs : List Loc} {cells slots : Nat} {Q : State → Prop} {ls : Array Slot} {oa sa : Nat} {ad : Nat → Nat} {i : Nat} (C : Cx p s m #[.ref b0] meth c code 7 "SweptPathsLaw" G A) (hfl : l.flags = pinnedFlags ++ [noTraceFlag]) (hA : ∀ q, s.heap.size ≤ q → A q) (hX : va_X b0 L xs s s.heap) (hbl : b0 < s.heap.size) (hbA : ¬ A b0) (hL : L ≤ 384) (hi : i + 6 ≤ L) (hI : LI G A s oa ad sa H locs) (hce : cells ≤ 100000) (hsl : slots ≤ 1000000) (hl : lv_has ls 7 [(0, .ref b0), (1, .ref sa), (2, .ref (ad 20)), (3, .ref oa), (4, .int (nI i))]) (kk : ∀ (H : Heap) (locs : List Loc) (cells2 slots2 : Nat) (ls : Array Slot), LI G A s oa ad sa H locs → cells2 ≤ cells + 80 → slots2 ≤ slots + 2224 → lv_has ls 7 [(0, .ref b0), (1, .ref sa), (2, .ref (ad 20)), (3, .ref oa), (4, .int (nI i))] → W p l e room_1 s m #[.ref b0] below meth c H locs cells2 slots2 Q (F0 m 1069 ls [])) : W p l e room_1 s m #[.ref b0] below meth c H locs cells slots Q (F0 m 500 ls []) := by
  obtain ⟨rb, n, md, rd, sd, ms, fl, mn, sc, ar, b, np, f, hR, rfl, hH⟩ := hI
  have hn := hR.n3
  have hrbE := hR.1
  have h1 : sc 1 = nI n := hR.2.1.1.1
  have h6 : sc 6 = nI np := hR.2.1.1.2.2.1
  have hnp : np ≤ 20 := hR.2.1.1.2.2.2.1
  have hrb : 100 ≤ rb := by omega
  have hrb2 : rb ≤ 200 := by omega
  have hz0 : Z01 (ar 17) := hR.2.1.2.1
  by_cases hv : p_in (xs (i + 1)) 0 (nI n - 1) = 1 ∧ p_in (xs (i + 2)) 0 4 = 1
  · obtain ⟨k, hk, ek⟩ := body_ix hn hv.1
    rw [ek] at hv
    rw [cW_0 (v := 0)] at hH
    refine x_sx C b_Law_law_500_506 hl (L' := [(0, .ref b0), (1, .ref (sd 0)), (2, .ref (ad 20)), (3, .ref oa), (4, .int (nI i))]) (st' := [.int ((nI i) + 1), .ref b0, .ref (sd 0)]) rfl (fun ls hl => ?_)
    refine x_sld C hX hbl hbA hH.2.2 hL (ix_1 i) (by omega) d_Law_law_506 ?_
    rw [ek]
    refine x_sx C b_Law_law_507_512 hl (L' := [(0, .ref b0), (1, .ref (sd 0)), (2, .ref (ad 20)), (3, .ref oa), (4, .int (nI i))]) (st' := [.int ((nI i) + 2), .ref b0, .int (nI k), .ref (sd 0)]) rfl (fun ls hl => ?_)
    refine x_sld C hX hbl hbA hH.2.2 hL (ix_2 i) (by omega) d_Law_law_512 ?_
    refine x_sx C b_Law_law_513_514 hl (L' := [(0, .ref b0), (1, .ref (sd 0)), (2, .ref (ad 20)), (3, .ref oa), (4, .int (nI i))]) (st' := [.ref oa, .int (xs (i + 2)), .int (nI k), .ref (sd 0)]) rfl (fun ls hl => ?_)
    refine x_q1 (x_cSW C (c_Law_told l G A rb n md rd sd ms fl mn (va_up sc 0 0) ar b (lwW G oa f ad sc ar) k (xs (i + 2)) hn hrb hk hv.2 oa f hrbE lwW_o) t_539 t_0 t_537 t_538 hd_Law_told blind_Pre (pre_mt C hH hA trivial) (As := [.ref (sd 0), .int (nI k), .int (xs (i + 2)), .ref oa]) (rest := []) rfl hl.1 rfl rfl rfl ⟨(Nat.le_of_ble_eq_true rfl), (Nat.le_of_ble_eq_true rfl)⟩ (Nat.le_of_ble_eq_true rfl) ⟨by show cells + 0 ≤ 601024; omega, by show slots + 0 ≤ 7293034; omega⟩ d_Law_law_514) hH.2.2 (fun x H locs hx hH hz => ?_)
    rw [lwW_up] at hH
    rw [to_mW hn (by omega)] at hH
    refine x_sx C b_Law_law_517_525 hl (L' := [(5, .int 0), (0, .ref b0), (1, .ref (sd 0)), (2, .ref (ad 20)), (3, .ref oa), (4, .int (nI i))]) (st' := [.int ((nI i) + 1), .ref b0, .ref (ad 20)]) rfl (fun ls hl => ?_)
    refine x_sld C hX hbl hbA hH.2.2 hL (ix_1 i) (by omega) d_Law_law_525 ?_
    rw [ek]
    refine x_sx C b_Law_law_526_531 hl (L' := [(5, .int 0), (0, .ref b0), (1, .ref (sd 0)), (2, .ref (ad 20)), (3, .ref oa), (4, .int (nI i))]) (st' := [.int ((nI i) + 2), .ref b0, .int (nI k), .ref (ad 20)]) rfl (fun ls hl => ?_)
    refine x_sld C hX hbl hbA hH.2.2 hL (ix_2 i) (by omega) d_Law_law_531 ?_
    refine x_mw1 (x_cV C hH.1 mW_o rfl (c_Mo_told l G A ad (cW G rb n md rd sd ms fl mn (va_up sc 0 0) ar b (oW G oa (vp_updL f 0 (fTold ar k (xs (i + 2))).toInt64))) sc ar k (xs (i + 2)) (by rw [h1]; exact hv) (by omega)) t_822 t_14 t_819 t_820 t_821 hd_Mo_told blind_Pre (pre_mt C hH hA trivial) (As := [.int (nI k), .int (xs (i + 2))]) (rest := []) rfl hl.1 rfl rfl rfl ⟨Nat.le_of_ble_eq_true rfl, Nat.le_of_ble_eq_true rfl⟩ (Nat.le_of_ble_eq_true rfl) ⟨by show cells + 0 + 0 ≤ 601024; omega, by show slots + 0 + 0 ≤ 7293034; omega⟩ d_Law_law_532) hH.2.2 (fun H locs hH => ?_)
    refine x_sx C b_Law_law_535_538 hl (L' := [(6, .int (fTold ar k (xs (i + 2)))), (5, .int 0), (0, .ref b0), (1, .ref (sd 0)), (2, .ref (ad 20)), (3, .ref oa), (4, .int (nI i))]) (st' := [.ref (ad 20)]) rfl (fun ls hl => ?_)
    refine x_ro (x_cV C hH.1 mW_o rfl (c_Mo_thrown l G ad (cW G rb n md rd sd ms fl mn (va_up sc 0 0) ar b (oW G oa (vp_updL f 0 (fTold ar k (xs (i + 2))).toInt64))) (va_up sc 0 0) ar) t_746 t_14 t_743 t_744 t_745 hd_Mo_thrown blind_Pro (pre_ro C hH.1 hH.2.2) (As := []) (rest := []) rfl hl.1 rfl rfl rfl ⟨Nat.le_of_ble_eq_true rfl, Nat.le_of_ble_eq_true rfl⟩ (Nat.le_of_ble_eq_true rfl) ⟨by show cells + 0 + 0 ≤ 601024; omega, by show slots + 0 + 0 ≤ 7293034; omega⟩ d_Law_law_538) ?_
    refine x_sx C b_Law_law_541_543 hl (L' := [(6, .int (fTold ar k (xs (i + 2)))), (5, .int 0), (0, .ref b0), (1, .ref (sd 0)), (2, .ref (ad 20)), (3, .ref oa), (4, .int (nI i))]) (st' := [.int 0, .int ((va_up sc 0 0) 0)]) rfl (fun ls hl => ?_)
    refine lv_icmp_eq (tgt := 548) C.1 C.2.1 d_Law_law_543 (by decide) (fun _ => ?_) (fun h => absurd (up_s _ _ _) h)
    refine x_sx C b_Law_law_548_550 hl (L' := [(6, .int (fTold ar k (xs (i + 2)))), (5, .int 0), (0, .ref b0), (1, .ref (sd 0)), (2, .ref (ad 20)), (3, .ref oa), (4, .int (nI i))]) (st' := [.int 0]) rfl (fun ls hl => ?_)
    refine lv_if_ne (tgt := 565) C.1 C.2.1 d_Law_law_550 (by decide) (fun h => absurd (by decide) h) (fun _ => ?_)
    refine x_sx C b_Law_law_553_555 hl (L' := [(6, .int (fTold ar k (xs (i + 2)))), (5, .int 0), (0, .ref b0), (1, .ref (sd 0)), (2, .ref (ad 20)), (3, .ref oa), (4, .int (nI i))]) (st' := [.int 0, .ref oa]) rfl (fun ls hl => ?_)
    refine x_lld C hH.1 500 (mo_o hn (by omega)) (j := 0) rfl (by decide) (by decide) d_Law_law_555 ?_
    refine x_sx C b_Law_law_556_560 hl (L' := [(6, .int (fTold ar k (xs (i + 2)))), (5, .int 0), (0, .ref b0), (1, .ref (sd 0)), (2, .ref (ad 20)), (3, .ref oa), (4, .int (nI i))]) (st' := [.int (lg_cmp ((fTold ar k (xs (i + 2))).toInt64) ((fTold ar k (xs (i + 2))).toInt64))]) rfl (fun ls hl => ?_)
    refine lv_if_eq (tgt := 565) C.1 C.2.1 d_Law_law_560 (by decide) (fun _ => ?_) (fun h => absurd ((lg_cmp_eq _ _).mpr rfl) h)
    refine x_goto (tgt := 1069) C d_Law_law_565 (by decide) ?_
    exact kk H locs _ _ ls ⟨rb, n, md, rd, sd, ms, fl, mn, (va_up sc 0 0), ar, b, np, (vp_updL f 0 (fTold ar k (xs (i + 2))).toInt64), (hR.z 0), rfl, by rw [to_mW hn (by omega)]; exact hH⟩ (by omega) (by omega) (lv_sub hl [2, 3, 4, 5, 6] rfl)
  · rw [cW_0 (v := 1)] at hH
    refine x_sx C b_Law_law_500_506 hl (L' := [(0, .ref b0), (1, .ref (sd 0)), (2, .ref (ad 20)), (3, .ref oa), (4, .int (nI i))]) (st' := [.int ((nI i) + 1), .ref b0, .ref (sd 0)]) rfl (fun ls hl => ?_)
    refine x_sld C hX hbl hbA hH.2.2 hL (ix_1 i) (by omega) d_Law_law_506 ?_
    refine x_sx C b_Law_law_507_512 hl (L' := [(0, .ref b0), (1, .ref (sd 0)), (2, .ref (ad 20)), (3, .ref oa), (4, .int (nI i))]) (st' := [.int ((nI i) + 2), .ref b0, .int (xs (i + 1)), .ref (sd 0)]) rfl (fun ls hl => ?_)
    refine x_sld C hX hbl hbA hH.2.2 hL (ix_2 i) (by omega) d_Law_law_512 ?_
    refine x_sx C b_Law_law_513_514 hl (L' := [(0, .ref b0), (1, .ref (sd 0)), (2, .ref (ad 20)), (3, .ref oa), (4, .int (nI i))]) (st' := [.ref oa, .int (xs (i + 2)), .int (xs (i + 1)), .ref (sd 0)]) rfl (fun ls hl => ?_)
    refine x_q1 (x_cSW C (c_Law_told_1 l G A rb n md rd sd ms fl mn (va_up sc 0 1) ar b (lwW G oa f ad sc ar) (xs (i + 1)) (xs (i + 2)) hfl hn hrb hv oa f hrbE lwW_o) t_539 t_0 t_537 t_538 hd_Law_told blind_Pre (pre_mt C hH hA trivial) (As := [.ref (sd 0), .int (xs (i + 1)), .int (xs (i + 2)), .ref oa]) (rest := []) rfl hl.1 rfl rfl rfl ⟨(Nat.le_of_ble_eq_true rfl), (Nat.le_of_ble_eq_true rfl)⟩ (Nat.le_of_ble_eq_true rfl) ⟨by show cells + 1 ≤ 601024; omega, by show slots + 6 ≤ 7293034; omega⟩ d_Law_law_514) hH.2.2 (fun x H locs hx hH hz => ?_)
    rw [to_mW hn (by omega)] at hH
    refine x_sx C b_Law_law_517_525 hl (L' := [(5, .int 1), (0, .ref b0), (1, .ref (sd 0)), (2, .ref (ad 20)), (3, .ref oa), (4, .int (nI i))]) (st' := [.int ((nI i) + 1), .ref b0, .ref (ad 20)]) rfl (fun ls hl => ?_)
    refine x_sld C hX hbl hbA hH.2.2 hL (ix_1 i) (by omega) d_Law_law_525 ?_
    refine x_sx C b_Law_law_526_531 hl (L' := [(5, .int 1), (0, .ref b0), (1, .ref (sd 0)), (2, .ref (ad 20)), (3, .ref oa), (4, .int (nI i))]) (st' := [.int ((nI i) + 2), .ref b0, .int (xs (i + 1)), .ref (ad 20)]) rfl (fun ls hl => ?_)
    refine x_sld C hX hbl hbA hH.2.2 hL (ix_2 i) (by omega) d_Law_law_531 ?_
    refine x_mw1 (x_cV C hH.1 mW_o rfl (c_Mo_told_1 l G A ad (cW G rb n md rd sd ms fl mn (va_up sc 0 1) ar b (oW G oa f)) sc ar (xs (i + 1)) (xs (i + 2)) (by rw [h1]; exact hv)) t_822 t_14 t_819 t_820 t_821 hd_Mo_told blind_Pre (pre_mt C hH hA trivial) (As := [.int (xs (i + 1)), .int (xs (i + 2))]) (rest := []) rfl hl.1 rfl rfl rfl ⟨Nat.le_of_ble_eq_true rfl, Nat.le_of_ble_eq_true rfl⟩ (Nat.le_of_ble_eq_true rfl) ⟨by show cells + 1 + 0 ≤ 601024; omega, by show slots + 6 + 0 ≤ 7293034; omega⟩ d_Law_law_532) hH.2.2 (fun H locs hH => ?_)
    refine x_sx C b_Law_law_535_538 hl (L' := [(6, .int 0), (5, .int 1), (0, .ref b0), (1, .ref (sd 0)), (2, .ref (ad 20)), (3, .ref oa), (4, .int (nI i))]) (st' := [.ref (ad 20)]) rfl (fun ls hl => ?_)
    refine x_ro (x_cV C hH.1 mW_o rfl (c_Mo_thrown l G ad (cW G rb n md rd sd ms fl mn (va_up sc 0 1) ar b (oW G oa f)) (va_up sc 0 1) ar) t_746 t_14 t_743 t_744 t_745 hd_Mo_thrown blind_Pro (pre_ro C hH.1 hH.2.2) (As := []) (rest := []) rfl hl.1 rfl rfl rfl ⟨Nat.le_of_ble_eq_true rfl, Nat.le_of_ble_eq_true rfl⟩ (Nat.le_of_ble_eq_true rfl) ⟨by show cells + 1 + 0 ≤ 601024; omega, by show slots + 6 + 0 ≤ 7293034; omega⟩ d_Law_law_538) ?_
    refine x_sx C b_Law_law_541_543 hl (L' := [(6, .int 0), (5, .int 1), (0, .ref b0), (1, .ref (sd 0)), (2, .ref (ad 20)), (3, .ref oa), (4, .int (nI i))]) (st' := [.int 1, .int ((va_up sc 0 1) 0)]) rfl (fun ls hl => ?_)
    refine lv_icmp_eq (tgt := 548) C.1 C.2.1 d_Law_law_543 (by decide) (fun _ => ?_) (fun h => absurd (up_s _ _ _) h)
    refine x_sx C b_Law_law_548_550 hl (L' := [(6, .int 0), (5, .int 1), (0, .ref b0), (1, .ref (sd 0)), (2, .ref (ad 20)), (3, .ref oa), (4, .int (nI i))]) (st' := [.int 1]) rfl (fun ls hl => ?_)
    refine lv_if_ne (tgt := 565) C.1 C.2.1 d_Law_law_550 (by decide) (fun _ => ?_) (fun h => absurd h (by decide))
    refine x_goto (tgt := 1069) C d_Law_law_565 (by decide) ?_
    exact kk H locs _ _ ls ⟨rb, n, md, rd, sd, ms, fl, mn, (va_up sc 0 1), ar, b, np, f, (hR.z _), rfl, by rw [to_mW hn (by omega)]; exact hH⟩ (by omega) (by omega) (lv_sub hl [2, 3, 4, 5, 6] rfl)
theorem b_Law_law_568_574 : decs code [(.aload_n 1, 1), (.aload_n 0, 1), (.iload 4, 2), (.iconst 1, 1), (.iadd, 1)] 568 574 = true := by decide +kernel
theorem d_Law_law_574 : decode code 574 = .ok (.iaload, 1) := by decide +kernel
theorem b_Law_law_575_580 : decs code [(.aload_n 0, 1), (.iload 4, 2), (.iconst 2, 1), (.iadd, 1)] 575 580 = true := by decide +kernel
theorem d_Law_law_580 : decode code 580 = .ok (.iaload, 1) := by decide +kernel
theorem b_Law_law_581_586 : decs code [(.aload_n 0, 1), (.iload 4, 2), (.iconst 3, 1), (.iadd, 1)] 581 586 = true := by decide +kernel
theorem d_Law_law_586 : decode code 586 = .ok (.iaload, 1) := by decide +kernel
theorem b_Law_law_587_588 : decs code [(.aload_n 3, 1)] 587 588 = true := by decide +kernel
theorem d_Law_law_588 : decode code 588 = .ok (.invokestatic 93, 3) := by decide +kernel
theorem b_Law_law_591_599 : decs code [(.istore 5, 2), (.aload_n 2, 1), (.aload_n 0, 1), (.iload 4, 2), (.iconst 1, 1), (.iadd, 1)] 591 599 = true := by decide +kernel
theorem d_Law_law_599 : decode code 599 = .ok (.iaload, 1) := by decide +kernel
theorem b_Law_law_600_605 : decs code [(.aload_n 0, 1), (.iload 4, 2), (.iconst 2, 1), (.iadd, 1)] 600 605 = true := by decide +kernel
theorem d_Law_law_605 : decode code 605 = .ok (.iaload, 1) := by decide +kernel
theorem b_Law_law_606_611 : decs code [(.aload_n 0, 1), (.iload 4, 2), (.iconst 3, 1), (.iadd, 1)] 606 611 = true := by decide +kernel
theorem d_Law_law_611 : decode code 611 = .ok (.iaload, 1) := by decide +kernel
theorem d_Law_law_612 : decode code 612 = .ok (.invokevirtual 96, 3) := by decide +kernel
theorem b_Law_law_615_618 : decs code [(.istore 6, 2), (.aload_n 2, 1)] 615 618 = true := by decide +kernel
theorem d_Law_law_618 : decode code 618 = .ok (.invokevirtual 71, 3) := by decide +kernel
theorem b_Law_law_621_623 : decs code [(.iload 5, 2)] 621 623 = true := by decide +kernel
theorem d_Law_law_623 : decode code 623 = .ok (.if_icmp .eq 5, 3) := by decide +kernel
theorem b_Law_law_628_630 : decs code [(.iload 5, 2)] 628 630 = true := by decide +kernel
theorem d_Law_law_630 : decode code 630 = .ok (.ifCond .ne 15, 3) := by decide +kernel
theorem b_Law_law_633_635 : decs code [(.aload_n 3, 1), (.iconst 0, 1)] 633 635 = true := by decide +kernel
theorem d_Law_law_635 : decode code 635 = .ok (.laload, 1) := by decide +kernel
theorem b_Law_law_636_640 : decs code [(.iload 6, 2), (.i2l, 1), (.lcmp, 1)] 636 640 = true := by decide +kernel
theorem d_Law_law_640 : decode code 640 = .ok (.ifCond .eq 5, 3) := by decide +kernel
theorem d_Law_law_645 : decode code 645 = .ok (.goto 424, 3) := by decide +kernel
set_option maxRecDepth 100000 in
set_option maxHeartbeats 4000000 in
theorem lo_corner {p : Program} {l : Launch} {e : Env} {s : State} {m : MethodId} {below : List Frame} {meth : Method} {c : Code} {G : GG} {A : Nat → Prop} {b0 L : Nat} {xs : Nat → Int32} {H : Heap} {locs : List Loc} {cells slots : Nat} {Q : State → Prop} {ls : Array Slot} {oa sa : Nat} {ad : Nat → Nat} {i : Nat} (C : Cx p s m #[.ref b0] meth c code 7 "SweptPathsLaw" G A) (hfl : l.flags = pinnedFlags ++ [noTraceFlag]) (hA : ∀ q, s.heap.size ≤ q → A q) (hX : va_X b0 L xs s s.heap) (hbl : b0 < s.heap.size) (hbA : ¬ A b0) (hL : L ≤ 384) (hi : i + 6 ≤ L) (hI : LI G A s oa ad sa H locs) (hce : cells ≤ 100000) (hsl : slots ≤ 1000000) (hl : lv_has ls 7 [(0, .ref b0), (1, .ref sa), (2, .ref (ad 20)), (3, .ref oa), (4, .int (nI i))]) (kk : ∀ (H : Heap) (locs : List Loc) (cells2 slots2 : Nat) (ls : Array Slot), LI G A s oa ad sa H locs → cells2 ≤ cells + 80 → slots2 ≤ slots + 2224 → lv_has ls 7 [(0, .ref b0), (1, .ref sa), (2, .ref (ad 20)), (3, .ref oa), (4, .int (nI i))] → W p l e room_1 s m #[.ref b0] below meth c H locs cells2 slots2 Q (F0 m 1069 ls [])) : W p l e room_1 s m #[.ref b0] below meth c H locs cells slots Q (F0 m 568 ls []) := by
  obtain ⟨rb, n, md, rd, sd, ms, fl, mn, sc, ar, b, np, f, hR, rfl, hH⟩ := hI
  have hn := hR.n3
  have hrbE := hR.1
  have h1 : sc 1 = nI n := hR.2.1.1.1
  have h6 : sc 6 = nI np := hR.2.1.1.2.2.1
  have hnp : np ≤ 20 := hR.2.1.1.2.2.2.1
  have hrb : 100 ≤ rb := by omega
  have hrb2 : rb ≤ 200 := by omega
  have hz0 : Z01 (ar 17) := hR.2.1.2.1
  by_cases hv : p_in (xs (i + 1)) 0 (nI n - 1) = 1 ∧ p_in (xs (i + 2)) 0 3 = 1 ∧ p_in (xs (i + 3)) 0 1 = 1
  · obtain ⟨k, hk, ek⟩ := body_ix hn hv.1
    rw [ek] at hv
    rw [cW_0 (v := 0)] at hH
    refine x_sx C b_Law_law_568_574 hl (L' := [(0, .ref b0), (1, .ref (sd 0)), (2, .ref (ad 20)), (3, .ref oa), (4, .int (nI i))]) (st' := [.int ((nI i) + 1), .ref b0, .ref (sd 0)]) rfl (fun ls hl => ?_)
    refine x_sld C hX hbl hbA hH.2.2 hL (ix_1 i) (by omega) d_Law_law_574 ?_
    rw [ek]
    refine x_sx C b_Law_law_575_580 hl (L' := [(0, .ref b0), (1, .ref (sd 0)), (2, .ref (ad 20)), (3, .ref oa), (4, .int (nI i))]) (st' := [.int ((nI i) + 2), .ref b0, .int (nI k), .ref (sd 0)]) rfl (fun ls hl => ?_)
    refine x_sld C hX hbl hbA hH.2.2 hL (ix_2 i) (by omega) d_Law_law_580 ?_
    refine x_sx C b_Law_law_581_586 hl (L' := [(0, .ref b0), (1, .ref (sd 0)), (2, .ref (ad 20)), (3, .ref oa), (4, .int (nI i))]) (st' := [.int ((nI i) + 3), .ref b0, .int (xs (i + 2)), .int (nI k), .ref (sd 0)]) rfl (fun ls hl => ?_)
    refine x_sld C hX hbl hbA hH.2.2 hL (ix_3 i) (by omega) d_Law_law_586 ?_
    refine x_sx C b_Law_law_587_588 hl (L' := [(0, .ref b0), (1, .ref (sd 0)), (2, .ref (ad 20)), (3, .ref oa), (4, .int (nI i))]) (st' := [.ref oa, .int (xs (i + 3)), .int (xs (i + 2)), .int (nI k), .ref (sd 0)]) rfl (fun ls hl => ?_)
    refine x_q1 (x_cSW C (c_Law_corner l G A rb n md rd sd ms fl mn (va_up sc 0 0) ar b (lwW G oa f ad sc ar) k (xs (i + 2)) (xs (i + 3)) hn hrb hk hv.2 oa f hrbE lwW_o) t_553 t_0 t_551 t_552 hd_Law_corner blind_Pre (pre_mt C hH hA trivial) (As := [.ref (sd 0), .int (nI k), .int (xs (i + 2)), .int (xs (i + 3)), .ref oa]) (rest := []) rfl hl.1 rfl rfl rfl ⟨(Nat.le_of_ble_eq_true rfl), (Nat.le_of_ble_eq_true rfl)⟩ (Nat.le_of_ble_eq_true rfl) ⟨by show cells + 0 ≤ 601024; omega, by show slots + 0 ≤ 7293034; omega⟩ d_Law_law_588) hH.2.2 (fun x H locs hx hH hz => ?_)
    rw [lwW_up] at hH
    rw [to_mW hn (by omega)] at hH
    refine x_sx C b_Law_law_591_599 hl (L' := [(5, .int 0), (0, .ref b0), (1, .ref (sd 0)), (2, .ref (ad 20)), (3, .ref oa), (4, .int (nI i))]) (st' := [.int ((nI i) + 1), .ref b0, .ref (ad 20)]) rfl (fun ls hl => ?_)
    refine x_sld C hX hbl hbA hH.2.2 hL (ix_1 i) (by omega) d_Law_law_599 ?_
    rw [ek]
    refine x_sx C b_Law_law_600_605 hl (L' := [(5, .int 0), (0, .ref b0), (1, .ref (sd 0)), (2, .ref (ad 20)), (3, .ref oa), (4, .int (nI i))]) (st' := [.int ((nI i) + 2), .ref b0, .int (nI k), .ref (ad 20)]) rfl (fun ls hl => ?_)
    refine x_sld C hX hbl hbA hH.2.2 hL (ix_2 i) (by omega) d_Law_law_605 ?_
    refine x_sx C b_Law_law_606_611 hl (L' := [(5, .int 0), (0, .ref b0), (1, .ref (sd 0)), (2, .ref (ad 20)), (3, .ref oa), (4, .int (nI i))]) (st' := [.int ((nI i) + 3), .ref b0, .int (xs (i + 2)), .int (nI k), .ref (ad 20)]) rfl (fun ls hl => ?_)
    refine x_sld C hX hbl hbA hH.2.2 hL (ix_3 i) (by omega) d_Law_law_611 ?_
    refine x_mw1 (x_cV C hH.1 mW_o rfl (c_Mo_corner l G A ad (cW G rb n md rd sd ms fl mn (va_up sc 0 0) ar b (oW G oa (vp_updL f 0 (fCorner ar k (xs (i + 2)) (xs (i + 3))).toInt64))) sc ar k (xs (i + 2)) (xs (i + 3)) (by rw [h1]; exact hv) (by omega)) t_826 t_14 t_823 t_824 t_825 hd_Mo_corner blind_Pre (pre_mt C hH hA trivial) (As := [.int (nI k), .int (xs (i + 2)), .int (xs (i + 3))]) (rest := []) rfl hl.1 rfl rfl rfl ⟨Nat.le_of_ble_eq_true rfl, Nat.le_of_ble_eq_true rfl⟩ (Nat.le_of_ble_eq_true rfl) ⟨by show cells + 0 + 0 ≤ 601024; omega, by show slots + 0 + 0 ≤ 7293034; omega⟩ d_Law_law_612) hH.2.2 (fun H locs hH => ?_)
    refine x_sx C b_Law_law_615_618 hl (L' := [(6, .int (fCorner ar k (xs (i + 2)) (xs (i + 3)))), (5, .int 0), (0, .ref b0), (1, .ref (sd 0)), (2, .ref (ad 20)), (3, .ref oa), (4, .int (nI i))]) (st' := [.ref (ad 20)]) rfl (fun ls hl => ?_)
    refine x_ro (x_cV C hH.1 mW_o rfl (c_Mo_thrown l G ad (cW G rb n md rd sd ms fl mn (va_up sc 0 0) ar b (oW G oa (vp_updL f 0 (fCorner ar k (xs (i + 2)) (xs (i + 3))).toInt64))) (va_up sc 0 0) ar) t_746 t_14 t_743 t_744 t_745 hd_Mo_thrown blind_Pro (pre_ro C hH.1 hH.2.2) (As := []) (rest := []) rfl hl.1 rfl rfl rfl ⟨Nat.le_of_ble_eq_true rfl, Nat.le_of_ble_eq_true rfl⟩ (Nat.le_of_ble_eq_true rfl) ⟨by show cells + 0 + 0 ≤ 601024; omega, by show slots + 0 + 0 ≤ 7293034; omega⟩ d_Law_law_618) ?_
    refine x_sx C b_Law_law_621_623 hl (L' := [(6, .int (fCorner ar k (xs (i + 2)) (xs (i + 3)))), (5, .int 0), (0, .ref b0), (1, .ref (sd 0)), (2, .ref (ad 20)), (3, .ref oa), (4, .int (nI i))]) (st' := [.int 0, .int ((va_up sc 0 0) 0)]) rfl (fun ls hl => ?_)
    refine lv_icmp_eq (tgt := 628) C.1 C.2.1 d_Law_law_623 (by decide) (fun _ => ?_) (fun h => absurd (up_s _ _ _) h)
    refine x_sx C b_Law_law_628_630 hl (L' := [(6, .int (fCorner ar k (xs (i + 2)) (xs (i + 3)))), (5, .int 0), (0, .ref b0), (1, .ref (sd 0)), (2, .ref (ad 20)), (3, .ref oa), (4, .int (nI i))]) (st' := [.int 0]) rfl (fun ls hl => ?_)
    refine lv_if_ne (tgt := 645) C.1 C.2.1 d_Law_law_630 (by decide) (fun h => absurd (by decide) h) (fun _ => ?_)
    refine x_sx C b_Law_law_633_635 hl (L' := [(6, .int (fCorner ar k (xs (i + 2)) (xs (i + 3)))), (5, .int 0), (0, .ref b0), (1, .ref (sd 0)), (2, .ref (ad 20)), (3, .ref oa), (4, .int (nI i))]) (st' := [.int 0, .ref oa]) rfl (fun ls hl => ?_)
    refine x_lld C hH.1 500 (mo_o hn (by omega)) (j := 0) rfl (by decide) (by decide) d_Law_law_635 ?_
    refine x_sx C b_Law_law_636_640 hl (L' := [(6, .int (fCorner ar k (xs (i + 2)) (xs (i + 3)))), (5, .int 0), (0, .ref b0), (1, .ref (sd 0)), (2, .ref (ad 20)), (3, .ref oa), (4, .int (nI i))]) (st' := [.int (lg_cmp ((fCorner ar k (xs (i + 2)) (xs (i + 3))).toInt64) ((fCorner ar k (xs (i + 2)) (xs (i + 3))).toInt64))]) rfl (fun ls hl => ?_)
    refine lv_if_eq (tgt := 645) C.1 C.2.1 d_Law_law_640 (by decide) (fun _ => ?_) (fun h => absurd ((lg_cmp_eq _ _).mpr rfl) h)
    refine x_goto (tgt := 1069) C d_Law_law_645 (by decide) ?_
    exact kk H locs _ _ ls ⟨rb, n, md, rd, sd, ms, fl, mn, (va_up sc 0 0), ar, b, np, (vp_updL f 0 (fCorner ar k (xs (i + 2)) (xs (i + 3))).toInt64), (hR.z 0), rfl, by rw [to_mW hn (by omega)]; exact hH⟩ (by omega) (by omega) (lv_sub hl [2, 3, 4, 5, 6] rfl)
  · rw [cW_0 (v := 1)] at hH
    refine x_sx C b_Law_law_568_574 hl (L' := [(0, .ref b0), (1, .ref (sd 0)), (2, .ref (ad 20)), (3, .ref oa), (4, .int (nI i))]) (st' := [.int ((nI i) + 1), .ref b0, .ref (sd 0)]) rfl (fun ls hl => ?_)
    refine x_sld C hX hbl hbA hH.2.2 hL (ix_1 i) (by omega) d_Law_law_574 ?_
    refine x_sx C b_Law_law_575_580 hl (L' := [(0, .ref b0), (1, .ref (sd 0)), (2, .ref (ad 20)), (3, .ref oa), (4, .int (nI i))]) (st' := [.int ((nI i) + 2), .ref b0, .int (xs (i + 1)), .ref (sd 0)]) rfl (fun ls hl => ?_)
    refine x_sld C hX hbl hbA hH.2.2 hL (ix_2 i) (by omega) d_Law_law_580 ?_
    refine x_sx C b_Law_law_581_586 hl (L' := [(0, .ref b0), (1, .ref (sd 0)), (2, .ref (ad 20)), (3, .ref oa), (4, .int (nI i))]) (st' := [.int ((nI i) + 3), .ref b0, .int (xs (i + 2)), .int (xs (i + 1)), .ref (sd 0)]) rfl (fun ls hl => ?_)
    refine x_sld C hX hbl hbA hH.2.2 hL (ix_3 i) (by omega) d_Law_law_586 ?_
    refine x_sx C b_Law_law_587_588 hl (L' := [(0, .ref b0), (1, .ref (sd 0)), (2, .ref (ad 20)), (3, .ref oa), (4, .int (nI i))]) (st' := [.ref oa, .int (xs (i + 3)), .int (xs (i + 2)), .int (xs (i + 1)), .ref (sd 0)]) rfl (fun ls hl => ?_)
    refine x_q1 (x_cSW C (c_Law_corner_1 l G A rb n md rd sd ms fl mn (va_up sc 0 1) ar b (lwW G oa f ad sc ar) (xs (i + 1)) (xs (i + 2)) (xs (i + 3)) hfl hn hrb hv oa f hrbE lwW_o) t_553 t_0 t_551 t_552 hd_Law_corner blind_Pre (pre_mt C hH hA trivial) (As := [.ref (sd 0), .int (xs (i + 1)), .int (xs (i + 2)), .int (xs (i + 3)), .ref oa]) (rest := []) rfl hl.1 rfl rfl rfl ⟨(Nat.le_of_ble_eq_true rfl), (Nat.le_of_ble_eq_true rfl)⟩ (Nat.le_of_ble_eq_true rfl) ⟨by show cells + 1 ≤ 601024; omega, by show slots + 6 ≤ 7293034; omega⟩ d_Law_law_588) hH.2.2 (fun x H locs hx hH hz => ?_)
    rw [to_mW hn (by omega)] at hH
    refine x_sx C b_Law_law_591_599 hl (L' := [(5, .int 1), (0, .ref b0), (1, .ref (sd 0)), (2, .ref (ad 20)), (3, .ref oa), (4, .int (nI i))]) (st' := [.int ((nI i) + 1), .ref b0, .ref (ad 20)]) rfl (fun ls hl => ?_)
    refine x_sld C hX hbl hbA hH.2.2 hL (ix_1 i) (by omega) d_Law_law_599 ?_
    refine x_sx C b_Law_law_600_605 hl (L' := [(5, .int 1), (0, .ref b0), (1, .ref (sd 0)), (2, .ref (ad 20)), (3, .ref oa), (4, .int (nI i))]) (st' := [.int ((nI i) + 2), .ref b0, .int (xs (i + 1)), .ref (ad 20)]) rfl (fun ls hl => ?_)
    refine x_sld C hX hbl hbA hH.2.2 hL (ix_2 i) (by omega) d_Law_law_605 ?_
    refine x_sx C b_Law_law_606_611 hl (L' := [(5, .int 1), (0, .ref b0), (1, .ref (sd 0)), (2, .ref (ad 20)), (3, .ref oa), (4, .int (nI i))]) (st' := [.int ((nI i) + 3), .ref b0, .int (xs (i + 2)), .int (xs (i + 1)), .ref (ad 20)]) rfl (fun ls hl => ?_)
    refine x_sld C hX hbl hbA hH.2.2 hL (ix_3 i) (by omega) d_Law_law_611 ?_
    refine x_mw1 (x_cV C hH.1 mW_o rfl (c_Mo_corner_1 l G A ad (cW G rb n md rd sd ms fl mn (va_up sc 0 1) ar b (oW G oa f)) sc ar (xs (i + 1)) (xs (i + 2)) (xs (i + 3)) (by rw [h1]; exact hv)) t_826 t_14 t_823 t_824 t_825 hd_Mo_corner blind_Pre (pre_mt C hH hA trivial) (As := [.int (xs (i + 1)), .int (xs (i + 2)), .int (xs (i + 3))]) (rest := []) rfl hl.1 rfl rfl rfl ⟨Nat.le_of_ble_eq_true rfl, Nat.le_of_ble_eq_true rfl⟩ (Nat.le_of_ble_eq_true rfl) ⟨by show cells + 1 + 0 ≤ 601024; omega, by show slots + 6 + 0 ≤ 7293034; omega⟩ d_Law_law_612) hH.2.2 (fun H locs hH => ?_)
    refine x_sx C b_Law_law_615_618 hl (L' := [(6, .int 0), (5, .int 1), (0, .ref b0), (1, .ref (sd 0)), (2, .ref (ad 20)), (3, .ref oa), (4, .int (nI i))]) (st' := [.ref (ad 20)]) rfl (fun ls hl => ?_)
    refine x_ro (x_cV C hH.1 mW_o rfl (c_Mo_thrown l G ad (cW G rb n md rd sd ms fl mn (va_up sc 0 1) ar b (oW G oa f)) (va_up sc 0 1) ar) t_746 t_14 t_743 t_744 t_745 hd_Mo_thrown blind_Pro (pre_ro C hH.1 hH.2.2) (As := []) (rest := []) rfl hl.1 rfl rfl rfl ⟨Nat.le_of_ble_eq_true rfl, Nat.le_of_ble_eq_true rfl⟩ (Nat.le_of_ble_eq_true rfl) ⟨by show cells + 1 + 0 ≤ 601024; omega, by show slots + 6 + 0 ≤ 7293034; omega⟩ d_Law_law_618) ?_
    refine x_sx C b_Law_law_621_623 hl (L' := [(6, .int 0), (5, .int 1), (0, .ref b0), (1, .ref (sd 0)), (2, .ref (ad 20)), (3, .ref oa), (4, .int (nI i))]) (st' := [.int 1, .int ((va_up sc 0 1) 0)]) rfl (fun ls hl => ?_)
    refine lv_icmp_eq (tgt := 628) C.1 C.2.1 d_Law_law_623 (by decide) (fun _ => ?_) (fun h => absurd (up_s _ _ _) h)
    refine x_sx C b_Law_law_628_630 hl (L' := [(6, .int 0), (5, .int 1), (0, .ref b0), (1, .ref (sd 0)), (2, .ref (ad 20)), (3, .ref oa), (4, .int (nI i))]) (st' := [.int 1]) rfl (fun ls hl => ?_)
    refine lv_if_ne (tgt := 645) C.1 C.2.1 d_Law_law_630 (by decide) (fun _ => ?_) (fun h => absurd h (by decide))
    refine x_goto (tgt := 1069) C d_Law_law_645 (by decide) ?_
    exact kk H locs _ _ ls ⟨rb, n, md, rd, sd, ms, fl, mn, (va_up sc 0 1), ar, b, np, f, (hR.z _), rfl, by rw [to_mW hn (by omega)]; exact hH⟩ (by omega) (by omega) (lv_sub hl [2, 3, 4, 5, 6] rfl)
theorem b_Law_law_661_667 : decs code [(.aload_n 1, 1), (.aload_n 0, 1), (.iload 4, 2), (.iconst 1, 1), (.iadd, 1)] 661 667 = true := by decide +kernel
theorem d_Law_law_667 : decode code 667 = .ok (.iaload, 1) := by decide +kernel
theorem b_Law_law_668_673 : decs code [(.aload_n 0, 1), (.iload 4, 2), (.iconst 2, 1), (.iadd, 1)] 668 673 = true := by decide +kernel
theorem d_Law_law_673 : decode code 673 = .ok (.iaload, 1) := by decide +kernel
theorem b_Law_law_674_675 : decs code [(.aload_n 3, 1)] 674 675 = true := by decide +kernel
theorem d_Law_law_675 : decode code 675 = .ok (.invokestatic 101, 3) := by decide +kernel
theorem b_Law_law_678_686 : decs code [(.istore 5, 2), (.aload_n 2, 1), (.aload_n 0, 1), (.iload 4, 2), (.iconst 1, 1), (.iadd, 1)] 678 686 = true := by decide +kernel
theorem d_Law_law_686 : decode code 686 = .ok (.iaload, 1) := by decide +kernel
theorem b_Law_law_687_692 : decs code [(.aload_n 0, 1), (.iload 4, 2), (.iconst 2, 1), (.iadd, 1)] 687 692 = true := by decide +kernel
theorem d_Law_law_692 : decode code 692 = .ok (.iaload, 1) := by decide +kernel
theorem d_Law_law_693 : decode code 693 = .ok (.invokevirtual 103, 3) := by decide +kernel
theorem b_Law_law_696_699 : decs code [(.istore 6, 2), (.aload_n 2, 1)] 696 699 = true := by decide +kernel
theorem d_Law_law_699 : decode code 699 = .ok (.invokevirtual 71, 3) := by decide +kernel
theorem b_Law_law_702_704 : decs code [(.iload 5, 2)] 702 704 = true := by decide +kernel
theorem d_Law_law_704 : decode code 704 = .ok (.if_icmp .eq 5, 3) := by decide +kernel
theorem b_Law_law_709_711 : decs code [(.iload 5, 2)] 709 711 = true := by decide +kernel
theorem d_Law_law_711 : decode code 711 = .ok (.ifCond .ne 22, 3) := by decide +kernel
theorem b_Law_law_714_716 : decs code [(.aload_n 3, 1), (.iconst 0, 1)] 714 716 = true := by decide +kernel
theorem d_Law_law_716 : decode code 716 = .ok (.laload, 1) := by decide +kernel
theorem b_Law_law_717_719 : decs code [(.iload 6, 2)] 717 719 = true := by decide +kernel
theorem d_Law_law_719 : decode code 719 = .ok (.ifCond .eq 7, 3) := by decide +kernel
theorem b_Law_law_726_728 : decs code [(.lconst 0, 1), (.lcmp, 1)] 726 728 = true := by decide +kernel
theorem d_Law_law_728 : decode code 728 = .ok (.ifCond .eq 5, 3) := by decide +kernel
theorem d_Law_law_733 : decode code 733 = .ok (.goto 336, 3) := by decide +kernel
theorem b_Law_law_722_723 : decs code [(.lconst 1, 1)] 722 723 = true := by decide +kernel
theorem d_Law_law_723 : decode code 723 = .ok (.goto 4, 3) := by decide +kernel
theorem b_Law_law_727_728 : decs code [(.lcmp, 1)] 727 728 = true := by decide +kernel
set_option maxRecDepth 100000 in
set_option maxHeartbeats 4000000 in
theorem lo_cell {p : Program} {l : Launch} {e : Env} {s : State} {m : MethodId} {below : List Frame} {meth : Method} {c : Code} {G : GG} {A : Nat → Prop} {b0 L : Nat} {xs : Nat → Int32} {H : Heap} {locs : List Loc} {cells slots : Nat} {Q : State → Prop} {ls : Array Slot} {oa sa : Nat} {ad : Nat → Nat} {i : Nat} (C : Cx p s m #[.ref b0] meth c code 7 "SweptPathsLaw" G A) (hfl : l.flags = pinnedFlags ++ [noTraceFlag]) (hA : ∀ q, s.heap.size ≤ q → A q) (hX : va_X b0 L xs s s.heap) (hbl : b0 < s.heap.size) (hbA : ¬ A b0) (hL : L ≤ 384) (hi : i + 6 ≤ L) (hI : LI G A s oa ad sa H locs) (hce : cells ≤ 100000) (hsl : slots ≤ 1000000) (hl : lv_has ls 7 [(0, .ref b0), (1, .ref sa), (2, .ref (ad 20)), (3, .ref oa), (4, .int (nI i))]) (kk : ∀ (H : Heap) (locs : List Loc) (cells2 slots2 : Nat) (ls : Array Slot), LI G A s oa ad sa H locs → cells2 ≤ cells + 80 → slots2 ≤ slots + 2224 → lv_has ls 7 [(0, .ref b0), (1, .ref sa), (2, .ref (ad 20)), (3, .ref oa), (4, .int (nI i))] → W p l e room_1 s m #[.ref b0] below meth c H locs cells2 slots2 Q (F0 m 1069 ls [])) : W p l e room_1 s m #[.ref b0] below meth c H locs cells slots Q (F0 m 661 ls []) := by
  obtain ⟨rb, n, md, rd, sd, ms, fl, mn, sc, ar, b, np, f, hR, rfl, hH⟩ := hI
  have hn := hR.n3
  have hrbE := hR.1
  have h1 : sc 1 = nI n := hR.2.1.1.1
  have h6 : sc 6 = nI np := hR.2.1.1.2.2.1
  have hnp : np ≤ 20 := hR.2.1.1.2.2.2.1
  have hrb : 100 ≤ rb := by omega
  have hrb2 : rb ≤ 200 := by omega
  have hz0 : Z01 (ar 17) := hR.2.1.2.1
  by_cases hv : p_in (xs (i + 1)) (-32) 31 = 1 ∧ p_in (xs (i + 2)) (-32) 31 = 1
  · obtain ⟨x1, hx1, e1⟩ := cell_ix hv.1
    obtain ⟨y1, hy1, e2⟩ := cell_ix hv.2
    rw [e1, e2] at hv
    rw [cW_0 (v := 0)] at hH
    refine x_sx C b_Law_law_661_667 hl (L' := [(0, .ref b0), (1, .ref (sd 0)), (2, .ref (ad 20)), (3, .ref oa), (4, .int (nI i))]) (st' := [.int ((nI i) + 1), .ref b0, .ref (sd 0)]) rfl (fun ls hl => ?_)
    refine x_sld C hX hbl hbA hH.2.2 hL (ix_1 i) (by omega) d_Law_law_667 ?_
    rw [e1]
    refine x_sx C b_Law_law_668_673 hl (L' := [(0, .ref b0), (1, .ref (sd 0)), (2, .ref (ad 20)), (3, .ref oa), (4, .int (nI i))]) (st' := [.int ((nI i) + 2), .ref b0, .int (zs x1), .ref (sd 0)]) rfl (fun ls hl => ?_)
    refine x_sld C hX hbl hbA hH.2.2 hL (ix_2 i) (by omega) d_Law_law_673 ?_
    rw [e2]
    refine x_sx C b_Law_law_674_675 hl (L' := [(0, .ref b0), (1, .ref (sd 0)), (2, .ref (ad 20)), (3, .ref oa), (4, .int (nI i))]) (st' := [.ref oa, .int (zs y1), .int (zs x1), .ref (sd 0)]) rfl (fun ls hl => ?_)
    refine x_q1 (x_cSW C (c_Law_cell l G A rb n md rd sd ms fl mn (va_up sc 0 0) ar b (lwW G oa f ad sc ar) x1 y1 hn hrb hx1 hy1 hv hR.2.2.2.2 hz0 oa f hrbE lwW_o) t_561 t_0 t_559 t_560 hd_Law_cell blind_Pre (pre_mt C hH hA trivial) (As := [.ref (sd 0), .int (zs x1), .int (zs y1), .ref oa]) (rest := []) rfl hl.1 rfl rfl rfl ⟨(Nat.le_of_ble_eq_true rfl), (Nat.le_of_ble_eq_true rfl)⟩ (Nat.le_of_ble_eq_true rfl) ⟨by show cells + 0 ≤ 601024; omega, by show slots + 0 ≤ 7293034; omega⟩ d_Law_law_675) hH.2.2 (fun x H locs hx hH hz => ?_)
    rw [lwW_up] at hH
    rw [to_mW hn (by omega)] at hH
    refine x_sx C b_Law_law_678_686 hl (L' := [(5, .int 0), (0, .ref b0), (1, .ref (sd 0)), (2, .ref (ad 20)), (3, .ref oa), (4, .int (nI i))]) (st' := [.int ((nI i) + 1), .ref b0, .ref (ad 20)]) rfl (fun ls hl => ?_)
    refine x_sld C hX hbl hbA hH.2.2 hL (ix_1 i) (by omega) d_Law_law_686 ?_
    rw [e1]
    refine x_sx C b_Law_law_687_692 hl (L' := [(5, .int 0), (0, .ref b0), (1, .ref (sd 0)), (2, .ref (ad 20)), (3, .ref oa), (4, .int (nI i))]) (st' := [.int ((nI i) + 2), .ref b0, .int (zs x1), .ref (ad 20)]) rfl (fun ls hl => ?_)
    refine x_sld C hX hbl hbA hH.2.2 hL (ix_2 i) (by omega) d_Law_law_692 ?_
    rw [e2]
    refine x_mw1 (x_cV C hH.1 mW_o rfl (c_Mo_cell l G A ad (cW G rb n md rd sd ms fl mn (va_up sc 0 0) ar b (oW G oa (vp_updL f 0 ((ar 17 (64 * x1 + y1))).toInt64))) sc ar x1 y1 hv hx1 hy1 hz0) t_834 t_14 t_831 t_832 t_833 hd_Mo_cell blind_Pre (pre_mt C hH hA trivial) (As := [.int (zs x1), .int (zs y1)]) (rest := []) rfl hl.1 rfl rfl rfl ⟨Nat.le_of_ble_eq_true rfl, Nat.le_of_ble_eq_true rfl⟩ (Nat.le_of_ble_eq_true rfl) ⟨by show cells + 0 + 0 ≤ 601024; omega, by show slots + 0 + 0 ≤ 7293034; omega⟩ d_Law_law_693) hH.2.2 (fun H locs hH => ?_)
    refine x_sx C b_Law_law_696_699 hl (L' := [(6, .int (ar 17 (64 * x1 + y1))), (5, .int 0), (0, .ref b0), (1, .ref (sd 0)), (2, .ref (ad 20)), (3, .ref oa), (4, .int (nI i))]) (st' := [.ref (ad 20)]) rfl (fun ls hl => ?_)
    refine x_ro (x_cV C hH.1 mW_o rfl (c_Mo_thrown l G ad (cW G rb n md rd sd ms fl mn (va_up sc 0 0) ar b (oW G oa (vp_updL f 0 ((ar 17 (64 * x1 + y1))).toInt64))) (va_up sc 0 0) ar) t_746 t_14 t_743 t_744 t_745 hd_Mo_thrown blind_Pro (pre_ro C hH.1 hH.2.2) (As := []) (rest := []) rfl hl.1 rfl rfl rfl ⟨Nat.le_of_ble_eq_true rfl, Nat.le_of_ble_eq_true rfl⟩ (Nat.le_of_ble_eq_true rfl) ⟨by show cells + 0 + 0 ≤ 601024; omega, by show slots + 0 + 0 ≤ 7293034; omega⟩ d_Law_law_699) ?_
    refine x_sx C b_Law_law_702_704 hl (L' := [(6, .int (ar 17 (64 * x1 + y1))), (5, .int 0), (0, .ref b0), (1, .ref (sd 0)), (2, .ref (ad 20)), (3, .ref oa), (4, .int (nI i))]) (st' := [.int 0, .int ((va_up sc 0 0) 0)]) rfl (fun ls hl => ?_)
    refine lv_icmp_eq (tgt := 709) C.1 C.2.1 d_Law_law_704 (by decide) (fun _ => ?_) (fun h => absurd (up_s _ _ _) h)
    refine x_sx C b_Law_law_709_711 hl (L' := [(6, .int (ar 17 (64 * x1 + y1))), (5, .int 0), (0, .ref b0), (1, .ref (sd 0)), (2, .ref (ad 20)), (3, .ref oa), (4, .int (nI i))]) (st' := [.int 0]) rfl (fun ls hl => ?_)
    refine lv_if_ne (tgt := 733) C.1 C.2.1 d_Law_law_711 (by decide) (fun h => absurd (by decide) h) (fun _ => ?_)
    refine x_sx C b_Law_law_714_716 hl (L' := [(6, .int (ar 17 (64 * x1 + y1))), (5, .int 0), (0, .ref b0), (1, .ref (sd 0)), (2, .ref (ad 20)), (3, .ref oa), (4, .int (nI i))]) (st' := [.int 0, .ref oa]) rfl (fun ls hl => ?_)
    refine x_lld C hH.1 500 (mo_o hn (by omega)) (j := 0) rfl (by decide) (by decide) d_Law_law_716 ?_
    refine x_sx C b_Law_law_717_719 hl (L' := [(6, .int (ar 17 (64 * x1 + y1))), (5, .int 0), (0, .ref b0), (1, .ref (sd 0)), (2, .ref (ad 20)), (3, .ref oa), (4, .int (nI i))]) (st' := [.int (ar 17 (64 * x1 + y1)), .long ((ar 17 (64 * x1 + y1))).toInt64]) rfl (fun ls hl => ?_)
    refine lv_if_eq (tgt := 726) C.1 C.2.1 d_Law_law_719 (by decide) (fun h1 => ?_) (fun h1 => ?_)
    · refine x_sx C b_Law_law_726_728 hl (L' := [(6, .int (ar 17 (64 * x1 + y1))), (5, .int 0), (0, .ref b0), (1, .ref (sd 0)), (2, .ref (ad 20)), (3, .ref oa), (4, .int (nI i))]) (st' := [.int (lg_cmp (((ar 17 (64 * x1 + y1))).toInt64) 0)]) rfl (fun ls hl => ?_)
      refine lv_if_eq (tgt := 733) C.1 C.2.1 d_Law_law_728 (by decide) (fun _ => ?_) (fun h => absurd ((lg_cmp_eq _ _).mpr (by rw [h1]; rfl)) h)
      refine x_goto (tgt := 1069) C d_Law_law_733 (by decide) ?_
      exact kk H locs _ _ ls ⟨rb, n, md, rd, sd, ms, fl, mn, (va_up sc 0 0), ar, b, np, (vp_updL f 0 ((ar 17 (64 * x1 + y1))).toInt64), (hR.z 0), rfl, by rw [to_mW hn (by omega)]; exact hH⟩ (by omega) (by omega) (lv_sub hl [2, 3, 4, 5, 6] rfl)
    · refine x_sx C b_Law_law_722_723 hl (L' := [(6, .int (ar 17 (64 * x1 + y1))), (5, .int 0), (0, .ref b0), (1, .ref (sd 0)), (2, .ref (ad 20)), (3, .ref oa), (4, .int (nI i))]) (st' := [.long 1, .long ((ar 17 (64 * x1 + y1))).toInt64]) rfl (fun ls hl => ?_)
      refine x_goto (tgt := 727) C d_Law_law_723 (by decide) ?_
      refine x_sx C b_Law_law_727_728 hl (L' := [(6, .int (ar 17 (64 * x1 + y1))), (5, .int 0), (0, .ref b0), (1, .ref (sd 0)), (2, .ref (ad 20)), (3, .ref oa), (4, .int (nI i))]) (st' := [.int (lg_cmp (((ar 17 (64 * x1 + y1))).toInt64) 1)]) rfl (fun ls hl => ?_)
      refine lv_if_eq (tgt := 733) C.1 C.2.1 d_Law_law_728 (by decide) (fun _ => ?_) (fun h => absurd ((lg_cmp_eq _ _).mpr (by rcases hz0 (64 * x1 + y1) (by omega) with q | q; exact absurd q h1; rw [q]; rfl)) h)
      refine x_goto (tgt := 1069) C d_Law_law_733 (by decide) ?_
      exact kk H locs _ _ ls ⟨rb, n, md, rd, sd, ms, fl, mn, (va_up sc 0 0), ar, b, np, (vp_updL f 0 ((ar 17 (64 * x1 + y1))).toInt64), (hR.z 0), rfl, by rw [to_mW hn (by omega)]; exact hH⟩ (by omega) (by omega) (lv_sub hl [2, 3, 4, 5, 6] rfl)
  · rw [cW_0 (v := 1)] at hH
    refine x_sx C b_Law_law_661_667 hl (L' := [(0, .ref b0), (1, .ref (sd 0)), (2, .ref (ad 20)), (3, .ref oa), (4, .int (nI i))]) (st' := [.int ((nI i) + 1), .ref b0, .ref (sd 0)]) rfl (fun ls hl => ?_)
    refine x_sld C hX hbl hbA hH.2.2 hL (ix_1 i) (by omega) d_Law_law_667 ?_
    refine x_sx C b_Law_law_668_673 hl (L' := [(0, .ref b0), (1, .ref (sd 0)), (2, .ref (ad 20)), (3, .ref oa), (4, .int (nI i))]) (st' := [.int ((nI i) + 2), .ref b0, .int (xs (i + 1)), .ref (sd 0)]) rfl (fun ls hl => ?_)
    refine x_sld C hX hbl hbA hH.2.2 hL (ix_2 i) (by omega) d_Law_law_673 ?_
    refine x_sx C b_Law_law_674_675 hl (L' := [(0, .ref b0), (1, .ref (sd 0)), (2, .ref (ad 20)), (3, .ref oa), (4, .int (nI i))]) (st' := [.ref oa, .int (xs (i + 2)), .int (xs (i + 1)), .ref (sd 0)]) rfl (fun ls hl => ?_)
    refine x_q1 (x_cSW C (c_Law_cell_1 l G A rb n md rd sd ms fl mn (va_up sc 0 1) ar b (lwW G oa f ad sc ar) (xs (i + 1)) (xs (i + 2)) hfl hn hrb hv oa f hrbE lwW_o) t_561 t_0 t_559 t_560 hd_Law_cell blind_Pre (pre_mt C hH hA trivial) (As := [.ref (sd 0), .int (xs (i + 1)), .int (xs (i + 2)), .ref oa]) (rest := []) rfl hl.1 rfl rfl rfl ⟨(Nat.le_of_ble_eq_true rfl), (Nat.le_of_ble_eq_true rfl)⟩ (Nat.le_of_ble_eq_true rfl) ⟨by show cells + 1 ≤ 601024; omega, by show slots + 6 ≤ 7293034; omega⟩ d_Law_law_675) hH.2.2 (fun x H locs hx hH hz => ?_)
    rw [to_mW hn (by omega)] at hH
    refine x_sx C b_Law_law_678_686 hl (L' := [(5, .int 1), (0, .ref b0), (1, .ref (sd 0)), (2, .ref (ad 20)), (3, .ref oa), (4, .int (nI i))]) (st' := [.int ((nI i) + 1), .ref b0, .ref (ad 20)]) rfl (fun ls hl => ?_)
    refine x_sld C hX hbl hbA hH.2.2 hL (ix_1 i) (by omega) d_Law_law_686 ?_
    refine x_sx C b_Law_law_687_692 hl (L' := [(5, .int 1), (0, .ref b0), (1, .ref (sd 0)), (2, .ref (ad 20)), (3, .ref oa), (4, .int (nI i))]) (st' := [.int ((nI i) + 2), .ref b0, .int (xs (i + 1)), .ref (ad 20)]) rfl (fun ls hl => ?_)
    refine x_sld C hX hbl hbA hH.2.2 hL (ix_2 i) (by omega) d_Law_law_692 ?_
    refine x_mw1 (x_cV C hH.1 mW_o rfl (c_Mo_cell_1 l G A ad (cW G rb n md rd sd ms fl mn (va_up sc 0 1) ar b (oW G oa f)) sc ar (xs (i + 1)) (xs (i + 2)) hv) t_834 t_14 t_831 t_832 t_833 hd_Mo_cell blind_Pre (pre_mt C hH hA trivial) (As := [.int (xs (i + 1)), .int (xs (i + 2))]) (rest := []) rfl hl.1 rfl rfl rfl ⟨Nat.le_of_ble_eq_true rfl, Nat.le_of_ble_eq_true rfl⟩ (Nat.le_of_ble_eq_true rfl) ⟨by show cells + 1 + 0 ≤ 601024; omega, by show slots + 6 + 0 ≤ 7293034; omega⟩ d_Law_law_693) hH.2.2 (fun H locs hH => ?_)
    refine x_sx C b_Law_law_696_699 hl (L' := [(6, .int 0), (5, .int 1), (0, .ref b0), (1, .ref (sd 0)), (2, .ref (ad 20)), (3, .ref oa), (4, .int (nI i))]) (st' := [.ref (ad 20)]) rfl (fun ls hl => ?_)
    refine x_ro (x_cV C hH.1 mW_o rfl (c_Mo_thrown l G ad (cW G rb n md rd sd ms fl mn (va_up sc 0 1) ar b (oW G oa f)) (va_up sc 0 1) ar) t_746 t_14 t_743 t_744 t_745 hd_Mo_thrown blind_Pro (pre_ro C hH.1 hH.2.2) (As := []) (rest := []) rfl hl.1 rfl rfl rfl ⟨Nat.le_of_ble_eq_true rfl, Nat.le_of_ble_eq_true rfl⟩ (Nat.le_of_ble_eq_true rfl) ⟨by show cells + 1 + 0 ≤ 601024; omega, by show slots + 6 + 0 ≤ 7293034; omega⟩ d_Law_law_699) ?_
    refine x_sx C b_Law_law_702_704 hl (L' := [(6, .int 0), (5, .int 1), (0, .ref b0), (1, .ref (sd 0)), (2, .ref (ad 20)), (3, .ref oa), (4, .int (nI i))]) (st' := [.int 1, .int ((va_up sc 0 1) 0)]) rfl (fun ls hl => ?_)
    refine lv_icmp_eq (tgt := 709) C.1 C.2.1 d_Law_law_704 (by decide) (fun _ => ?_) (fun h => absurd (up_s _ _ _) h)
    refine x_sx C b_Law_law_709_711 hl (L' := [(6, .int 0), (5, .int 1), (0, .ref b0), (1, .ref (sd 0)), (2, .ref (ad 20)), (3, .ref oa), (4, .int (nI i))]) (st' := [.int 1]) rfl (fun ls hl => ?_)
    refine lv_if_ne (tgt := 733) C.1 C.2.1 d_Law_law_711 (by decide) (fun _ => ?_) (fun h => absurd h (by decide))
    refine x_goto (tgt := 1069) C d_Law_law_733 (by decide) ?_
    exact kk H locs _ _ ls ⟨rb, n, md, rd, sd, ms, fl, mn, (va_up sc 0 1), ar, b, np, f, (hR.z _), rfl, by rw [to_mW hn (by omega)]; exact hH⟩ (by omega) (by omega) (lv_sub hl [2, 3, 4, 5, 6] rfl)
theorem b_Law_law_736_742 : decs code [(.aload_n 1, 1), (.aload_n 0, 1), (.iload 4, 2), (.iconst 1, 1), (.iadd, 1)] 736 742 = true := by decide +kernel
theorem d_Law_law_742 : decode code 742 = .ok (.iaload, 1) := by decide +kernel
theorem b_Law_law_743_744 : decs code [(.aload_n 3, 1)] 743 744 = true := by decide +kernel
theorem d_Law_law_744 : decode code 744 = .ok (.invokestatic 104, 3) := by decide +kernel
theorem b_Law_law_747_755 : decs code [(.istore 5, 2), (.aload_n 2, 1), (.aload_n 0, 1), (.iload 4, 2), (.iconst 1, 1), (.iadd, 1)] 747 755 = true := by decide +kernel
theorem d_Law_law_755 : decode code 755 = .ok (.iaload, 1) := by decide +kernel
theorem d_Law_law_756 : decode code 756 = .ok (.invokevirtual 106, 3) := by decide +kernel
theorem b_Law_law_759_762 : decs code [(.istore 6, 2), (.aload_n 2, 1)] 759 762 = true := by decide +kernel
theorem d_Law_law_762 : decode code 762 = .ok (.invokevirtual 71, 3) := by decide +kernel
theorem b_Law_law_765_767 : decs code [(.iload 5, 2)] 765 767 = true := by decide +kernel
theorem d_Law_law_767 : decode code 767 = .ok (.if_icmp .eq 5, 3) := by decide +kernel
theorem b_Law_law_772_774 : decs code [(.iload 5, 2)] 772 774 = true := by decide +kernel
theorem d_Law_law_774 : decode code 774 = .ok (.ifCond .ne 15, 3) := by decide +kernel
theorem b_Law_law_777_779 : decs code [(.aload_n 3, 1), (.iconst 0, 1)] 777 779 = true := by decide +kernel
theorem d_Law_law_779 : decode code 779 = .ok (.laload, 1) := by decide +kernel
theorem b_Law_law_780_784 : decs code [(.iload 6, 2), (.i2l, 1), (.lcmp, 1)] 780 784 = true := by decide +kernel
theorem d_Law_law_784 : decode code 784 = .ok (.ifCond .eq 5, 3) := by decide +kernel
theorem d_Law_law_789 : decode code 789 = .ok (.goto 280, 3) := by decide +kernel
set_option maxRecDepth 100000 in
set_option maxHeartbeats 4000000 in
theorem lo_clash {p : Program} {l : Launch} {e : Env} {s : State} {m : MethodId} {below : List Frame} {meth : Method} {c : Code} {G : GG} {A : Nat → Prop} {b0 L : Nat} {xs : Nat → Int32} {H : Heap} {locs : List Loc} {cells slots : Nat} {Q : State → Prop} {ls : Array Slot} {oa sa : Nat} {ad : Nat → Nat} {i : Nat} (C : Cx p s m #[.ref b0] meth c code 7 "SweptPathsLaw" G A) (hfl : l.flags = pinnedFlags ++ [noTraceFlag]) (hA : ∀ q, s.heap.size ≤ q → A q) (hX : va_X b0 L xs s s.heap) (hbl : b0 < s.heap.size) (hbA : ¬ A b0) (hL : L ≤ 384) (hi : i + 6 ≤ L) (hI : LI G A s oa ad sa H locs) (hce : cells ≤ 100000) (hsl : slots ≤ 1000000) (hl : lv_has ls 7 [(0, .ref b0), (1, .ref sa), (2, .ref (ad 20)), (3, .ref oa), (4, .int (nI i))]) (kk : ∀ (H : Heap) (locs : List Loc) (cells2 slots2 : Nat) (ls : Array Slot), LI G A s oa ad sa H locs → cells2 ≤ cells + 80 → slots2 ≤ slots + 2224 → lv_has ls 7 [(0, .ref b0), (1, .ref sa), (2, .ref (ad 20)), (3, .ref oa), (4, .int (nI i))] → W p l e room_1 s m #[.ref b0] below meth c H locs cells2 slots2 Q (F0 m 1069 ls [])) : W p l e room_1 s m #[.ref b0] below meth c H locs cells slots Q (F0 m 736 ls []) := by
  obtain ⟨rb, n, md, rd, sd, ms, fl, mn, sc, ar, b, np, f, hR, rfl, hH⟩ := hI
  have hn := hR.n3
  have hrbE := hR.1
  have h1 : sc 1 = nI n := hR.2.1.1.1
  have h6 : sc 6 = nI np := hR.2.1.1.2.2.1
  have hnp : np ≤ 20 := hR.2.1.1.2.2.2.1
  have hrb : 100 ≤ rb := by omega
  have hrb2 : rb ≤ 200 := by omega
  have hz0 : Z01 (ar 17) := hR.2.1.2.1
  by_cases hv : p_in (xs (i + 1)) 0 2 = 1
  · rw [cW_0 (v := 0)] at hH
    refine x_sx C b_Law_law_736_742 hl (L' := [(0, .ref b0), (1, .ref (sd 0)), (2, .ref (ad 20)), (3, .ref oa), (4, .int (nI i))]) (st' := [.int ((nI i) + 1), .ref b0, .ref (sd 0)]) rfl (fun ls hl => ?_)
    refine x_sld C hX hbl hbA hH.2.2 hL (ix_1 i) (by omega) d_Law_law_742 ?_
    refine x_sx C b_Law_law_743_744 hl (L' := [(0, .ref b0), (1, .ref (sd 0)), (2, .ref (ad 20)), (3, .ref oa), (4, .int (nI i))]) (st' := [.ref oa, .int (xs (i + 1)), .ref (sd 0)]) rfl (fun ls hl => ?_)
    refine x_q1 (x_cSW C (c_Law_clash l G A rb n md rd sd ms fl mn (va_up sc 0 0) ar b (lwW G oa f ad sc ar) (xs (i + 1)) hn hrb hv oa f hrbE lwW_o) t_572 t_0 t_570 t_571 hd_Law_clash blind_Pre (pre_mt C hH hA trivial) (As := [.ref (sd 0), .int (xs (i + 1)), .ref oa]) (rest := []) rfl hl.1 rfl rfl rfl ⟨(Nat.le_of_ble_eq_true rfl), (Nat.le_of_ble_eq_true rfl)⟩ (Nat.le_of_ble_eq_true rfl) ⟨by show cells + 0 ≤ 601024; omega, by show slots + 0 ≤ 7293034; omega⟩ d_Law_law_744) hH.2.2 (fun x H locs hx hH hz => ?_)
    rw [lwW_up] at hH
    rw [to_mW hn (by omega)] at hH
    refine x_sx C b_Law_law_747_755 hl (L' := [(5, .int 0), (0, .ref b0), (1, .ref (sd 0)), (2, .ref (ad 20)), (3, .ref oa), (4, .int (nI i))]) (st' := [.int ((nI i) + 1), .ref b0, .ref (ad 20)]) rfl (fun ls hl => ?_)
    refine x_sld C hX hbl hbA hH.2.2 hL (ix_1 i) (by omega) d_Law_law_755 ?_
    refine x_mw1 (x_cV C hH.1 mW_o rfl (c_Mo_clash l G A ad (cW G rb n md rd sd ms fl mn (va_up sc 0 0) ar b (oW G oa (vp_updL f 0 (fClash (va_up sc 0 0) (xs (i + 1))).toInt64))) sc ar (xs (i + 1)) hv) t_838 t_14 t_835 t_836 t_837 hd_Mo_clash blind_Pre (pre_mt C hH hA trivial) (As := [.int (xs (i + 1))]) (rest := []) rfl hl.1 rfl rfl rfl ⟨Nat.le_of_ble_eq_true rfl, Nat.le_of_ble_eq_true rfl⟩ (Nat.le_of_ble_eq_true rfl) ⟨by show cells + 0 + 0 ≤ 601024; omega, by show slots + 0 + 0 ≤ 7293034; omega⟩ d_Law_law_756) hH.2.2 (fun H locs hH => ?_)
    refine x_sx C b_Law_law_759_762 hl (L' := [(6, .int (fClash sc (xs (i + 1)))), (5, .int 0), (0, .ref b0), (1, .ref (sd 0)), (2, .ref (ad 20)), (3, .ref oa), (4, .int (nI i))]) (st' := [.ref (ad 20)]) rfl (fun ls hl => ?_)
    refine x_ro (x_cV C hH.1 mW_o rfl (c_Mo_thrown l G ad (cW G rb n md rd sd ms fl mn (va_up sc 0 0) ar b (oW G oa (vp_updL f 0 (fClash (va_up sc 0 0) (xs (i + 1))).toInt64))) (va_up sc 0 0) ar) t_746 t_14 t_743 t_744 t_745 hd_Mo_thrown blind_Pro (pre_ro C hH.1 hH.2.2) (As := []) (rest := []) rfl hl.1 rfl rfl rfl ⟨Nat.le_of_ble_eq_true rfl, Nat.le_of_ble_eq_true rfl⟩ (Nat.le_of_ble_eq_true rfl) ⟨by show cells + 0 + 0 ≤ 601024; omega, by show slots + 0 + 0 ≤ 7293034; omega⟩ d_Law_law_762) ?_
    refine x_sx C b_Law_law_765_767 hl (L' := [(6, .int (fClash sc (xs (i + 1)))), (5, .int 0), (0, .ref b0), (1, .ref (sd 0)), (2, .ref (ad 20)), (3, .ref oa), (4, .int (nI i))]) (st' := [.int 0, .int ((va_up sc 0 0) 0)]) rfl (fun ls hl => ?_)
    refine lv_icmp_eq (tgt := 772) C.1 C.2.1 d_Law_law_767 (by decide) (fun _ => ?_) (fun h => absurd (up_s _ _ _) h)
    refine x_sx C b_Law_law_772_774 hl (L' := [(6, .int (fClash sc (xs (i + 1)))), (5, .int 0), (0, .ref b0), (1, .ref (sd 0)), (2, .ref (ad 20)), (3, .ref oa), (4, .int (nI i))]) (st' := [.int 0]) rfl (fun ls hl => ?_)
    refine lv_if_ne (tgt := 789) C.1 C.2.1 d_Law_law_774 (by decide) (fun h => absurd (by decide) h) (fun _ => ?_)
    refine x_sx C b_Law_law_777_779 hl (L' := [(6, .int (fClash sc (xs (i + 1)))), (5, .int 0), (0, .ref b0), (1, .ref (sd 0)), (2, .ref (ad 20)), (3, .ref oa), (4, .int (nI i))]) (st' := [.int 0, .ref oa]) rfl (fun ls hl => ?_)
    refine x_lld C hH.1 500 (mo_o hn (by omega)) (j := 0) rfl (by decide) (by decide) d_Law_law_779 ?_
    refine x_sx C b_Law_law_780_784 hl (L' := [(6, .int (fClash sc (xs (i + 1)))), (5, .int 0), (0, .ref b0), (1, .ref (sd 0)), (2, .ref (ad 20)), (3, .ref oa), (4, .int (nI i))]) (st' := [.int (lg_cmp ((fClash (va_up sc 0 0) (xs (i + 1))).toInt64) ((fClash sc (xs (i + 1))).toInt64))]) rfl (fun ls hl => ?_)
    refine lv_if_eq (tgt := 789) C.1 C.2.1 d_Law_law_784 (by decide) (fun _ => ?_) (fun h => absurd ((lg_cmp_eq _ _).mpr rfl) h)
    refine x_goto (tgt := 1069) C d_Law_law_789 (by decide) ?_
    exact kk H locs _ _ ls ⟨rb, n, md, rd, sd, ms, fl, mn, (va_up sc 0 0), ar, b, np, (vp_updL f 0 (fClash (va_up sc 0 0) (xs (i + 1))).toInt64), (hR.z 0), rfl, by rw [to_mW hn (by omega)]; exact hH⟩ (by omega) (by omega) (lv_sub hl [2, 3, 4, 5, 6] rfl)
  · rw [cW_0 (v := 1)] at hH
    refine x_sx C b_Law_law_736_742 hl (L' := [(0, .ref b0), (1, .ref (sd 0)), (2, .ref (ad 20)), (3, .ref oa), (4, .int (nI i))]) (st' := [.int ((nI i) + 1), .ref b0, .ref (sd 0)]) rfl (fun ls hl => ?_)
    refine x_sld C hX hbl hbA hH.2.2 hL (ix_1 i) (by omega) d_Law_law_742 ?_
    refine x_sx C b_Law_law_743_744 hl (L' := [(0, .ref b0), (1, .ref (sd 0)), (2, .ref (ad 20)), (3, .ref oa), (4, .int (nI i))]) (st' := [.ref oa, .int (xs (i + 1)), .ref (sd 0)]) rfl (fun ls hl => ?_)
    refine x_q1 (x_cSW C (c_Law_clash_1 l G A rb n md rd sd ms fl mn (va_up sc 0 1) ar b (lwW G oa f ad sc ar) (xs (i + 1)) hfl hn hrb hv oa f hrbE lwW_o) t_572 t_0 t_570 t_571 hd_Law_clash blind_Pre (pre_mt C hH hA trivial) (As := [.ref (sd 0), .int (xs (i + 1)), .ref oa]) (rest := []) rfl hl.1 rfl rfl rfl ⟨(Nat.le_of_ble_eq_true rfl), (Nat.le_of_ble_eq_true rfl)⟩ (Nat.le_of_ble_eq_true rfl) ⟨by show cells + 1 ≤ 601024; omega, by show slots + 6 ≤ 7293034; omega⟩ d_Law_law_744) hH.2.2 (fun x H locs hx hH hz => ?_)
    rw [to_mW hn (by omega)] at hH
    refine x_sx C b_Law_law_747_755 hl (L' := [(5, .int 1), (0, .ref b0), (1, .ref (sd 0)), (2, .ref (ad 20)), (3, .ref oa), (4, .int (nI i))]) (st' := [.int ((nI i) + 1), .ref b0, .ref (ad 20)]) rfl (fun ls hl => ?_)
    refine x_sld C hX hbl hbA hH.2.2 hL (ix_1 i) (by omega) d_Law_law_755 ?_
    refine x_mw1 (x_cV C hH.1 mW_o rfl (c_Mo_clash_1 l G A ad (cW G rb n md rd sd ms fl mn (va_up sc 0 1) ar b (oW G oa f)) sc ar (xs (i + 1)) hv) t_838 t_14 t_835 t_836 t_837 hd_Mo_clash blind_Pre (pre_mt C hH hA trivial) (As := [.int (xs (i + 1))]) (rest := []) rfl hl.1 rfl rfl rfl ⟨Nat.le_of_ble_eq_true rfl, Nat.le_of_ble_eq_true rfl⟩ (Nat.le_of_ble_eq_true rfl) ⟨by show cells + 1 + 0 ≤ 601024; omega, by show slots + 6 + 0 ≤ 7293034; omega⟩ d_Law_law_756) hH.2.2 (fun H locs hH => ?_)
    refine x_sx C b_Law_law_759_762 hl (L' := [(6, .int 0), (5, .int 1), (0, .ref b0), (1, .ref (sd 0)), (2, .ref (ad 20)), (3, .ref oa), (4, .int (nI i))]) (st' := [.ref (ad 20)]) rfl (fun ls hl => ?_)
    refine x_ro (x_cV C hH.1 mW_o rfl (c_Mo_thrown l G ad (cW G rb n md rd sd ms fl mn (va_up sc 0 1) ar b (oW G oa f)) (va_up sc 0 1) ar) t_746 t_14 t_743 t_744 t_745 hd_Mo_thrown blind_Pro (pre_ro C hH.1 hH.2.2) (As := []) (rest := []) rfl hl.1 rfl rfl rfl ⟨Nat.le_of_ble_eq_true rfl, Nat.le_of_ble_eq_true rfl⟩ (Nat.le_of_ble_eq_true rfl) ⟨by show cells + 1 + 0 ≤ 601024; omega, by show slots + 6 + 0 ≤ 7293034; omega⟩ d_Law_law_762) ?_
    refine x_sx C b_Law_law_765_767 hl (L' := [(6, .int 0), (5, .int 1), (0, .ref b0), (1, .ref (sd 0)), (2, .ref (ad 20)), (3, .ref oa), (4, .int (nI i))]) (st' := [.int 1, .int ((va_up sc 0 1) 0)]) rfl (fun ls hl => ?_)
    refine lv_icmp_eq (tgt := 772) C.1 C.2.1 d_Law_law_767 (by decide) (fun _ => ?_) (fun h => absurd (up_s _ _ _) h)
    refine x_sx C b_Law_law_772_774 hl (L' := [(6, .int 0), (5, .int 1), (0, .ref b0), (1, .ref (sd 0)), (2, .ref (ad 20)), (3, .ref oa), (4, .int (nI i))]) (st' := [.int 1]) rfl (fun ls hl => ?_)
    refine lv_if_ne (tgt := 789) C.1 C.2.1 d_Law_law_774 (by decide) (fun _ => ?_) (fun h => absurd h (by decide))
    refine x_goto (tgt := 1069) C d_Law_law_789 (by decide) ?_
    exact kk H locs _ _ ls ⟨rb, n, md, rd, sd, ms, fl, mn, (va_up sc 0 1), ar, b, np, f, (hR.z _), rfl, by rw [to_mW hn (by omega)]; exact hH⟩ (by omega) (by omega) (lv_sub hl [2, 3, 4, 5, 6] rfl)
theorem b_Law_law_805_811 : decs code [(.aload_n 1, 1), (.aload_n 0, 1), (.iload 4, 2), (.iconst 1, 1), (.iadd, 1)] 805 811 = true := by decide +kernel
theorem d_Law_law_811 : decode code 811 = .ok (.iaload, 1) := by decide +kernel
theorem b_Law_law_812_817 : decs code [(.aload_n 0, 1), (.iload 4, 2), (.iconst 2, 1), (.iadd, 1)] 812 817 = true := by decide +kernel
theorem d_Law_law_817 : decode code 817 = .ok (.iaload, 1) := by decide +kernel
theorem b_Law_law_818_823 : decs code [(.aload_n 0, 1), (.iload 4, 2), (.iconst 3, 1), (.iadd, 1)] 818 823 = true := by decide +kernel
theorem d_Law_law_823 : decode code 823 = .ok (.iaload, 1) := by decide +kernel
theorem b_Law_law_824_829 : decs code [(.aload_n 0, 1), (.iload 4, 2), (.iconst 4, 1), (.iadd, 1)] 824 829 = true := by decide +kernel
theorem d_Law_law_829 : decode code 829 = .ok (.iaload, 1) := by decide +kernel
theorem d_Law_law_830 : decode code 830 = .ok (.ifCond .eq 7, 3) := by decide +kernel
theorem b_Law_law_837_839 : decs code [(.iconst 0, 1), (.aload_n 3, 1)] 837 839 = true := by decide +kernel
theorem d_Law_law_839 : decode code 839 = .ok (.invokestatic 112, 3) := by decide +kernel
theorem b_Law_law_842_850 : decs code [(.istore 5, 2), (.aload_n 2, 1), (.aload_n 0, 1), (.iload 4, 2), (.iconst 1, 1), (.iadd, 1)] 842 850 = true := by decide +kernel
theorem d_Law_law_850 : decode code 850 = .ok (.iaload, 1) := by decide +kernel
theorem b_Law_law_851_856 : decs code [(.aload_n 0, 1), (.iload 4, 2), (.iconst 2, 1), (.iadd, 1)] 851 856 = true := by decide +kernel
theorem d_Law_law_856 : decode code 856 = .ok (.iaload, 1) := by decide +kernel
theorem b_Law_law_857_862 : decs code [(.aload_n 0, 1), (.iload 4, 2), (.iconst 3, 1), (.iadd, 1)] 857 862 = true := by decide +kernel
theorem d_Law_law_862 : decode code 862 = .ok (.iaload, 1) := by decide +kernel
theorem b_Law_law_863_868 : decs code [(.aload_n 0, 1), (.iload 4, 2), (.iconst 4, 1), (.iadd, 1)] 863 868 = true := by decide +kernel
theorem d_Law_law_868 : decode code 868 = .ok (.iaload, 1) := by decide +kernel
theorem d_Law_law_869 : decode code 869 = .ok (.ifCond .eq 7, 3) := by decide +kernel
theorem b_Law_law_876_877 : decs code [(.iconst 0, 1)] 876 877 = true := by decide +kernel
theorem d_Law_law_877 : decode code 877 = .ok (.invokevirtual 115, 3) := by decide +kernel
theorem b_Law_law_880_883 : decs code [(.istore 6, 2), (.aload_n 2, 1)] 880 883 = true := by decide +kernel
theorem d_Law_law_883 : decode code 883 = .ok (.invokevirtual 71, 3) := by decide +kernel
theorem b_Law_law_886_888 : decs code [(.iload 5, 2)] 886 888 = true := by decide +kernel
theorem d_Law_law_888 : decode code 888 = .ok (.if_icmp .eq 5, 3) := by decide +kernel
theorem b_Law_law_893_895 : decs code [(.iload 5, 2)] 893 895 = true := by decide +kernel
theorem d_Law_law_895 : decode code 895 = .ok (.ifCond .ne 15, 3) := by decide +kernel
theorem d_Law_law_910 : decode code 910 = .ok (.goto 159, 3) := by decide +kernel
theorem b_Law_law_898_900 : decs code [(.aload_n 3, 1), (.iconst 0, 1)] 898 900 = true := by decide +kernel
theorem d_Law_law_900 : decode code 900 = .ok (.laload, 1) := by decide +kernel
theorem b_Law_law_901_905 : decs code [(.iload 6, 2), (.i2l, 1), (.lcmp, 1)] 901 905 = true := by decide +kernel
theorem d_Law_law_905 : decode code 905 = .ok (.ifCond .eq 5, 3) := by decide +kernel
theorem b_Law_law_833_834 : decs code [(.iconst 1, 1)] 833 834 = true := by decide +kernel
theorem d_Law_law_834 : decode code 834 = .ok (.goto 4, 3) := by decide +kernel
theorem b_Law_law_838_839 : decs code [(.aload_n 3, 1)] 838 839 = true := by decide +kernel
theorem b_Law_law_872_873 : decs code [(.iconst 1, 1)] 872 873 = true := by decide +kernel
theorem d_Law_law_873 : decode code 873 = .ok (.goto 4, 3) := by decide +kernel
set_option maxRecDepth 100000 in
set_option maxHeartbeats 4000000 in
theorem lo_part {p : Program} {l : Launch} {e : Env} {s : State} {m : MethodId} {below : List Frame} {meth : Method} {c : Code} {G : GG} {A : Nat → Prop} {b0 L : Nat} {xs : Nat → Int32} {H : Heap} {locs : List Loc} {cells slots : Nat} {Q : State → Prop} {ls : Array Slot} {oa sa : Nat} {ad : Nat → Nat} {i : Nat} (C : Cx p s m #[.ref b0] meth c code 7 "SweptPathsLaw" G A) (hfl : l.flags = pinnedFlags ++ [noTraceFlag]) (hA : ∀ q, s.heap.size ≤ q → A q) (hX : va_X b0 L xs s s.heap) (hbl : b0 < s.heap.size) (hbA : ¬ A b0) (hL : L ≤ 384) (hi : i + 6 ≤ L) (hI : LI G A s oa ad sa H locs) (hce : cells ≤ 100000) (hsl : slots ≤ 1000000) (hl : lv_has ls 7 [(0, .ref b0), (1, .ref sa), (2, .ref (ad 20)), (3, .ref oa), (4, .int (nI i))]) (kk : ∀ (H : Heap) (locs : List Loc) (cells2 slots2 : Nat) (ls : Array Slot), LI G A s oa ad sa H locs → cells2 ≤ cells + 80 → slots2 ≤ slots + 2224 → lv_has ls 7 [(0, .ref b0), (1, .ref sa), (2, .ref (ad 20)), (3, .ref oa), (4, .int (nI i))] → W p l e room_1 s m #[.ref b0] below meth c H locs cells2 slots2 Q (F0 m 1069 ls [])) : W p l e room_1 s m #[.ref b0] below meth c H locs cells slots Q (F0 m 805 ls []) := by
  obtain ⟨rb, n, md, rd, sd, ms, fl, mn, sc, ar, b, np, f, hR, rfl, hH⟩ := hI
  have hn := hR.n3
  have hrbE := hR.1
  have h1 : sc 1 = nI n := hR.2.1.1.1
  have h6 : sc 6 = nI np := hR.2.1.1.2.2.1
  have hnp : np ≤ 20 := hR.2.1.1.2.2.2.1
  have hrb : 100 ≤ rb := by omega
  have hrb2 : rb ≤ 200 := by omega
  have hz0 : Z01 (ar 17) := hR.2.1.2.1
  by_cases hb : (xs (i + 4)) = 0
  · by_cases hv : p_in (xs (i + 1)) 0 3 = 1 ∧ p_in (xs (i + 2)) (-3) 3 = 1 ∧ p_in (xs (i + 3)) 1 60 = 1
    · obtain ⟨q, hq, eq⟩ := plan_ix hv.1
      rw [eq] at hv
      by_cases hz6 : mn q = 6
      · rw [cW_0 (v := 2)] at hH
        refine x_sx C b_Law_law_805_811 hl (L' := [(0, .ref b0), (1, .ref (sd 0)), (2, .ref (ad 20)), (3, .ref oa), (4, .int (nI i))]) (st' := [.int ((nI i) + 1), .ref b0, .ref (sd 0)]) rfl (fun ls hl => ?_)
        refine x_sld C hX hbl hbA hH.2.2 hL (ix_1 i) (by omega) d_Law_law_811 ?_
        rw [eq]
        refine x_sx C b_Law_law_812_817 hl (L' := [(0, .ref b0), (1, .ref (sd 0)), (2, .ref (ad 20)), (3, .ref oa), (4, .int (nI i))]) (st' := [.int ((nI i) + 2), .ref b0, .int (nI q), .ref (sd 0)]) rfl (fun ls hl => ?_)
        refine x_sld C hX hbl hbA hH.2.2 hL (ix_2 i) (by omega) d_Law_law_817 ?_
        refine x_sx C b_Law_law_818_823 hl (L' := [(0, .ref b0), (1, .ref (sd 0)), (2, .ref (ad 20)), (3, .ref oa), (4, .int (nI i))]) (st' := [.int ((nI i) + 3), .ref b0, .int (xs (i + 2)), .int (nI q), .ref (sd 0)]) rfl (fun ls hl => ?_)
        refine x_sld C hX hbl hbA hH.2.2 hL (ix_3 i) (by omega) d_Law_law_823 ?_
        refine x_sx C b_Law_law_824_829 hl (L' := [(0, .ref b0), (1, .ref (sd 0)), (2, .ref (ad 20)), (3, .ref oa), (4, .int (nI i))]) (st' := [.int ((nI i) + 4), .ref b0, .int (xs (i + 3)), .int (xs (i + 2)), .int (nI q), .ref (sd 0)]) rfl (fun ls hl => ?_)
        refine x_sld C hX hbl hbA hH.2.2 hL (ix_4 i) (by omega) d_Law_law_829 ?_
        refine lv_if_eq (tgt := 837) C.1 C.2.1 d_Law_law_830 (by decide) (fun _ => ?_) (fun h => absurd hb h)
        refine x_sx C b_Law_law_837_839 hl (L' := [(0, .ref b0), (1, .ref (sd 0)), (2, .ref (ad 20)), (3, .ref oa), (4, .int (nI i))]) (st' := [.ref oa, .int 0, .int (xs (i + 3)), .int (xs (i + 2)), .int (nI q), .ref (sd 0)]) rfl (fun ls hl => ?_)
        refine x_q1 (x_cSW C (c_Law_part_2 l G A rb n md rd sd ms fl mn (va_up sc 0 2) ar b (lwW G oa f ad sc ar) q (xs (i + 2)) (xs (i + 3)) 0 hfl hn hrb hq hv.2 hz6 oa f hrbE lwW_o) t_579 t_0 t_577 t_578 hd_Law_part blind_Pre (pre_mt C hH hA trivial) (As := [.ref (sd 0), .int (nI q), .int (xs (i + 2)), .int (xs (i + 3)), .int 0, .ref oa]) (rest := []) rfl hl.1 rfl rfl rfl ⟨(Nat.le_of_ble_eq_true rfl), (Nat.le_of_ble_eq_true rfl)⟩ (Nat.le_of_ble_eq_true rfl) ⟨by show cells + 1 ≤ 601024; omega, by show slots + 6 ≤ 7293034; omega⟩ d_Law_law_839) hH.2.2 (fun x H locs hx hH hz => ?_)
        rw [to_mW hn (by omega)] at hH
        refine x_sx C b_Law_law_842_850 hl (L' := [(5, .int 2), (0, .ref b0), (1, .ref (sd 0)), (2, .ref (ad 20)), (3, .ref oa), (4, .int (nI i))]) (st' := [.int ((nI i) + 1), .ref b0, .ref (ad 20)]) rfl (fun ls hl => ?_)
        refine x_sld C hX hbl hbA hH.2.2 hL (ix_1 i) (by omega) d_Law_law_850 ?_
        rw [eq]
        refine x_sx C b_Law_law_851_856 hl (L' := [(5, .int 2), (0, .ref b0), (1, .ref (sd 0)), (2, .ref (ad 20)), (3, .ref oa), (4, .int (nI i))]) (st' := [.int ((nI i) + 2), .ref b0, .int (nI q), .ref (ad 20)]) rfl (fun ls hl => ?_)
        refine x_sld C hX hbl hbA hH.2.2 hL (ix_2 i) (by omega) d_Law_law_856 ?_
        refine x_sx C b_Law_law_857_862 hl (L' := [(5, .int 2), (0, .ref b0), (1, .ref (sd 0)), (2, .ref (ad 20)), (3, .ref oa), (4, .int (nI i))]) (st' := [.int ((nI i) + 3), .ref b0, .int (xs (i + 2)), .int (nI q), .ref (ad 20)]) rfl (fun ls hl => ?_)
        refine x_sld C hX hbl hbA hH.2.2 hL (ix_3 i) (by omega) d_Law_law_862 ?_
        refine x_sx C b_Law_law_863_868 hl (L' := [(5, .int 2), (0, .ref b0), (1, .ref (sd 0)), (2, .ref (ad 20)), (3, .ref oa), (4, .int (nI i))]) (st' := [.int ((nI i) + 4), .ref b0, .int (xs (i + 3)), .int (xs (i + 2)), .int (nI q), .ref (ad 20)]) rfl (fun ls hl => ?_)
        refine x_sld C hX hbl hbA hH.2.2 hL (ix_4 i) (by omega) d_Law_law_868 ?_
        refine lv_if_eq (tgt := 876) C.1 C.2.1 d_Law_law_869 (by decide) (fun _ => ?_) (fun h => absurd hb h)
        refine x_sx C b_Law_law_876_877 hl (L' := [(5, .int 2), (0, .ref b0), (1, .ref (sd 0)), (2, .ref (ad 20)), (3, .ref oa), (4, .int (nI i))]) (st' := [.int 0, .int (xs (i + 3)), .int (xs (i + 2)), .int (nI q), .ref (ad 20)]) rfl (fun ls hl => ?_)
        refine x_mw1 (x_cV C hH.1 mW_o rfl (c_Mo_part_2 l G A ad (cW G rb n md rd sd ms fl mn (va_up sc 0 2) ar b (oW G oa f)) sc ar (nI q) (xs (i + 2)) (xs (i + 3)) 0 q hv hq rfl (mn_6 hR.2.2.1 hq hz6)) t_846 t_14 t_843 t_844 t_845 hd_Mo_part blind_Pre (pre_mt C hH hA trivial) (As := [.int (nI q), .int (xs (i + 2)), .int (xs (i + 3)), .int 0]) (rest := []) rfl hl.1 rfl rfl rfl ⟨Nat.le_of_ble_eq_true rfl, Nat.le_of_ble_eq_true rfl⟩ (Nat.le_of_ble_eq_true rfl) ⟨by show cells + 1 + 0 ≤ 601024; omega, by show slots + 6 + 0 ≤ 7293034; omega⟩ d_Law_law_877) hH.2.2 (fun H locs hH => ?_)
        refine x_sx C b_Law_law_880_883 hl (L' := [(6, .int 0), (5, .int 2), (0, .ref b0), (1, .ref (sd 0)), (2, .ref (ad 20)), (3, .ref oa), (4, .int (nI i))]) (st' := [.ref (ad 20)]) rfl (fun ls hl => ?_)
        refine x_ro (x_cV C hH.1 mW_o rfl (c_Mo_thrown l G ad (cW G rb n md rd sd ms fl mn (va_up sc 0 2) ar b (oW G oa f)) (va_up sc 0 2) ar) t_746 t_14 t_743 t_744 t_745 hd_Mo_thrown blind_Pro (pre_ro C hH.1 hH.2.2) (As := []) (rest := []) rfl hl.1 rfl rfl rfl ⟨Nat.le_of_ble_eq_true rfl, Nat.le_of_ble_eq_true rfl⟩ (Nat.le_of_ble_eq_true rfl) ⟨by show cells + 1 + 0 ≤ 601024; omega, by show slots + 6 + 0 ≤ 7293034; omega⟩ d_Law_law_883) ?_
        refine x_sx C b_Law_law_886_888 hl (L' := [(6, .int 0), (5, .int 2), (0, .ref b0), (1, .ref (sd 0)), (2, .ref (ad 20)), (3, .ref oa), (4, .int (nI i))]) (st' := [.int 2, .int ((va_up sc 0 2) 0)]) rfl (fun ls hl => ?_)
        refine lv_icmp_eq (tgt := 893) C.1 C.2.1 d_Law_law_888 (by decide) (fun _ => ?_) (fun h => absurd (up_s _ _ _) h)
        refine x_sx C b_Law_law_893_895 hl (L' := [(6, .int 0), (5, .int 2), (0, .ref b0), (1, .ref (sd 0)), (2, .ref (ad 20)), (3, .ref oa), (4, .int (nI i))]) (st' := [.int 2]) rfl (fun ls hl => ?_)
        refine lv_if_ne (tgt := 910) C.1 C.2.1 d_Law_law_895 (by decide) (fun _ => ?_) (fun h => absurd h (by decide))
        refine x_goto (tgt := 1069) C d_Law_law_910 (by decide) ?_
        exact kk H locs _ _ ls ⟨rb, n, md, rd, sd, ms, fl, mn, (va_up sc 0 2), ar, b, np, f, (hR.z _), rfl, by rw [to_mW hn (by omega)]; exact hH⟩ (by omega) (by omega) (lv_sub hl [2, 3, 4, 5, 6] rfl)
      · have hz7 : mn q < 6 := by have := hR.m6 q hq; omega
        rw [cW_0 (v := 0)] at hH
        refine x_sx C b_Law_law_805_811 hl (L' := [(0, .ref b0), (1, .ref (sd 0)), (2, .ref (ad 20)), (3, .ref oa), (4, .int (nI i))]) (st' := [.int ((nI i) + 1), .ref b0, .ref (sd 0)]) rfl (fun ls hl => ?_)
        refine x_sld C hX hbl hbA hH.2.2 hL (ix_1 i) (by omega) d_Law_law_811 ?_
        rw [eq]
        refine x_sx C b_Law_law_812_817 hl (L' := [(0, .ref b0), (1, .ref (sd 0)), (2, .ref (ad 20)), (3, .ref oa), (4, .int (nI i))]) (st' := [.int ((nI i) + 2), .ref b0, .int (nI q), .ref (sd 0)]) rfl (fun ls hl => ?_)
        refine x_sld C hX hbl hbA hH.2.2 hL (ix_2 i) (by omega) d_Law_law_817 ?_
        refine x_sx C b_Law_law_818_823 hl (L' := [(0, .ref b0), (1, .ref (sd 0)), (2, .ref (ad 20)), (3, .ref oa), (4, .int (nI i))]) (st' := [.int ((nI i) + 3), .ref b0, .int (xs (i + 2)), .int (nI q), .ref (sd 0)]) rfl (fun ls hl => ?_)
        refine x_sld C hX hbl hbA hH.2.2 hL (ix_3 i) (by omega) d_Law_law_823 ?_
        refine x_sx C b_Law_law_824_829 hl (L' := [(0, .ref b0), (1, .ref (sd 0)), (2, .ref (ad 20)), (3, .ref oa), (4, .int (nI i))]) (st' := [.int ((nI i) + 4), .ref b0, .int (xs (i + 3)), .int (xs (i + 2)), .int (nI q), .ref (sd 0)]) rfl (fun ls hl => ?_)
        refine x_sld C hX hbl hbA hH.2.2 hL (ix_4 i) (by omega) d_Law_law_829 ?_
        refine lv_if_eq (tgt := 837) C.1 C.2.1 d_Law_law_830 (by decide) (fun _ => ?_) (fun h => absurd hb h)
        refine x_sx C b_Law_law_837_839 hl (L' := [(0, .ref b0), (1, .ref (sd 0)), (2, .ref (ad 20)), (3, .ref oa), (4, .int (nI i))]) (st' := [.ref oa, .int 0, .int (xs (i + 3)), .int (xs (i + 2)), .int (nI q), .ref (sd 0)]) rfl (fun ls hl => ?_)
        refine x_q1 (x_cSW C (c_Law_part l G A rb n md rd sd ms fl mn (va_up sc 0 0) ar b (lwW G oa f ad sc ar) q (xs (i + 2)) (xs (i + 3)) 0 hn hrb hq hz7 hR.m6 hR.2.2.2.1 hv.2 (Or.inl rfl) oa f hrbE lwW_o) t_579 t_0 t_577 t_578 hd_Law_part blind_Pre (pre_mt C hH hA trivial) (As := [.ref (sd 0), .int (nI q), .int (xs (i + 2)), .int (xs (i + 3)), .int 0, .ref oa]) (rest := []) rfl hl.1 rfl rfl rfl ⟨(Nat.le_of_ble_eq_true rfl), (Nat.le_of_ble_eq_true rfl)⟩ (Nat.le_of_ble_eq_true rfl) ⟨by show cells + 2 ≤ 601024; omega, by show slots + 13 ≤ 7293034; omega⟩ d_Law_law_839) hH.2.2 (fun x H locs hx hH hz => ?_)
        rw [lwW_up] at hH
        rw [to_mW hn (by omega)] at hH
        refine x_sx C b_Law_law_842_850 hl (L' := [(5, .int 0), (0, .ref b0), (1, .ref (sd 0)), (2, .ref (ad 20)), (3, .ref oa), (4, .int (nI i))]) (st' := [.int ((nI i) + 1), .ref b0, .ref (ad 20)]) rfl (fun ls hl => ?_)
        refine x_sld C hX hbl hbA hH.2.2 hL (ix_1 i) (by omega) d_Law_law_850 ?_
        rw [eq]
        refine x_sx C b_Law_law_851_856 hl (L' := [(5, .int 0), (0, .ref b0), (1, .ref (sd 0)), (2, .ref (ad 20)), (3, .ref oa), (4, .int (nI i))]) (st' := [.int ((nI i) + 2), .ref b0, .int (nI q), .ref (ad 20)]) rfl (fun ls hl => ?_)
        refine x_sld C hX hbl hbA hH.2.2 hL (ix_2 i) (by omega) d_Law_law_856 ?_
        refine x_sx C b_Law_law_857_862 hl (L' := [(5, .int 0), (0, .ref b0), (1, .ref (sd 0)), (2, .ref (ad 20)), (3, .ref oa), (4, .int (nI i))]) (st' := [.int ((nI i) + 3), .ref b0, .int (xs (i + 2)), .int (nI q), .ref (ad 20)]) rfl (fun ls hl => ?_)
        refine x_sld C hX hbl hbA hH.2.2 hL (ix_3 i) (by omega) d_Law_law_862 ?_
        refine x_sx C b_Law_law_863_868 hl (L' := [(5, .int 0), (0, .ref b0), (1, .ref (sd 0)), (2, .ref (ad 20)), (3, .ref oa), (4, .int (nI i))]) (st' := [.int ((nI i) + 4), .ref b0, .int (xs (i + 3)), .int (xs (i + 2)), .int (nI q), .ref (ad 20)]) rfl (fun ls hl => ?_)
        refine x_sld C hX hbl hbA hH.2.2 hL (ix_4 i) (by omega) d_Law_law_868 ?_
        refine lv_if_eq (tgt := 876) C.1 C.2.1 d_Law_law_869 (by decide) (fun _ => ?_) (fun h => absurd hb h)
        refine x_sx C b_Law_law_876_877 hl (L' := [(5, .int 0), (0, .ref b0), (1, .ref (sd 0)), (2, .ref (ad 20)), (3, .ref oa), (4, .int (nI i))]) (st' := [.int 0, .int (xs (i + 3)), .int (xs (i + 2)), .int (nI q), .ref (ad 20)]) rfl (fun ls hl => ?_)
        refine x_mw1 (x_cV C hH.1 mW_o rfl (c_Mo_part l G A ad (cW G rb n md rd x (va_up ms (2 + q) (ms (2 + q) + 1)) (va_up fl q 1) (va_up mn q (mn q + 1)) (va_up sc 0 0) (fPartA ar q (mn q) (xs (i + 2)) (xs (i + 3)) 0) b (oW G oa (vp_updL f 0 (nI (mn q + 1)).toInt64))) sc ar (nI q) (xs (i + 2)) (xs (i + 3)) 0 q (mn q) hv hq rfl (hR.2.2.1 q hq).2.1 hz7 (Or.inl rfl)) t_846 t_14 t_843 t_844 t_845 hd_Mo_part blind_Pre (pre_mt C hH hA trivial) (As := [.int (nI q), .int (xs (i + 2)), .int (xs (i + 3)), .int 0]) (rest := []) rfl hl.1 rfl rfl rfl ⟨Nat.le_of_ble_eq_true rfl, Nat.le_of_ble_eq_true rfl⟩ (Nat.le_of_ble_eq_true rfl) ⟨by show cells + 2 + 0 ≤ 601024; omega, by show slots + 13 + 0 ≤ 7293034; omega⟩ d_Law_law_877) hH.2.2 (fun H locs hH => ?_)
        refine x_sx C b_Law_law_880_883 hl (L' := [(6, .int (nI ((mn q) + 1))), (5, .int 0), (0, .ref b0), (1, .ref (sd 0)), (2, .ref (ad 20)), (3, .ref oa), (4, .int (nI i))]) (st' := [.ref (ad 20)]) rfl (fun ls hl => ?_)
        refine x_ro (x_cV C hH.1 mW_o rfl (c_Mo_thrown l G ad (cW G rb n md rd x (va_up ms (2 + q) (ms (2 + q) + 1)) (va_up fl q 1) (va_up mn q (mn q + 1)) (va_up sc 0 0) (fPartA ar q (mn q) (xs (i + 2)) (xs (i + 3)) 0) b (oW G oa (vp_updL f 0 (nI (mn q + 1)).toInt64))) (va_up sc 0 0) (fPartA ar q (mn q) (xs (i + 2)) (xs (i + 3)) 0)) t_746 t_14 t_743 t_744 t_745 hd_Mo_thrown blind_Pro (pre_ro C hH.1 hH.2.2) (As := []) (rest := []) rfl hl.1 rfl rfl rfl ⟨Nat.le_of_ble_eq_true rfl, Nat.le_of_ble_eq_true rfl⟩ (Nat.le_of_ble_eq_true rfl) ⟨by show cells + 2 + 0 ≤ 601024; omega, by show slots + 13 + 0 ≤ 7293034; omega⟩ d_Law_law_883) ?_
        refine x_sx C b_Law_law_886_888 hl (L' := [(6, .int (nI ((mn q) + 1))), (5, .int 0), (0, .ref b0), (1, .ref (sd 0)), (2, .ref (ad 20)), (3, .ref oa), (4, .int (nI i))]) (st' := [.int 0, .int ((va_up sc 0 0) 0)]) rfl (fun ls hl => ?_)
        refine lv_icmp_eq (tgt := 893) C.1 C.2.1 d_Law_law_888 (by decide) (fun _ => ?_) (fun h => absurd (up_s _ _ _) h)
        refine x_sx C b_Law_law_893_895 hl (L' := [(6, .int (nI ((mn q) + 1))), (5, .int 0), (0, .ref b0), (1, .ref (sd 0)), (2, .ref (ad 20)), (3, .ref oa), (4, .int (nI i))]) (st' := [.int 0]) rfl (fun ls hl => ?_)
        refine lv_if_ne (tgt := 910) C.1 C.2.1 d_Law_law_895 (by decide) (fun h => absurd (by decide) h) (fun _ => ?_)
        refine x_sx C b_Law_law_898_900 hl (L' := [(6, .int (nI ((mn q) + 1))), (5, .int 0), (0, .ref b0), (1, .ref (sd 0)), (2, .ref (ad 20)), (3, .ref oa), (4, .int (nI i))]) (st' := [.int 0, .ref oa]) rfl (fun ls hl => ?_)
        refine x_lld C hH.1 500 (mo_o hn (by omega)) (j := 0) rfl (by decide) (by decide) d_Law_law_900 ?_
        refine x_sx C b_Law_law_901_905 hl (L' := [(6, .int (nI ((mn q) + 1))), (5, .int 0), (0, .ref b0), (1, .ref (sd 0)), (2, .ref (ad 20)), (3, .ref oa), (4, .int (nI i))]) (st' := [.int (lg_cmp ((nI (mn q + 1)).toInt64) ((nI ((mn q) + 1)).toInt64))]) rfl (fun ls hl => ?_)
        refine lv_if_eq (tgt := 910) C.1 C.2.1 d_Law_law_905 (by decide) (fun _ => ?_) (fun h => absurd ((lg_cmp_eq _ _).mpr rfl) h)
        refine x_goto (tgt := 1069) C d_Law_law_910 (by decide) ?_
        exact kk H locs _ _ ls ⟨rb, n, md, rd, x, (va_up ms (2 + q) (ms (2 + q) + 1)), (va_up fl q 1), (va_up mn q (mn q + 1)), (va_up sc 0 0), (fPartA ar q (mn q) (xs (i + 2)) (xs (i + 3)) 0), b, np, (vp_updL f 0 (nI (mn q + 1)).toInt64), ((hR.z 0).part hq hz7 hv.2), hx, by rw [to_mW hn (by omega)]; exact hH⟩ (by omega) (by omega) (lv_sub hl [2, 3, 4, 5, 6] rfl)
    · rw [cW_0 (v := 1)] at hH
      refine x_sx C b_Law_law_805_811 hl (L' := [(0, .ref b0), (1, .ref (sd 0)), (2, .ref (ad 20)), (3, .ref oa), (4, .int (nI i))]) (st' := [.int ((nI i) + 1), .ref b0, .ref (sd 0)]) rfl (fun ls hl => ?_)
      refine x_sld C hX hbl hbA hH.2.2 hL (ix_1 i) (by omega) d_Law_law_811 ?_
      refine x_sx C b_Law_law_812_817 hl (L' := [(0, .ref b0), (1, .ref (sd 0)), (2, .ref (ad 20)), (3, .ref oa), (4, .int (nI i))]) (st' := [.int ((nI i) + 2), .ref b0, .int (xs (i + 1)), .ref (sd 0)]) rfl (fun ls hl => ?_)
      refine x_sld C hX hbl hbA hH.2.2 hL (ix_2 i) (by omega) d_Law_law_817 ?_
      refine x_sx C b_Law_law_818_823 hl (L' := [(0, .ref b0), (1, .ref (sd 0)), (2, .ref (ad 20)), (3, .ref oa), (4, .int (nI i))]) (st' := [.int ((nI i) + 3), .ref b0, .int (xs (i + 2)), .int (xs (i + 1)), .ref (sd 0)]) rfl (fun ls hl => ?_)
      refine x_sld C hX hbl hbA hH.2.2 hL (ix_3 i) (by omega) d_Law_law_823 ?_
      refine x_sx C b_Law_law_824_829 hl (L' := [(0, .ref b0), (1, .ref (sd 0)), (2, .ref (ad 20)), (3, .ref oa), (4, .int (nI i))]) (st' := [.int ((nI i) + 4), .ref b0, .int (xs (i + 3)), .int (xs (i + 2)), .int (xs (i + 1)), .ref (sd 0)]) rfl (fun ls hl => ?_)
      refine x_sld C hX hbl hbA hH.2.2 hL (ix_4 i) (by omega) d_Law_law_829 ?_
      refine lv_if_eq (tgt := 837) C.1 C.2.1 d_Law_law_830 (by decide) (fun _ => ?_) (fun h => absurd hb h)
      refine x_sx C b_Law_law_837_839 hl (L' := [(0, .ref b0), (1, .ref (sd 0)), (2, .ref (ad 20)), (3, .ref oa), (4, .int (nI i))]) (st' := [.ref oa, .int 0, .int (xs (i + 3)), .int (xs (i + 2)), .int (xs (i + 1)), .ref (sd 0)]) rfl (fun ls hl => ?_)
      refine x_q1 (x_cSW C (c_Law_part_1 l G A rb n md rd sd ms fl mn (va_up sc 0 1) ar b (lwW G oa f ad sc ar) (xs (i + 1)) (xs (i + 2)) (xs (i + 3)) 0 hfl hn hrb hv oa f hrbE lwW_o) t_579 t_0 t_577 t_578 hd_Law_part blind_Pre (pre_mt C hH hA trivial) (As := [.ref (sd 0), .int (xs (i + 1)), .int (xs (i + 2)), .int (xs (i + 3)), .int 0, .ref oa]) (rest := []) rfl hl.1 rfl rfl rfl ⟨(Nat.le_of_ble_eq_true rfl), (Nat.le_of_ble_eq_true rfl)⟩ (Nat.le_of_ble_eq_true rfl) ⟨by show cells + 1 ≤ 601024; omega, by show slots + 6 ≤ 7293034; omega⟩ d_Law_law_839) hH.2.2 (fun x H locs hx hH hz => ?_)
      rw [to_mW hn (by omega)] at hH
      refine x_sx C b_Law_law_842_850 hl (L' := [(5, .int 1), (0, .ref b0), (1, .ref (sd 0)), (2, .ref (ad 20)), (3, .ref oa), (4, .int (nI i))]) (st' := [.int ((nI i) + 1), .ref b0, .ref (ad 20)]) rfl (fun ls hl => ?_)
      refine x_sld C hX hbl hbA hH.2.2 hL (ix_1 i) (by omega) d_Law_law_850 ?_
      refine x_sx C b_Law_law_851_856 hl (L' := [(5, .int 1), (0, .ref b0), (1, .ref (sd 0)), (2, .ref (ad 20)), (3, .ref oa), (4, .int (nI i))]) (st' := [.int ((nI i) + 2), .ref b0, .int (xs (i + 1)), .ref (ad 20)]) rfl (fun ls hl => ?_)
      refine x_sld C hX hbl hbA hH.2.2 hL (ix_2 i) (by omega) d_Law_law_856 ?_
      refine x_sx C b_Law_law_857_862 hl (L' := [(5, .int 1), (0, .ref b0), (1, .ref (sd 0)), (2, .ref (ad 20)), (3, .ref oa), (4, .int (nI i))]) (st' := [.int ((nI i) + 3), .ref b0, .int (xs (i + 2)), .int (xs (i + 1)), .ref (ad 20)]) rfl (fun ls hl => ?_)
      refine x_sld C hX hbl hbA hH.2.2 hL (ix_3 i) (by omega) d_Law_law_862 ?_
      refine x_sx C b_Law_law_863_868 hl (L' := [(5, .int 1), (0, .ref b0), (1, .ref (sd 0)), (2, .ref (ad 20)), (3, .ref oa), (4, .int (nI i))]) (st' := [.int ((nI i) + 4), .ref b0, .int (xs (i + 3)), .int (xs (i + 2)), .int (xs (i + 1)), .ref (ad 20)]) rfl (fun ls hl => ?_)
      refine x_sld C hX hbl hbA hH.2.2 hL (ix_4 i) (by omega) d_Law_law_868 ?_
      refine lv_if_eq (tgt := 876) C.1 C.2.1 d_Law_law_869 (by decide) (fun _ => ?_) (fun h => absurd hb h)
      refine x_sx C b_Law_law_876_877 hl (L' := [(5, .int 1), (0, .ref b0), (1, .ref (sd 0)), (2, .ref (ad 20)), (3, .ref oa), (4, .int (nI i))]) (st' := [.int 0, .int (xs (i + 3)), .int (xs (i + 2)), .int (xs (i + 1)), .ref (ad 20)]) rfl (fun ls hl => ?_)
      refine x_mw1 (x_cV C hH.1 mW_o rfl (c_Mo_part_1 l G A ad (cW G rb n md rd sd ms fl mn (va_up sc 0 1) ar b (oW G oa f)) sc ar (xs (i + 1)) (xs (i + 2)) (xs (i + 3)) 0 hv) t_846 t_14 t_843 t_844 t_845 hd_Mo_part blind_Pre (pre_mt C hH hA trivial) (As := [.int (xs (i + 1)), .int (xs (i + 2)), .int (xs (i + 3)), .int 0]) (rest := []) rfl hl.1 rfl rfl rfl ⟨Nat.le_of_ble_eq_true rfl, Nat.le_of_ble_eq_true rfl⟩ (Nat.le_of_ble_eq_true rfl) ⟨by show cells + 1 + 0 ≤ 601024; omega, by show slots + 6 + 0 ≤ 7293034; omega⟩ d_Law_law_877) hH.2.2 (fun H locs hH => ?_)
      refine x_sx C b_Law_law_880_883 hl (L' := [(6, .int 0), (5, .int 1), (0, .ref b0), (1, .ref (sd 0)), (2, .ref (ad 20)), (3, .ref oa), (4, .int (nI i))]) (st' := [.ref (ad 20)]) rfl (fun ls hl => ?_)
      refine x_ro (x_cV C hH.1 mW_o rfl (c_Mo_thrown l G ad (cW G rb n md rd sd ms fl mn (va_up sc 0 1) ar b (oW G oa f)) (va_up sc 0 1) ar) t_746 t_14 t_743 t_744 t_745 hd_Mo_thrown blind_Pro (pre_ro C hH.1 hH.2.2) (As := []) (rest := []) rfl hl.1 rfl rfl rfl ⟨Nat.le_of_ble_eq_true rfl, Nat.le_of_ble_eq_true rfl⟩ (Nat.le_of_ble_eq_true rfl) ⟨by show cells + 1 + 0 ≤ 601024; omega, by show slots + 6 + 0 ≤ 7293034; omega⟩ d_Law_law_883) ?_
      refine x_sx C b_Law_law_886_888 hl (L' := [(6, .int 0), (5, .int 1), (0, .ref b0), (1, .ref (sd 0)), (2, .ref (ad 20)), (3, .ref oa), (4, .int (nI i))]) (st' := [.int 1, .int ((va_up sc 0 1) 0)]) rfl (fun ls hl => ?_)
      refine lv_icmp_eq (tgt := 893) C.1 C.2.1 d_Law_law_888 (by decide) (fun _ => ?_) (fun h => absurd (up_s _ _ _) h)
      refine x_sx C b_Law_law_893_895 hl (L' := [(6, .int 0), (5, .int 1), (0, .ref b0), (1, .ref (sd 0)), (2, .ref (ad 20)), (3, .ref oa), (4, .int (nI i))]) (st' := [.int 1]) rfl (fun ls hl => ?_)
      refine lv_if_ne (tgt := 910) C.1 C.2.1 d_Law_law_895 (by decide) (fun _ => ?_) (fun h => absurd h (by decide))
      refine x_goto (tgt := 1069) C d_Law_law_910 (by decide) ?_
      exact kk H locs _ _ ls ⟨rb, n, md, rd, sd, ms, fl, mn, (va_up sc 0 1), ar, b, np, f, (hR.z _), rfl, by rw [to_mW hn (by omega)]; exact hH⟩ (by omega) (by omega) (lv_sub hl [2, 3, 4, 5, 6] rfl)
  · by_cases hv : p_in (xs (i + 1)) 0 3 = 1 ∧ p_in (xs (i + 2)) (-3) 3 = 1 ∧ p_in (xs (i + 3)) 1 60 = 1
    · obtain ⟨q, hq, eq⟩ := plan_ix hv.1
      rw [eq] at hv
      by_cases hz6 : mn q = 6
      · rw [cW_0 (v := 2)] at hH
        refine x_sx C b_Law_law_805_811 hl (L' := [(0, .ref b0), (1, .ref (sd 0)), (2, .ref (ad 20)), (3, .ref oa), (4, .int (nI i))]) (st' := [.int ((nI i) + 1), .ref b0, .ref (sd 0)]) rfl (fun ls hl => ?_)
        refine x_sld C hX hbl hbA hH.2.2 hL (ix_1 i) (by omega) d_Law_law_811 ?_
        rw [eq]
        refine x_sx C b_Law_law_812_817 hl (L' := [(0, .ref b0), (1, .ref (sd 0)), (2, .ref (ad 20)), (3, .ref oa), (4, .int (nI i))]) (st' := [.int ((nI i) + 2), .ref b0, .int (nI q), .ref (sd 0)]) rfl (fun ls hl => ?_)
        refine x_sld C hX hbl hbA hH.2.2 hL (ix_2 i) (by omega) d_Law_law_817 ?_
        refine x_sx C b_Law_law_818_823 hl (L' := [(0, .ref b0), (1, .ref (sd 0)), (2, .ref (ad 20)), (3, .ref oa), (4, .int (nI i))]) (st' := [.int ((nI i) + 3), .ref b0, .int (xs (i + 2)), .int (nI q), .ref (sd 0)]) rfl (fun ls hl => ?_)
        refine x_sld C hX hbl hbA hH.2.2 hL (ix_3 i) (by omega) d_Law_law_823 ?_
        refine x_sx C b_Law_law_824_829 hl (L' := [(0, .ref b0), (1, .ref (sd 0)), (2, .ref (ad 20)), (3, .ref oa), (4, .int (nI i))]) (st' := [.int ((nI i) + 4), .ref b0, .int (xs (i + 3)), .int (xs (i + 2)), .int (nI q), .ref (sd 0)]) rfl (fun ls hl => ?_)
        refine x_sld C hX hbl hbA hH.2.2 hL (ix_4 i) (by omega) d_Law_law_829 ?_
        refine lv_if_eq (tgt := 837) C.1 C.2.1 d_Law_law_830 (by decide) (fun h => absurd h hb) (fun _ => ?_)
        refine x_sx C b_Law_law_833_834 hl (L' := [(0, .ref b0), (1, .ref (sd 0)), (2, .ref (ad 20)), (3, .ref oa), (4, .int (nI i))]) (st' := [.int 1, .int (xs (i + 3)), .int (xs (i + 2)), .int (nI q), .ref (sd 0)]) rfl (fun ls hl => ?_)
        refine x_goto (tgt := 838) C d_Law_law_834 (by decide) ?_
        refine x_sx C b_Law_law_838_839 hl (L' := [(0, .ref b0), (1, .ref (sd 0)), (2, .ref (ad 20)), (3, .ref oa), (4, .int (nI i))]) (st' := [.ref oa, .int 1, .int (xs (i + 3)), .int (xs (i + 2)), .int (nI q), .ref (sd 0)]) rfl (fun ls hl => ?_)
        refine x_q1 (x_cSW C (c_Law_part_2 l G A rb n md rd sd ms fl mn (va_up sc 0 2) ar b (lwW G oa f ad sc ar) q (xs (i + 2)) (xs (i + 3)) 1 hfl hn hrb hq hv.2 hz6 oa f hrbE lwW_o) t_579 t_0 t_577 t_578 hd_Law_part blind_Pre (pre_mt C hH hA trivial) (As := [.ref (sd 0), .int (nI q), .int (xs (i + 2)), .int (xs (i + 3)), .int 1, .ref oa]) (rest := []) rfl hl.1 rfl rfl rfl ⟨(Nat.le_of_ble_eq_true rfl), (Nat.le_of_ble_eq_true rfl)⟩ (Nat.le_of_ble_eq_true rfl) ⟨by show cells + 1 ≤ 601024; omega, by show slots + 6 ≤ 7293034; omega⟩ d_Law_law_839) hH.2.2 (fun x H locs hx hH hz => ?_)
        rw [to_mW hn (by omega)] at hH
        refine x_sx C b_Law_law_842_850 hl (L' := [(5, .int 2), (0, .ref b0), (1, .ref (sd 0)), (2, .ref (ad 20)), (3, .ref oa), (4, .int (nI i))]) (st' := [.int ((nI i) + 1), .ref b0, .ref (ad 20)]) rfl (fun ls hl => ?_)
        refine x_sld C hX hbl hbA hH.2.2 hL (ix_1 i) (by omega) d_Law_law_850 ?_
        rw [eq]
        refine x_sx C b_Law_law_851_856 hl (L' := [(5, .int 2), (0, .ref b0), (1, .ref (sd 0)), (2, .ref (ad 20)), (3, .ref oa), (4, .int (nI i))]) (st' := [.int ((nI i) + 2), .ref b0, .int (nI q), .ref (ad 20)]) rfl (fun ls hl => ?_)
        refine x_sld C hX hbl hbA hH.2.2 hL (ix_2 i) (by omega) d_Law_law_856 ?_
        refine x_sx C b_Law_law_857_862 hl (L' := [(5, .int 2), (0, .ref b0), (1, .ref (sd 0)), (2, .ref (ad 20)), (3, .ref oa), (4, .int (nI i))]) (st' := [.int ((nI i) + 3), .ref b0, .int (xs (i + 2)), .int (nI q), .ref (ad 20)]) rfl (fun ls hl => ?_)
        refine x_sld C hX hbl hbA hH.2.2 hL (ix_3 i) (by omega) d_Law_law_862 ?_
        refine x_sx C b_Law_law_863_868 hl (L' := [(5, .int 2), (0, .ref b0), (1, .ref (sd 0)), (2, .ref (ad 20)), (3, .ref oa), (4, .int (nI i))]) (st' := [.int ((nI i) + 4), .ref b0, .int (xs (i + 3)), .int (xs (i + 2)), .int (nI q), .ref (ad 20)]) rfl (fun ls hl => ?_)
        refine x_sld C hX hbl hbA hH.2.2 hL (ix_4 i) (by omega) d_Law_law_868 ?_
        refine lv_if_eq (tgt := 876) C.1 C.2.1 d_Law_law_869 (by decide) (fun h => absurd h hb) (fun _ => ?_)
        refine x_sx C b_Law_law_872_873 hl (L' := [(5, .int 2), (0, .ref b0), (1, .ref (sd 0)), (2, .ref (ad 20)), (3, .ref oa), (4, .int (nI i))]) (st' := [.int 1, .int (xs (i + 3)), .int (xs (i + 2)), .int (nI q), .ref (ad 20)]) rfl (fun ls hl => ?_)
        refine x_goto (tgt := 877) C d_Law_law_873 (by decide) ?_
        refine x_mw1 (x_cV C hH.1 mW_o rfl (c_Mo_part_2 l G A ad (cW G rb n md rd sd ms fl mn (va_up sc 0 2) ar b (oW G oa f)) sc ar (nI q) (xs (i + 2)) (xs (i + 3)) 1 q hv hq rfl (mn_6 hR.2.2.1 hq hz6)) t_846 t_14 t_843 t_844 t_845 hd_Mo_part blind_Pre (pre_mt C hH hA trivial) (As := [.int (nI q), .int (xs (i + 2)), .int (xs (i + 3)), .int 1]) (rest := []) rfl hl.1 rfl rfl rfl ⟨Nat.le_of_ble_eq_true rfl, Nat.le_of_ble_eq_true rfl⟩ (Nat.le_of_ble_eq_true rfl) ⟨by show cells + 1 + 0 ≤ 601024; omega, by show slots + 6 + 0 ≤ 7293034; omega⟩ d_Law_law_877) hH.2.2 (fun H locs hH => ?_)
        refine x_sx C b_Law_law_880_883 hl (L' := [(6, .int 0), (5, .int 2), (0, .ref b0), (1, .ref (sd 0)), (2, .ref (ad 20)), (3, .ref oa), (4, .int (nI i))]) (st' := [.ref (ad 20)]) rfl (fun ls hl => ?_)
        refine x_ro (x_cV C hH.1 mW_o rfl (c_Mo_thrown l G ad (cW G rb n md rd sd ms fl mn (va_up sc 0 2) ar b (oW G oa f)) (va_up sc 0 2) ar) t_746 t_14 t_743 t_744 t_745 hd_Mo_thrown blind_Pro (pre_ro C hH.1 hH.2.2) (As := []) (rest := []) rfl hl.1 rfl rfl rfl ⟨Nat.le_of_ble_eq_true rfl, Nat.le_of_ble_eq_true rfl⟩ (Nat.le_of_ble_eq_true rfl) ⟨by show cells + 1 + 0 ≤ 601024; omega, by show slots + 6 + 0 ≤ 7293034; omega⟩ d_Law_law_883) ?_
        refine x_sx C b_Law_law_886_888 hl (L' := [(6, .int 0), (5, .int 2), (0, .ref b0), (1, .ref (sd 0)), (2, .ref (ad 20)), (3, .ref oa), (4, .int (nI i))]) (st' := [.int 2, .int ((va_up sc 0 2) 0)]) rfl (fun ls hl => ?_)
        refine lv_icmp_eq (tgt := 893) C.1 C.2.1 d_Law_law_888 (by decide) (fun _ => ?_) (fun h => absurd (up_s _ _ _) h)
        refine x_sx C b_Law_law_893_895 hl (L' := [(6, .int 0), (5, .int 2), (0, .ref b0), (1, .ref (sd 0)), (2, .ref (ad 20)), (3, .ref oa), (4, .int (nI i))]) (st' := [.int 2]) rfl (fun ls hl => ?_)
        refine lv_if_ne (tgt := 910) C.1 C.2.1 d_Law_law_895 (by decide) (fun _ => ?_) (fun h => absurd h (by decide))
        refine x_goto (tgt := 1069) C d_Law_law_910 (by decide) ?_
        exact kk H locs _ _ ls ⟨rb, n, md, rd, sd, ms, fl, mn, (va_up sc 0 2), ar, b, np, f, (hR.z _), rfl, by rw [to_mW hn (by omega)]; exact hH⟩ (by omega) (by omega) (lv_sub hl [2, 3, 4, 5, 6] rfl)
      · have hz7 : mn q < 6 := by have := hR.m6 q hq; omega
        rw [cW_0 (v := 0)] at hH
        refine x_sx C b_Law_law_805_811 hl (L' := [(0, .ref b0), (1, .ref (sd 0)), (2, .ref (ad 20)), (3, .ref oa), (4, .int (nI i))]) (st' := [.int ((nI i) + 1), .ref b0, .ref (sd 0)]) rfl (fun ls hl => ?_)
        refine x_sld C hX hbl hbA hH.2.2 hL (ix_1 i) (by omega) d_Law_law_811 ?_
        rw [eq]
        refine x_sx C b_Law_law_812_817 hl (L' := [(0, .ref b0), (1, .ref (sd 0)), (2, .ref (ad 20)), (3, .ref oa), (4, .int (nI i))]) (st' := [.int ((nI i) + 2), .ref b0, .int (nI q), .ref (sd 0)]) rfl (fun ls hl => ?_)
        refine x_sld C hX hbl hbA hH.2.2 hL (ix_2 i) (by omega) d_Law_law_817 ?_
        refine x_sx C b_Law_law_818_823 hl (L' := [(0, .ref b0), (1, .ref (sd 0)), (2, .ref (ad 20)), (3, .ref oa), (4, .int (nI i))]) (st' := [.int ((nI i) + 3), .ref b0, .int (xs (i + 2)), .int (nI q), .ref (sd 0)]) rfl (fun ls hl => ?_)
        refine x_sld C hX hbl hbA hH.2.2 hL (ix_3 i) (by omega) d_Law_law_823 ?_
        refine x_sx C b_Law_law_824_829 hl (L' := [(0, .ref b0), (1, .ref (sd 0)), (2, .ref (ad 20)), (3, .ref oa), (4, .int (nI i))]) (st' := [.int ((nI i) + 4), .ref b0, .int (xs (i + 3)), .int (xs (i + 2)), .int (nI q), .ref (sd 0)]) rfl (fun ls hl => ?_)
        refine x_sld C hX hbl hbA hH.2.2 hL (ix_4 i) (by omega) d_Law_law_829 ?_
        refine lv_if_eq (tgt := 837) C.1 C.2.1 d_Law_law_830 (by decide) (fun h => absurd h hb) (fun _ => ?_)
        refine x_sx C b_Law_law_833_834 hl (L' := [(0, .ref b0), (1, .ref (sd 0)), (2, .ref (ad 20)), (3, .ref oa), (4, .int (nI i))]) (st' := [.int 1, .int (xs (i + 3)), .int (xs (i + 2)), .int (nI q), .ref (sd 0)]) rfl (fun ls hl => ?_)
        refine x_goto (tgt := 838) C d_Law_law_834 (by decide) ?_
        refine x_sx C b_Law_law_838_839 hl (L' := [(0, .ref b0), (1, .ref (sd 0)), (2, .ref (ad 20)), (3, .ref oa), (4, .int (nI i))]) (st' := [.ref oa, .int 1, .int (xs (i + 3)), .int (xs (i + 2)), .int (nI q), .ref (sd 0)]) rfl (fun ls hl => ?_)
        refine x_q1 (x_cSW C (c_Law_part l G A rb n md rd sd ms fl mn (va_up sc 0 0) ar b (lwW G oa f ad sc ar) q (xs (i + 2)) (xs (i + 3)) 1 hn hrb hq hz7 hR.m6 hR.2.2.2.1 hv.2 (Or.inr rfl) oa f hrbE lwW_o) t_579 t_0 t_577 t_578 hd_Law_part blind_Pre (pre_mt C hH hA trivial) (As := [.ref (sd 0), .int (nI q), .int (xs (i + 2)), .int (xs (i + 3)), .int 1, .ref oa]) (rest := []) rfl hl.1 rfl rfl rfl ⟨(Nat.le_of_ble_eq_true rfl), (Nat.le_of_ble_eq_true rfl)⟩ (Nat.le_of_ble_eq_true rfl) ⟨by show cells + 2 ≤ 601024; omega, by show slots + 13 ≤ 7293034; omega⟩ d_Law_law_839) hH.2.2 (fun x H locs hx hH hz => ?_)
        rw [lwW_up] at hH
        rw [to_mW hn (by omega)] at hH
        refine x_sx C b_Law_law_842_850 hl (L' := [(5, .int 0), (0, .ref b0), (1, .ref (sd 0)), (2, .ref (ad 20)), (3, .ref oa), (4, .int (nI i))]) (st' := [.int ((nI i) + 1), .ref b0, .ref (ad 20)]) rfl (fun ls hl => ?_)
        refine x_sld C hX hbl hbA hH.2.2 hL (ix_1 i) (by omega) d_Law_law_850 ?_
        rw [eq]
        refine x_sx C b_Law_law_851_856 hl (L' := [(5, .int 0), (0, .ref b0), (1, .ref (sd 0)), (2, .ref (ad 20)), (3, .ref oa), (4, .int (nI i))]) (st' := [.int ((nI i) + 2), .ref b0, .int (nI q), .ref (ad 20)]) rfl (fun ls hl => ?_)
        refine x_sld C hX hbl hbA hH.2.2 hL (ix_2 i) (by omega) d_Law_law_856 ?_
        refine x_sx C b_Law_law_857_862 hl (L' := [(5, .int 0), (0, .ref b0), (1, .ref (sd 0)), (2, .ref (ad 20)), (3, .ref oa), (4, .int (nI i))]) (st' := [.int ((nI i) + 3), .ref b0, .int (xs (i + 2)), .int (nI q), .ref (ad 20)]) rfl (fun ls hl => ?_)
        refine x_sld C hX hbl hbA hH.2.2 hL (ix_3 i) (by omega) d_Law_law_862 ?_
        refine x_sx C b_Law_law_863_868 hl (L' := [(5, .int 0), (0, .ref b0), (1, .ref (sd 0)), (2, .ref (ad 20)), (3, .ref oa), (4, .int (nI i))]) (st' := [.int ((nI i) + 4), .ref b0, .int (xs (i + 3)), .int (xs (i + 2)), .int (nI q), .ref (ad 20)]) rfl (fun ls hl => ?_)
        refine x_sld C hX hbl hbA hH.2.2 hL (ix_4 i) (by omega) d_Law_law_868 ?_
        refine lv_if_eq (tgt := 876) C.1 C.2.1 d_Law_law_869 (by decide) (fun h => absurd h hb) (fun _ => ?_)
        refine x_sx C b_Law_law_872_873 hl (L' := [(5, .int 0), (0, .ref b0), (1, .ref (sd 0)), (2, .ref (ad 20)), (3, .ref oa), (4, .int (nI i))]) (st' := [.int 1, .int (xs (i + 3)), .int (xs (i + 2)), .int (nI q), .ref (ad 20)]) rfl (fun ls hl => ?_)
        refine x_goto (tgt := 877) C d_Law_law_873 (by decide) ?_
        refine x_mw1 (x_cV C hH.1 mW_o rfl (c_Mo_part l G A ad (cW G rb n md rd x (va_up ms (2 + q) (ms (2 + q) + 1)) (va_up fl q 1) (va_up mn q (mn q + 1)) (va_up sc 0 0) (fPartA ar q (mn q) (xs (i + 2)) (xs (i + 3)) 1) b (oW G oa (vp_updL f 0 (nI (mn q + 1)).toInt64))) sc ar (nI q) (xs (i + 2)) (xs (i + 3)) 1 q (mn q) hv hq rfl (hR.2.2.1 q hq).2.1 hz7 (Or.inr rfl)) t_846 t_14 t_843 t_844 t_845 hd_Mo_part blind_Pre (pre_mt C hH hA trivial) (As := [.int (nI q), .int (xs (i + 2)), .int (xs (i + 3)), .int 1]) (rest := []) rfl hl.1 rfl rfl rfl ⟨Nat.le_of_ble_eq_true rfl, Nat.le_of_ble_eq_true rfl⟩ (Nat.le_of_ble_eq_true rfl) ⟨by show cells + 2 + 0 ≤ 601024; omega, by show slots + 13 + 0 ≤ 7293034; omega⟩ d_Law_law_877) hH.2.2 (fun H locs hH => ?_)
        refine x_sx C b_Law_law_880_883 hl (L' := [(6, .int (nI ((mn q) + 1))), (5, .int 0), (0, .ref b0), (1, .ref (sd 0)), (2, .ref (ad 20)), (3, .ref oa), (4, .int (nI i))]) (st' := [.ref (ad 20)]) rfl (fun ls hl => ?_)
        refine x_ro (x_cV C hH.1 mW_o rfl (c_Mo_thrown l G ad (cW G rb n md rd x (va_up ms (2 + q) (ms (2 + q) + 1)) (va_up fl q 1) (va_up mn q (mn q + 1)) (va_up sc 0 0) (fPartA ar q (mn q) (xs (i + 2)) (xs (i + 3)) 1) b (oW G oa (vp_updL f 0 (nI (mn q + 1)).toInt64))) (va_up sc 0 0) (fPartA ar q (mn q) (xs (i + 2)) (xs (i + 3)) 1)) t_746 t_14 t_743 t_744 t_745 hd_Mo_thrown blind_Pro (pre_ro C hH.1 hH.2.2) (As := []) (rest := []) rfl hl.1 rfl rfl rfl ⟨Nat.le_of_ble_eq_true rfl, Nat.le_of_ble_eq_true rfl⟩ (Nat.le_of_ble_eq_true rfl) ⟨by show cells + 2 + 0 ≤ 601024; omega, by show slots + 13 + 0 ≤ 7293034; omega⟩ d_Law_law_883) ?_
        refine x_sx C b_Law_law_886_888 hl (L' := [(6, .int (nI ((mn q) + 1))), (5, .int 0), (0, .ref b0), (1, .ref (sd 0)), (2, .ref (ad 20)), (3, .ref oa), (4, .int (nI i))]) (st' := [.int 0, .int ((va_up sc 0 0) 0)]) rfl (fun ls hl => ?_)
        refine lv_icmp_eq (tgt := 893) C.1 C.2.1 d_Law_law_888 (by decide) (fun _ => ?_) (fun h => absurd (up_s _ _ _) h)
        refine x_sx C b_Law_law_893_895 hl (L' := [(6, .int (nI ((mn q) + 1))), (5, .int 0), (0, .ref b0), (1, .ref (sd 0)), (2, .ref (ad 20)), (3, .ref oa), (4, .int (nI i))]) (st' := [.int 0]) rfl (fun ls hl => ?_)
        refine lv_if_ne (tgt := 910) C.1 C.2.1 d_Law_law_895 (by decide) (fun h => absurd (by decide) h) (fun _ => ?_)
        refine x_sx C b_Law_law_898_900 hl (L' := [(6, .int (nI ((mn q) + 1))), (5, .int 0), (0, .ref b0), (1, .ref (sd 0)), (2, .ref (ad 20)), (3, .ref oa), (4, .int (nI i))]) (st' := [.int 0, .ref oa]) rfl (fun ls hl => ?_)
        refine x_lld C hH.1 500 (mo_o hn (by omega)) (j := 0) rfl (by decide) (by decide) d_Law_law_900 ?_
        refine x_sx C b_Law_law_901_905 hl (L' := [(6, .int (nI ((mn q) + 1))), (5, .int 0), (0, .ref b0), (1, .ref (sd 0)), (2, .ref (ad 20)), (3, .ref oa), (4, .int (nI i))]) (st' := [.int (lg_cmp ((nI (mn q + 1)).toInt64) ((nI ((mn q) + 1)).toInt64))]) rfl (fun ls hl => ?_)
        refine lv_if_eq (tgt := 910) C.1 C.2.1 d_Law_law_905 (by decide) (fun _ => ?_) (fun h => absurd ((lg_cmp_eq _ _).mpr rfl) h)
        refine x_goto (tgt := 1069) C d_Law_law_910 (by decide) ?_
        exact kk H locs _ _ ls ⟨rb, n, md, rd, x, (va_up ms (2 + q) (ms (2 + q) + 1)), (va_up fl q 1), (va_up mn q (mn q + 1)), (va_up sc 0 0), (fPartA ar q (mn q) (xs (i + 2)) (xs (i + 3)) 1), b, np, (vp_updL f 0 (nI (mn q + 1)).toInt64), ((hR.z 0).part hq hz7 hv.2), hx, by rw [to_mW hn (by omega)]; exact hH⟩ (by omega) (by omega) (lv_sub hl [2, 3, 4, 5, 6] rfl)
    · rw [cW_0 (v := 1)] at hH
      refine x_sx C b_Law_law_805_811 hl (L' := [(0, .ref b0), (1, .ref (sd 0)), (2, .ref (ad 20)), (3, .ref oa), (4, .int (nI i))]) (st' := [.int ((nI i) + 1), .ref b0, .ref (sd 0)]) rfl (fun ls hl => ?_)
      refine x_sld C hX hbl hbA hH.2.2 hL (ix_1 i) (by omega) d_Law_law_811 ?_
      refine x_sx C b_Law_law_812_817 hl (L' := [(0, .ref b0), (1, .ref (sd 0)), (2, .ref (ad 20)), (3, .ref oa), (4, .int (nI i))]) (st' := [.int ((nI i) + 2), .ref b0, .int (xs (i + 1)), .ref (sd 0)]) rfl (fun ls hl => ?_)
      refine x_sld C hX hbl hbA hH.2.2 hL (ix_2 i) (by omega) d_Law_law_817 ?_
      refine x_sx C b_Law_law_818_823 hl (L' := [(0, .ref b0), (1, .ref (sd 0)), (2, .ref (ad 20)), (3, .ref oa), (4, .int (nI i))]) (st' := [.int ((nI i) + 3), .ref b0, .int (xs (i + 2)), .int (xs (i + 1)), .ref (sd 0)]) rfl (fun ls hl => ?_)
      refine x_sld C hX hbl hbA hH.2.2 hL (ix_3 i) (by omega) d_Law_law_823 ?_
      refine x_sx C b_Law_law_824_829 hl (L' := [(0, .ref b0), (1, .ref (sd 0)), (2, .ref (ad 20)), (3, .ref oa), (4, .int (nI i))]) (st' := [.int ((nI i) + 4), .ref b0, .int (xs (i + 3)), .int (xs (i + 2)), .int (xs (i + 1)), .ref (sd 0)]) rfl (fun ls hl => ?_)
      refine x_sld C hX hbl hbA hH.2.2 hL (ix_4 i) (by omega) d_Law_law_829 ?_
      refine lv_if_eq (tgt := 837) C.1 C.2.1 d_Law_law_830 (by decide) (fun h => absurd h hb) (fun _ => ?_)
      refine x_sx C b_Law_law_833_834 hl (L' := [(0, .ref b0), (1, .ref (sd 0)), (2, .ref (ad 20)), (3, .ref oa), (4, .int (nI i))]) (st' := [.int 1, .int (xs (i + 3)), .int (xs (i + 2)), .int (xs (i + 1)), .ref (sd 0)]) rfl (fun ls hl => ?_)
      refine x_goto (tgt := 838) C d_Law_law_834 (by decide) ?_
      refine x_sx C b_Law_law_838_839 hl (L' := [(0, .ref b0), (1, .ref (sd 0)), (2, .ref (ad 20)), (3, .ref oa), (4, .int (nI i))]) (st' := [.ref oa, .int 1, .int (xs (i + 3)), .int (xs (i + 2)), .int (xs (i + 1)), .ref (sd 0)]) rfl (fun ls hl => ?_)
      refine x_q1 (x_cSW C (c_Law_part_1 l G A rb n md rd sd ms fl mn (va_up sc 0 1) ar b (lwW G oa f ad sc ar) (xs (i + 1)) (xs (i + 2)) (xs (i + 3)) 1 hfl hn hrb hv oa f hrbE lwW_o) t_579 t_0 t_577 t_578 hd_Law_part blind_Pre (pre_mt C hH hA trivial) (As := [.ref (sd 0), .int (xs (i + 1)), .int (xs (i + 2)), .int (xs (i + 3)), .int 1, .ref oa]) (rest := []) rfl hl.1 rfl rfl rfl ⟨(Nat.le_of_ble_eq_true rfl), (Nat.le_of_ble_eq_true rfl)⟩ (Nat.le_of_ble_eq_true rfl) ⟨by show cells + 1 ≤ 601024; omega, by show slots + 6 ≤ 7293034; omega⟩ d_Law_law_839) hH.2.2 (fun x H locs hx hH hz => ?_)
      rw [to_mW hn (by omega)] at hH
      refine x_sx C b_Law_law_842_850 hl (L' := [(5, .int 1), (0, .ref b0), (1, .ref (sd 0)), (2, .ref (ad 20)), (3, .ref oa), (4, .int (nI i))]) (st' := [.int ((nI i) + 1), .ref b0, .ref (ad 20)]) rfl (fun ls hl => ?_)
      refine x_sld C hX hbl hbA hH.2.2 hL (ix_1 i) (by omega) d_Law_law_850 ?_
      refine x_sx C b_Law_law_851_856 hl (L' := [(5, .int 1), (0, .ref b0), (1, .ref (sd 0)), (2, .ref (ad 20)), (3, .ref oa), (4, .int (nI i))]) (st' := [.int ((nI i) + 2), .ref b0, .int (xs (i + 1)), .ref (ad 20)]) rfl (fun ls hl => ?_)
      refine x_sld C hX hbl hbA hH.2.2 hL (ix_2 i) (by omega) d_Law_law_856 ?_
      refine x_sx C b_Law_law_857_862 hl (L' := [(5, .int 1), (0, .ref b0), (1, .ref (sd 0)), (2, .ref (ad 20)), (3, .ref oa), (4, .int (nI i))]) (st' := [.int ((nI i) + 3), .ref b0, .int (xs (i + 2)), .int (xs (i + 1)), .ref (ad 20)]) rfl (fun ls hl => ?_)
      refine x_sld C hX hbl hbA hH.2.2 hL (ix_3 i) (by omega) d_Law_law_862 ?_
      refine x_sx C b_Law_law_863_868 hl (L' := [(5, .int 1), (0, .ref b0), (1, .ref (sd 0)), (2, .ref (ad 20)), (3, .ref oa), (4, .int (nI i))]) (st' := [.int ((nI i) + 4), .ref b0, .int (xs (i + 3)), .int (xs (i + 2)), .int (xs (i + 1)), .ref (ad 20)]) rfl (fun ls hl => ?_)
      refine x_sld C hX hbl hbA hH.2.2 hL (ix_4 i) (by omega) d_Law_law_868 ?_
      refine lv_if_eq (tgt := 876) C.1 C.2.1 d_Law_law_869 (by decide) (fun h => absurd h hb) (fun _ => ?_)
      refine x_sx C b_Law_law_872_873 hl (L' := [(5, .int 1), (0, .ref b0), (1, .ref (sd 0)), (2, .ref (ad 20)), (3, .ref oa), (4, .int (nI i))]) (st' := [.int 1, .int (xs (i + 3)), .int (xs (i + 2)), .int (xs (i + 1)), .ref (ad 20)]) rfl (fun ls hl => ?_)
      refine x_goto (tgt := 877) C d_Law_law_873 (by decide) ?_
      refine x_mw1 (x_cV C hH.1 mW_o rfl (c_Mo_part_1 l G A ad (cW G rb n md rd sd ms fl mn (va_up sc 0 1) ar b (oW G oa f)) sc ar (xs (i + 1)) (xs (i + 2)) (xs (i + 3)) 1 hv) t_846 t_14 t_843 t_844 t_845 hd_Mo_part blind_Pre (pre_mt C hH hA trivial) (As := [.int (xs (i + 1)), .int (xs (i + 2)), .int (xs (i + 3)), .int 1]) (rest := []) rfl hl.1 rfl rfl rfl ⟨Nat.le_of_ble_eq_true rfl, Nat.le_of_ble_eq_true rfl⟩ (Nat.le_of_ble_eq_true rfl) ⟨by show cells + 1 + 0 ≤ 601024; omega, by show slots + 6 + 0 ≤ 7293034; omega⟩ d_Law_law_877) hH.2.2 (fun H locs hH => ?_)
      refine x_sx C b_Law_law_880_883 hl (L' := [(6, .int 0), (5, .int 1), (0, .ref b0), (1, .ref (sd 0)), (2, .ref (ad 20)), (3, .ref oa), (4, .int (nI i))]) (st' := [.ref (ad 20)]) rfl (fun ls hl => ?_)
      refine x_ro (x_cV C hH.1 mW_o rfl (c_Mo_thrown l G ad (cW G rb n md rd sd ms fl mn (va_up sc 0 1) ar b (oW G oa f)) (va_up sc 0 1) ar) t_746 t_14 t_743 t_744 t_745 hd_Mo_thrown blind_Pro (pre_ro C hH.1 hH.2.2) (As := []) (rest := []) rfl hl.1 rfl rfl rfl ⟨Nat.le_of_ble_eq_true rfl, Nat.le_of_ble_eq_true rfl⟩ (Nat.le_of_ble_eq_true rfl) ⟨by show cells + 1 + 0 ≤ 601024; omega, by show slots + 6 + 0 ≤ 7293034; omega⟩ d_Law_law_883) ?_
      refine x_sx C b_Law_law_886_888 hl (L' := [(6, .int 0), (5, .int 1), (0, .ref b0), (1, .ref (sd 0)), (2, .ref (ad 20)), (3, .ref oa), (4, .int (nI i))]) (st' := [.int 1, .int ((va_up sc 0 1) 0)]) rfl (fun ls hl => ?_)
      refine lv_icmp_eq (tgt := 893) C.1 C.2.1 d_Law_law_888 (by decide) (fun _ => ?_) (fun h => absurd (up_s _ _ _) h)
      refine x_sx C b_Law_law_893_895 hl (L' := [(6, .int 0), (5, .int 1), (0, .ref b0), (1, .ref (sd 0)), (2, .ref (ad 20)), (3, .ref oa), (4, .int (nI i))]) (st' := [.int 1]) rfl (fun ls hl => ?_)
      refine lv_if_ne (tgt := 910) C.1 C.2.1 d_Law_law_895 (by decide) (fun _ => ?_) (fun h => absurd h (by decide))
      refine x_goto (tgt := 1069) C d_Law_law_910 (by decide) ?_
      exact kk H locs _ _ ls ⟨rb, n, md, rd, sd, ms, fl, mn, (va_up sc 0 1), ar, b, np, f, (hR.z _), rfl, by rw [to_mW hn (by omega)]; exact hH⟩ (by omega) (by omega) (lv_sub hl [2, 3, 4, 5, 6] rfl)
theorem b_Law_law_913_919 : decs code [(.aload_n 1, 1), (.aload_n 0, 1), (.iload 4, 2), (.iconst 1, 1), (.iadd, 1)] 913 919 = true := by decide +kernel
theorem d_Law_law_919 : decode code 919 = .ok (.iaload, 1) := by decide +kernel
theorem b_Law_law_920_921 : decs code [(.aload_n 3, 1)] 920 921 = true := by decide +kernel
theorem d_Law_law_921 : decode code 921 = .ok (.invokestatic 116, 3) := by decide +kernel
theorem b_Law_law_924_932 : decs code [(.istore 5, 2), (.aload_n 2, 1), (.aload_n 0, 1), (.iload 4, 2), (.iconst 1, 1), (.iadd, 1)] 924 932 = true := by decide +kernel
theorem d_Law_law_932 : decode code 932 = .ok (.iaload, 1) := by decide +kernel
theorem d_Law_law_933 : decode code 933 = .ok (.invokevirtual 118, 3) := by decide +kernel
theorem b_Law_law_936_939 : decs code [(.istore 6, 2), (.aload_n 2, 1)] 936 939 = true := by decide +kernel
theorem d_Law_law_939 : decode code 939 = .ok (.invokevirtual 71, 3) := by decide +kernel
theorem b_Law_law_942_944 : decs code [(.iload 5, 2)] 942 944 = true := by decide +kernel
theorem d_Law_law_944 : decode code 944 = .ok (.if_icmp .eq 5, 3) := by decide +kernel
theorem b_Law_law_949_951 : decs code [(.iload 5, 2)] 949 951 = true := by decide +kernel
theorem d_Law_law_951 : decode code 951 = .ok (.ifCond .ne 15, 3) := by decide +kernel
theorem b_Law_law_954_956 : decs code [(.aload_n 3, 1), (.iconst 0, 1)] 954 956 = true := by decide +kernel
theorem d_Law_law_956 : decode code 956 = .ok (.laload, 1) := by decide +kernel
theorem b_Law_law_957_961 : decs code [(.iload 6, 2), (.i2l, 1), (.lcmp, 1)] 957 961 = true := by decide +kernel
theorem d_Law_law_961 : decode code 961 = .ok (.ifCond .eq 5, 3) := by decide +kernel
theorem d_Law_law_966 : decode code 966 = .ok (.goto 103, 3) := by decide +kernel
set_option maxRecDepth 100000 in
set_option maxHeartbeats 4000000 in
theorem lo_clear {p : Program} {l : Launch} {e : Env} {s : State} {m : MethodId} {below : List Frame} {meth : Method} {c : Code} {G : GG} {A : Nat → Prop} {b0 L : Nat} {xs : Nat → Int32} {H : Heap} {locs : List Loc} {cells slots : Nat} {Q : State → Prop} {ls : Array Slot} {oa sa : Nat} {ad : Nat → Nat} {i : Nat} (C : Cx p s m #[.ref b0] meth c code 7 "SweptPathsLaw" G A) (hfl : l.flags = pinnedFlags ++ [noTraceFlag]) (hA : ∀ q, s.heap.size ≤ q → A q) (hX : va_X b0 L xs s s.heap) (hbl : b0 < s.heap.size) (hbA : ¬ A b0) (hL : L ≤ 384) (hi : i + 6 ≤ L) (hI : LI G A s oa ad sa H locs) (hce : cells ≤ 100000) (hsl : slots ≤ 1000000) (hl : lv_has ls 7 [(0, .ref b0), (1, .ref sa), (2, .ref (ad 20)), (3, .ref oa), (4, .int (nI i))]) (kk : ∀ (H : Heap) (locs : List Loc) (cells2 slots2 : Nat) (ls : Array Slot), LI G A s oa ad sa H locs → cells2 ≤ cells + 80 → slots2 ≤ slots + 2224 → lv_has ls 7 [(0, .ref b0), (1, .ref sa), (2, .ref (ad 20)), (3, .ref oa), (4, .int (nI i))] → W p l e room_1 s m #[.ref b0] below meth c H locs cells2 slots2 Q (F0 m 1069 ls [])) : W p l e room_1 s m #[.ref b0] below meth c H locs cells slots Q (F0 m 913 ls []) := by
  obtain ⟨rb, n, md, rd, sd, ms, fl, mn, sc, ar, b, np, f, hR, rfl, hH⟩ := hI
  have hn := hR.n3
  have hrbE := hR.1
  have h1 : sc 1 = nI n := hR.2.1.1.1
  have h6 : sc 6 = nI np := hR.2.1.1.2.2.1
  have hnp : np ≤ 20 := hR.2.1.1.2.2.2.1
  have hrb : 100 ≤ rb := by omega
  have hrb2 : rb ≤ 200 := by omega
  have hz0 : Z01 (ar 17) := hR.2.1.2.1
  by_cases hv : p_in (xs (i + 1)) 0 3 = 1
  · obtain ⟨q, hq, eq⟩ := plan_ix hv
    rw [eq] at hv
    rw [cW_0 (v := 0)] at hH
    refine x_sx C b_Law_law_913_919 hl (L' := [(0, .ref b0), (1, .ref (sd 0)), (2, .ref (ad 20)), (3, .ref oa), (4, .int (nI i))]) (st' := [.int ((nI i) + 1), .ref b0, .ref (sd 0)]) rfl (fun ls hl => ?_)
    refine x_sld C hX hbl hbA hH.2.2 hL (ix_1 i) (by omega) d_Law_law_919 ?_
    rw [eq]
    refine x_sx C b_Law_law_920_921 hl (L' := [(0, .ref b0), (1, .ref (sd 0)), (2, .ref (ad 20)), (3, .ref oa), (4, .int (nI i))]) (st' := [.ref oa, .int (nI q), .ref (sd 0)]) rfl (fun ls hl => ?_)
    refine x_q1 (x_cSW C (c_Law_clear l G A rb n md rd sd ms fl mn (va_up sc 0 0) ar b (lwW G oa f ad sc ar) q hn hrb hq hR.m6 hR.2.2.2.1 (fun m h1 h2 => lwW_n (by omega)) oa f hrbE lwW_o) t_609 t_0 t_607 t_608 hd_Law_clear blind_Pre (pre_mt C hH hA trivial) (As := [.ref (sd 0), .int (nI q), .ref oa]) (rest := []) rfl hl.1 rfl rfl rfl ⟨(Nat.le_of_ble_eq_true rfl), (Nat.le_of_ble_eq_true rfl)⟩ (Nat.le_of_ble_eq_true rfl) ⟨by show cells + 0 ≤ 601024; omega, by show slots + 0 ≤ 7293034; omega⟩ d_Law_law_921) hH.2.2 (fun x H locs hx hH hz => ?_)
    rw [lwW_up] at hH
    rw [to_mW hn (by omega)] at hH
    refine x_sx C b_Law_law_924_932 hl (L' := [(5, .int 0), (0, .ref b0), (1, .ref (sd 0)), (2, .ref (ad 20)), (3, .ref oa), (4, .int (nI i))]) (st' := [.int ((nI i) + 1), .ref b0, .ref (ad 20)]) rfl (fun ls hl => ?_)
    refine x_sld C hX hbl hbA hH.2.2 hL (ix_1 i) (by omega) d_Law_law_932 ?_
    rw [eq]
    refine x_mw1 (x_cV C hH.1 mW_o rfl (c_Mo_clear l G A ad (cW G rb n md rd sd (va_up ms (2 + q) (ms (2 + q) + 1)) fl (va_up mn q 0) (va_up sc 0 0) (va_up ar 8 (upd (ar 8) q 0)) b (oW G oa (vp_updL f 0 (nI (mn q)).toInt64))) sc ar (nI q) q hv hq rfl) t_850 t_14 t_847 t_848 t_849 hd_Mo_clear blind_Pre (pre_mt C hH hA trivial) (As := [.int (nI q)]) (rest := []) rfl hl.1 rfl rfl rfl ⟨Nat.le_of_ble_eq_true rfl, Nat.le_of_ble_eq_true rfl⟩ (Nat.le_of_ble_eq_true rfl) ⟨by show cells + 0 + 0 ≤ 601024; omega, by show slots + 0 + 0 ≤ 7293034; omega⟩ d_Law_law_933) hH.2.2 (fun H locs hH => ?_)
    refine x_sx C b_Law_law_936_939 hl (L' := [(6, .int (ar 8 q)), (5, .int 0), (0, .ref b0), (1, .ref (sd 0)), (2, .ref (ad 20)), (3, .ref oa), (4, .int (nI i))]) (st' := [.ref (ad 20)]) rfl (fun ls hl => ?_)
    refine x_ro (x_cV C hH.1 mW_o rfl (c_Mo_thrown l G ad (cW G rb n md rd sd (va_up ms (2 + q) (ms (2 + q) + 1)) fl (va_up mn q 0) (va_up sc 0 0) (va_up ar 8 (upd (ar 8) q 0)) b (oW G oa (vp_updL f 0 (nI (mn q)).toInt64))) (va_up sc 0 0) (va_up ar 8 (upd (ar 8) q 0))) t_746 t_14 t_743 t_744 t_745 hd_Mo_thrown blind_Pro (pre_ro C hH.1 hH.2.2) (As := []) (rest := []) rfl hl.1 rfl rfl rfl ⟨Nat.le_of_ble_eq_true rfl, Nat.le_of_ble_eq_true rfl⟩ (Nat.le_of_ble_eq_true rfl) ⟨by show cells + 0 + 0 ≤ 601024; omega, by show slots + 0 + 0 ≤ 7293034; omega⟩ d_Law_law_939) ?_
    refine x_sx C b_Law_law_942_944 hl (L' := [(6, .int (ar 8 q)), (5, .int 0), (0, .ref b0), (1, .ref (sd 0)), (2, .ref (ad 20)), (3, .ref oa), (4, .int (nI i))]) (st' := [.int 0, .int ((va_up sc 0 0) 0)]) rfl (fun ls hl => ?_)
    refine lv_icmp_eq (tgt := 949) C.1 C.2.1 d_Law_law_944 (by decide) (fun _ => ?_) (fun h => absurd (up_s _ _ _) h)
    refine x_sx C b_Law_law_949_951 hl (L' := [(6, .int (ar 8 q)), (5, .int 0), (0, .ref b0), (1, .ref (sd 0)), (2, .ref (ad 20)), (3, .ref oa), (4, .int (nI i))]) (st' := [.int 0]) rfl (fun ls hl => ?_)
    refine lv_if_ne (tgt := 966) C.1 C.2.1 d_Law_law_951 (by decide) (fun h => absurd (by decide) h) (fun _ => ?_)
    refine x_sx C b_Law_law_954_956 hl (L' := [(6, .int (ar 8 q)), (5, .int 0), (0, .ref b0), (1, .ref (sd 0)), (2, .ref (ad 20)), (3, .ref oa), (4, .int (nI i))]) (st' := [.int 0, .ref oa]) rfl (fun ls hl => ?_)
    refine x_lld C hH.1 500 (mo_o hn (by omega)) (j := 0) rfl (by decide) (by decide) d_Law_law_956 ?_
    refine x_sx C b_Law_law_957_961 hl (L' := [(6, .int (ar 8 q)), (5, .int 0), (0, .ref b0), (1, .ref (sd 0)), (2, .ref (ad 20)), (3, .ref oa), (4, .int (nI i))]) (st' := [.int (lg_cmp ((nI (mn q)).toInt64) ((ar 8 q).toInt64))]) rfl (fun ls hl => ?_)
    refine lv_if_eq (tgt := 966) C.1 C.2.1 d_Law_law_961 (by decide) (fun _ => ?_) (fun h => absurd ((lg_cmp_eq _ _).mpr (by rw [(hR.2.2.1 q hq).2.1])) h)
    refine x_goto (tgt := 1069) C d_Law_law_966 (by decide) ?_
    exact kk H locs _ _ ls ⟨rb, n, md, rd, sd, (va_up ms (2 + q) (ms (2 + q) + 1)), fl, (va_up mn q 0), (va_up sc 0 0), (va_up ar 8 (upd (ar 8) q 0)), b, np, (vp_updL f 0 (nI (mn q)).toInt64), ((hR.z 0).clear hq), rfl, by rw [to_mW hn (by omega)]; exact hH⟩ (by omega) (by omega) (lv_sub hl [2, 3, 4, 5, 6] rfl)
  · rw [cW_0 (v := 1)] at hH
    refine x_sx C b_Law_law_913_919 hl (L' := [(0, .ref b0), (1, .ref (sd 0)), (2, .ref (ad 20)), (3, .ref oa), (4, .int (nI i))]) (st' := [.int ((nI i) + 1), .ref b0, .ref (sd 0)]) rfl (fun ls hl => ?_)
    refine x_sld C hX hbl hbA hH.2.2 hL (ix_1 i) (by omega) d_Law_law_919 ?_
    refine x_sx C b_Law_law_920_921 hl (L' := [(0, .ref b0), (1, .ref (sd 0)), (2, .ref (ad 20)), (3, .ref oa), (4, .int (nI i))]) (st' := [.ref oa, .int (xs (i + 1)), .ref (sd 0)]) rfl (fun ls hl => ?_)
    refine x_q1 (x_cSW C (c_Law_clear_1 l G A rb n md rd sd ms fl mn (va_up sc 0 1) ar b (lwW G oa f ad sc ar) (xs (i + 1)) hfl hn hrb hv oa f hrbE lwW_o) t_609 t_0 t_607 t_608 hd_Law_clear blind_Pre (pre_mt C hH hA trivial) (As := [.ref (sd 0), .int (xs (i + 1)), .ref oa]) (rest := []) rfl hl.1 rfl rfl rfl ⟨(Nat.le_of_ble_eq_true rfl), (Nat.le_of_ble_eq_true rfl)⟩ (Nat.le_of_ble_eq_true rfl) ⟨by show cells + 1 ≤ 601024; omega, by show slots + 6 ≤ 7293034; omega⟩ d_Law_law_921) hH.2.2 (fun x H locs hx hH hz => ?_)
    rw [to_mW hn (by omega)] at hH
    refine x_sx C b_Law_law_924_932 hl (L' := [(5, .int 1), (0, .ref b0), (1, .ref (sd 0)), (2, .ref (ad 20)), (3, .ref oa), (4, .int (nI i))]) (st' := [.int ((nI i) + 1), .ref b0, .ref (ad 20)]) rfl (fun ls hl => ?_)
    refine x_sld C hX hbl hbA hH.2.2 hL (ix_1 i) (by omega) d_Law_law_932 ?_
    refine x_mw1 (x_cV C hH.1 mW_o rfl (c_Mo_clear_1 l G A ad (cW G rb n md rd sd ms fl mn (va_up sc 0 1) ar b (oW G oa f)) sc ar (xs (i + 1)) hv) t_850 t_14 t_847 t_848 t_849 hd_Mo_clear blind_Pre (pre_mt C hH hA trivial) (As := [.int (xs (i + 1))]) (rest := []) rfl hl.1 rfl rfl rfl ⟨Nat.le_of_ble_eq_true rfl, Nat.le_of_ble_eq_true rfl⟩ (Nat.le_of_ble_eq_true rfl) ⟨by show cells + 1 + 0 ≤ 601024; omega, by show slots + 6 + 0 ≤ 7293034; omega⟩ d_Law_law_933) hH.2.2 (fun H locs hH => ?_)
    refine x_sx C b_Law_law_936_939 hl (L' := [(6, .int 0), (5, .int 1), (0, .ref b0), (1, .ref (sd 0)), (2, .ref (ad 20)), (3, .ref oa), (4, .int (nI i))]) (st' := [.ref (ad 20)]) rfl (fun ls hl => ?_)
    refine x_ro (x_cV C hH.1 mW_o rfl (c_Mo_thrown l G ad (cW G rb n md rd sd ms fl mn (va_up sc 0 1) ar b (oW G oa f)) (va_up sc 0 1) ar) t_746 t_14 t_743 t_744 t_745 hd_Mo_thrown blind_Pro (pre_ro C hH.1 hH.2.2) (As := []) (rest := []) rfl hl.1 rfl rfl rfl ⟨Nat.le_of_ble_eq_true rfl, Nat.le_of_ble_eq_true rfl⟩ (Nat.le_of_ble_eq_true rfl) ⟨by show cells + 1 + 0 ≤ 601024; omega, by show slots + 6 + 0 ≤ 7293034; omega⟩ d_Law_law_939) ?_
    refine x_sx C b_Law_law_942_944 hl (L' := [(6, .int 0), (5, .int 1), (0, .ref b0), (1, .ref (sd 0)), (2, .ref (ad 20)), (3, .ref oa), (4, .int (nI i))]) (st' := [.int 1, .int ((va_up sc 0 1) 0)]) rfl (fun ls hl => ?_)
    refine lv_icmp_eq (tgt := 949) C.1 C.2.1 d_Law_law_944 (by decide) (fun _ => ?_) (fun h => absurd (up_s _ _ _) h)
    refine x_sx C b_Law_law_949_951 hl (L' := [(6, .int 0), (5, .int 1), (0, .ref b0), (1, .ref (sd 0)), (2, .ref (ad 20)), (3, .ref oa), (4, .int (nI i))]) (st' := [.int 1]) rfl (fun ls hl => ?_)
    refine lv_if_ne (tgt := 966) C.1 C.2.1 d_Law_law_951 (by decide) (fun _ => ?_) (fun h => absurd h (by decide))
    refine x_goto (tgt := 1069) C d_Law_law_966 (by decide) ?_
    exact kk H locs _ _ ls ⟨rb, n, md, rd, sd, ms, fl, mn, (va_up sc 0 1), ar, b, np, f, (hR.z _), rfl, by rw [to_mW hn (by omega)]; exact hH⟩ (by omega) (by omega) (lv_sub hl [2, 3, 4, 5, 6] rfl)
theorem b_Law_law_969_971 : decs code [(.aload_n 1, 1), (.aload_n 3, 1)] 969 971 = true := by decide +kernel
theorem d_Law_law_971 : decode code 971 = .ok (.invokestatic 119, 3) := by decide +kernel
theorem b_Law_law_974_977 : decs code [(.istore 5, 2), (.aload_n 2, 1)] 974 977 = true := by decide +kernel
theorem d_Law_law_977 : decode code 977 = .ok (.invokevirtual 122, 3) := by decide +kernel
theorem b_Law_law_980_983 : decs code [(.istore 6, 2), (.aload_n 2, 1)] 980 983 = true := by decide +kernel
theorem d_Law_law_983 : decode code 983 = .ok (.invokevirtual 71, 3) := by decide +kernel
theorem b_Law_law_986_988 : decs code [(.iload 5, 2)] 986 988 = true := by decide +kernel
theorem d_Law_law_988 : decode code 988 = .ok (.if_icmp .eq 5, 3) := by decide +kernel
theorem b_Law_law_993_995 : decs code [(.iload 5, 2)] 993 995 = true := by decide +kernel
theorem d_Law_law_995 : decode code 995 = .ok (.ifCond .ne 15, 3) := by decide +kernel
theorem d_Law_law_1010 : decode code 1010 = .ok (.goto 59, 3) := by decide +kernel
theorem b_Law_law_998_1000 : decs code [(.aload_n 3, 1), (.iconst 0, 1)] 998 1000 = true := by decide +kernel
theorem d_Law_law_1000 : decode code 1000 = .ok (.laload, 1) := by decide +kernel
theorem b_Law_law_1001_1005 : decs code [(.iload 6, 2), (.i2l, 1), (.lcmp, 1)] 1001 1005 = true := by decide +kernel
theorem d_Law_law_1005 : decode code 1005 = .ok (.ifCond .eq 5, 3) := by decide +kernel
set_option maxRecDepth 100000 in
set_option maxHeartbeats 4000000 in
theorem lo_best {p : Program} {l : Launch} {e : Env} {s : State} {m : MethodId} {below : List Frame} {meth : Method} {c : Code} {G : GG} {A : Nat → Prop} {b0 L : Nat} {xs : Nat → Int32} {H : Heap} {locs : List Loc} {cells slots : Nat} {Q : State → Prop} {ls : Array Slot} {oa sa : Nat} {ad : Nat → Nat} {i : Nat} (C : Cx p s m #[.ref b0] meth c code 7 "SweptPathsLaw" G A) (hfl : l.flags = pinnedFlags ++ [noTraceFlag]) (hA : ∀ q, s.heap.size ≤ q → A q) (hX : va_X b0 L xs s s.heap) (hbl : b0 < s.heap.size) (hbA : ¬ A b0) (hL : L ≤ 384) (hi : i + 6 ≤ L) (hI : LI G A s oa ad sa H locs) (hce : cells ≤ 100000) (hsl : slots ≤ 1000000) (hl : lv_has ls 7 [(0, .ref b0), (1, .ref sa), (2, .ref (ad 20)), (3, .ref oa), (4, .int (nI i))]) (kk : ∀ (H : Heap) (locs : List Loc) (cells2 slots2 : Nat) (ls : Array Slot), LI G A s oa ad sa H locs → cells2 ≤ cells + 80 → slots2 ≤ slots + 2224 → lv_has ls 7 [(0, .ref b0), (1, .ref sa), (2, .ref (ad 20)), (3, .ref oa), (4, .int (nI i))] → W p l e room_1 s m #[.ref b0] below meth c H locs cells2 slots2 Q (F0 m 1069 ls [])) : W p l e room_1 s m #[.ref b0] below meth c H locs cells slots Q (F0 m 969 ls []) := by
  obtain ⟨rb, n, md, rd, sd, ms, fl, mn, sc, ar, b, np, f, hR, rfl, hH⟩ := hI
  have hn := hR.n3
  have hrbE := hR.1
  have h1 : sc 1 = nI n := hR.2.1.1.1
  have h6 : sc 6 = nI np := hR.2.1.1.2.2.1
  have hnp : np ≤ 20 := hR.2.1.1.2.2.2.1
  have hrb : 100 ≤ rb := by omega
  have hrb2 : rb ≤ 200 := by omega
  have hz0 : Z01 (ar 17) := hR.2.1.2.1
  by_cases h0 : n = 0
  · rw [cW_0 (v := 1)] at hH
    refine x_sx C b_Law_law_969_971 hl (L' := [(0, .ref b0), (1, .ref (sd 0)), (2, .ref (ad 20)), (3, .ref oa), (4, .int (nI i))]) (st' := [.ref oa, .ref (sd 0)]) rfl (fun ls hl => ?_)
    refine x_q1 (x_cSW C (c_Law_best_1 l G A rb n md rd sd ms fl mn (va_up sc 0 1) ar b (lwW G oa f ad sc ar) hfl hn hrb h0 oa f hrbE lwW_o) t_620 t_0 t_618 t_619 hd_Law_best blind_Pre (pre_mt C hH hA trivial) (As := [.ref (sd 0), .ref oa]) (rest := []) rfl hl.1 rfl rfl rfl ⟨(Nat.le_of_ble_eq_true rfl), (Nat.le_of_ble_eq_true rfl)⟩ (Nat.le_of_ble_eq_true rfl) ⟨by show cells + 1 ≤ 601024; omega, by show slots + 6 ≤ 7293034; omega⟩ d_Law_law_971) hH.2.2 (fun x H locs hx hH hz => ?_)
    rw [to_mW hn (by omega)] at hH
    refine x_sx C b_Law_law_974_977 hl (L' := [(5, .int 1), (0, .ref b0), (1, .ref (sd 0)), (2, .ref (ad 20)), (3, .ref oa), (4, .int (nI i))]) (st' := [.ref (ad 20)]) rfl (fun ls hl => ?_)
    refine x_mw1 (x_cV C hH.1 mW_o rfl (c_Mo_best_1 l G A ad (cW G rb n md rd sd ms fl mn (va_up sc 0 1) ar b (oW G oa f)) sc ar (n_0 h1 h0)) t_854 t_14 t_851 t_852 t_853 hd_Mo_best blind_Pre (pre_mt C hH hA trivial) (As := []) (rest := []) rfl hl.1 rfl rfl rfl ⟨Nat.le_of_ble_eq_true rfl, Nat.le_of_ble_eq_true rfl⟩ (Nat.le_of_ble_eq_true rfl) ⟨by show cells + 1 + 0 ≤ 601024; omega, by show slots + 6 + 0 ≤ 7293034; omega⟩ d_Law_law_977) hH.2.2 (fun H locs hH => ?_)
    refine x_sx C b_Law_law_980_983 hl (L' := [(6, .int 0), (5, .int 1), (0, .ref b0), (1, .ref (sd 0)), (2, .ref (ad 20)), (3, .ref oa), (4, .int (nI i))]) (st' := [.ref (ad 20)]) rfl (fun ls hl => ?_)
    refine x_ro (x_cV C hH.1 mW_o rfl (c_Mo_thrown l G ad (cW G rb n md rd sd ms fl mn (va_up sc 0 1) ar b (oW G oa f)) (va_up sc 0 1) ar) t_746 t_14 t_743 t_744 t_745 hd_Mo_thrown blind_Pro (pre_ro C hH.1 hH.2.2) (As := []) (rest := []) rfl hl.1 rfl rfl rfl ⟨Nat.le_of_ble_eq_true rfl, Nat.le_of_ble_eq_true rfl⟩ (Nat.le_of_ble_eq_true rfl) ⟨by show cells + 1 + 0 ≤ 601024; omega, by show slots + 6 + 0 ≤ 7293034; omega⟩ d_Law_law_983) ?_
    refine x_sx C b_Law_law_986_988 hl (L' := [(6, .int 0), (5, .int 1), (0, .ref b0), (1, .ref (sd 0)), (2, .ref (ad 20)), (3, .ref oa), (4, .int (nI i))]) (st' := [.int 1, .int ((va_up sc 0 1) 0)]) rfl (fun ls hl => ?_)
    refine lv_icmp_eq (tgt := 993) C.1 C.2.1 d_Law_law_988 (by decide) (fun _ => ?_) (fun h => absurd (up_s _ _ _) h)
    refine x_sx C b_Law_law_993_995 hl (L' := [(6, .int 0), (5, .int 1), (0, .ref b0), (1, .ref (sd 0)), (2, .ref (ad 20)), (3, .ref oa), (4, .int (nI i))]) (st' := [.int 1]) rfl (fun ls hl => ?_)
    refine lv_if_ne (tgt := 1010) C.1 C.2.1 d_Law_law_995 (by decide) (fun _ => ?_) (fun h => absurd h (by decide))
    refine x_goto (tgt := 1069) C d_Law_law_1010 (by decide) ?_
    exact kk H locs _ _ ls ⟨rb, n, md, rd, sd, ms, fl, mn, (va_up sc 0 1), ar, b, np, f, (hR.z _), rfl, by rw [to_mW hn (by omega)]; exact hH⟩ (by omega) (by omega) (lv_sub hl [2, 3, 4, 5, 6] rfl)
  · have hn0 : 0 < n := by omega
    have hRk := hR.keep
    have hcf := hRk.2.1.1
    have hpl := hRk.2.2.1
    rw [cW_0 (v := 0)] at hH
    refine x_sx C b_Law_law_969_971 hl (L' := [(0, .ref b0), (1, .ref (sd 0)), (2, .ref (ad 20)), (3, .ref oa), (4, .int (nI i))]) (st' := [.ref oa, .ref (sd 0)]) rfl (fun ls hl => ?_)
    refine x_q1 (x_cSW C (c_Law_best l G A rb n md rd sd ms fl mn (va_up sc 0 0) ar b (lwW G oa f ad sc ar) np (va_up sc 0 0, fKeep (va_up sc 0 0) ar) (KK n np) hn hrb hrbE hn0 hR.m6 hR.2.2.2.1 (fun q hq => (hR.2.2.1 q hq).2.1) (fun j a b => rfl) (fun i a b => fKeep_n (by omega) (by omega)) hcf.1 hcf.2.2.1 hnp (fun st2 e k hk => (bg_rg (hcf.eqB e) k hk).2) (fun q hq k hk => ((hR.2.2.1 q hq).2.2 k hk).1) (fun q hq k hk => ((hR.2.2.1 q hq).2.2 k hk).2) (KK_c n np) (fun st2 e => KK_begin (hcf.eqB e)) (h12_of hcf hpl) hcd_all (fun m h1 h2 => lwW_n (by omega)) oa f lwW_o) t_620 t_0 t_618 t_619 hd_Law_best blind_Pre (pre_mt C hH hA trivial) (As := [.ref (sd 0), .ref oa]) (rest := []) rfl hl.1 rfl rfl rfl ⟨(Nat.le_of_ble_eq_true rfl), (Nat.le_of_ble_eq_true rfl)⟩ (Nat.le_of_ble_eq_true rfl) ⟨by show cells + 80 ≤ 601024; omega, by show slots + 2224 ≤ 7293034; omega⟩ d_Law_law_971) hH.2.2 (fun x H locs hx hH hz => ?_)
    rw [lwW_up] at hH
    rw [to_mW hn (by omega)] at hH
    refine x_sx C b_Law_law_974_977 hl (L' := [(5, .int 0), (0, .ref b0), (1, .ref (sd 0)), (2, .ref (ad 20)), (3, .ref oa), (4, .int (nI i))]) (st' := [.ref (ad 20)]) rfl (fun ls hl => ?_)
    refine x_mw1 (x_cV C hH.1 mW_o rfl (c_Mo_best l G A ad (cW G rb n md rd sd ms fl mn (va_up sc 0 0) ar b (oW G oa (vp_updL f 0 (bsI (va_up sc 0 0, fKeep (va_up sc 0 0) ar) 4).2.1.toInt64))) sc ar n np (KK n np) h1 hn0 hn hz0 hR.2.1.2.2.2.1 hR.2.1.2.2.1 (PlH_of hcf hpl)) t_854 t_14 t_851 t_852 t_853 hd_Mo_best blind_Pre (pre_mt C hH hA trivial) (As := []) (rest := []) rfl hl.1 rfl rfl rfl ⟨Nat.le_of_ble_eq_true rfl, Nat.le_of_ble_eq_true rfl⟩ (Nat.le_of_ble_eq_true rfl) ⟨by show cells + 80 + 0 ≤ 601024; omega, by show slots + 2224 + 0 ≤ 7293034; omega⟩ d_Law_law_977) hH.2.2 (fun H locs hH => ?_)
    refine x_sx C b_Law_law_980_983 hl (L' := [(6, .int (bsI (va_up sc 0 0, fKeep (va_up sc 0 0) ar) 4).2.1), (5, .int 0), (0, .ref b0), (1, .ref (sd 0)), (2, .ref (ad 20)), (3, .ref oa), (4, .int (nI i))]) (st' := [.ref (ad 20)]) rfl (fun ls hl => ?_)
    refine x_ro (x_cV C hH.1 mW_o rfl (c_Mo_thrown l G ad (cW G rb n md rd sd ms fl mn (va_up sc 0 0) ar b (oW G oa (vp_updL f 0 (bsI (va_up sc 0 0, fKeep (va_up sc 0 0) ar) 4).2.1.toInt64))) (va_up sc 0 0) (fKeep (va_up sc 0 0) ar)) t_746 t_14 t_743 t_744 t_745 hd_Mo_thrown blind_Pro (pre_ro C hH.1 hH.2.2) (As := []) (rest := []) rfl hl.1 rfl rfl rfl ⟨Nat.le_of_ble_eq_true rfl, Nat.le_of_ble_eq_true rfl⟩ (Nat.le_of_ble_eq_true rfl) ⟨by show cells + 80 + 0 ≤ 601024; omega, by show slots + 2224 + 0 ≤ 7293034; omega⟩ d_Law_law_983) ?_
    refine x_sx C b_Law_law_986_988 hl (L' := [(6, .int (bsI (va_up sc 0 0, fKeep (va_up sc 0 0) ar) 4).2.1), (5, .int 0), (0, .ref b0), (1, .ref (sd 0)), (2, .ref (ad 20)), (3, .ref oa), (4, .int (nI i))]) (st' := [.int 0, .int ((va_up sc 0 0) 0)]) rfl (fun ls hl => ?_)
    refine lv_icmp_eq (tgt := 993) C.1 C.2.1 d_Law_law_988 (by decide) (fun _ => ?_) (fun h => absurd (up_s _ _ _) h)
    refine x_sx C b_Law_law_993_995 hl (L' := [(6, .int (bsI (va_up sc 0 0, fKeep (va_up sc 0 0) ar) 4).2.1), (5, .int 0), (0, .ref b0), (1, .ref (sd 0)), (2, .ref (ad 20)), (3, .ref oa), (4, .int (nI i))]) (st' := [.int 0]) rfl (fun ls hl => ?_)
    refine lv_if_ne (tgt := 1010) C.1 C.2.1 d_Law_law_995 (by decide) (fun h => absurd (by decide) h) (fun _ => ?_)
    refine x_sx C b_Law_law_998_1000 hl (L' := [(6, .int (bsI (va_up sc 0 0, fKeep (va_up sc 0 0) ar) 4).2.1), (5, .int 0), (0, .ref b0), (1, .ref (sd 0)), (2, .ref (ad 20)), (3, .ref oa), (4, .int (nI i))]) (st' := [.int 0, .ref oa]) rfl (fun ls hl => ?_)
    refine x_lld C hH.1 500 (mo_o hn (by omega)) (j := 0) rfl (by decide) (by decide) d_Law_law_1000 ?_
    refine x_sx C b_Law_law_1001_1005 hl (L' := [(6, .int (bsI (va_up sc 0 0, fKeep (va_up sc 0 0) ar) 4).2.1), (5, .int 0), (0, .ref b0), (1, .ref (sd 0)), (2, .ref (ad 20)), (3, .ref oa), (4, .int (nI i))]) (st' := [.int (lg_cmp ((bsI (va_up sc 0 0, fKeep (va_up sc 0 0) ar) 4).2.1.toInt64) ((bsI (va_up sc 0 0, fKeep (va_up sc 0 0) ar) 4).2.1.toInt64))]) rfl (fun ls hl => ?_)
    refine lv_if_eq (tgt := 1010) C.1 C.2.1 d_Law_law_1005 (by decide) (fun _ => ?_) (fun h => absurd ((lg_cmp_eq _ _).mpr rfl) h)
    refine x_goto (tgt := 1069) C d_Law_law_1010 (by decide) ?_
    exact kk H locs _ _ ls ⟨rb, n, md, rd, sd, ms, fl, mn, (va_up sc 0 0), (fKeep (va_up sc 0 0) ar), b, np, (vp_updL f 0 (bsI (va_up sc 0 0, fKeep (va_up sc 0 0) ar) 4).2.1.toInt64), hRk, rfl, by rw [to_mW hn (by omega)]; rw [cW_mx (sc := (va_up sc 0 0)) (ar := ar) (fun _ _ _ => rfl) (fun i a b => fKeep_n (by omega) (by omega))]; exact hH⟩ (by omega) (by omega) (lv_sub hl [2, 3, 4, 5, 6] rfl)
theorem b_Law_law_1013_1019 : decs code [(.aload_n 1, 1), (.aload_n 0, 1), (.iload 4, 2), (.iconst 1, 1), (.iadd, 1)] 1013 1019 = true := by decide +kernel
theorem d_Law_law_1019 : decode code 1019 = .ok (.iaload, 1) := by decide +kernel
theorem b_Law_law_1020_1021 : decs code [(.aload_n 3, 1)] 1020 1021 = true := by decide +kernel
theorem d_Law_law_1021 : decode code 1021 = .ok (.invokestatic 123, 3) := by decide +kernel
theorem b_Law_law_1024_1032 : decs code [(.istore 5, 2), (.aload_n 2, 1), (.aload_n 0, 1), (.iload 4, 2), (.iconst 1, 1), (.iadd, 1)] 1024 1032 = true := by decide +kernel
theorem d_Law_law_1032 : decode code 1032 = .ok (.iaload, 1) := by decide +kernel
theorem d_Law_law_1033 : decode code 1033 = .ok (.invokevirtual 125, 3) := by decide +kernel
theorem b_Law_law_1036_1039 : decs code [(.istore 6, 2), (.aload_n 2, 1)] 1036 1039 = true := by decide +kernel
theorem d_Law_law_1039 : decode code 1039 = .ok (.invokevirtual 71, 3) := by decide +kernel
theorem b_Law_law_1042_1044 : decs code [(.iload 5, 2)] 1042 1044 = true := by decide +kernel
theorem d_Law_law_1044 : decode code 1044 = .ok (.if_icmp .eq 5, 3) := by decide +kernel
theorem b_Law_law_1049_1051 : decs code [(.iload 5, 2)] 1049 1051 = true := by decide +kernel
theorem d_Law_law_1051 : decode code 1051 = .ok (.ifCond .ne 15, 3) := by decide +kernel
theorem d_Law_law_1066 : decode code 1066 = .ok (.goto 3, 3) := by decide +kernel
theorem b_Law_law_1054_1056 : decs code [(.aload_n 3, 1), (.iconst 0, 1)] 1054 1056 = true := by decide +kernel
theorem d_Law_law_1056 : decode code 1056 = .ok (.laload, 1) := by decide +kernel
theorem b_Law_law_1057_1061 : decs code [(.iload 6, 2), (.i2l, 1), (.lcmp, 1)] 1057 1061 = true := by decide +kernel
theorem d_Law_law_1061 : decode code 1061 = .ok (.ifCond .eq 5, 3) := by decide +kernel
set_option maxRecDepth 100000 in
set_option maxHeartbeats 4000000 in
theorem lo_sweeps {p : Program} {l : Launch} {e : Env} {s : State} {m : MethodId} {below : List Frame} {meth : Method} {c : Code} {G : GG} {A : Nat → Prop} {b0 L : Nat} {xs : Nat → Int32} {H : Heap} {locs : List Loc} {cells slots : Nat} {Q : State → Prop} {ls : Array Slot} {oa sa : Nat} {ad : Nat → Nat} {i : Nat} (C : Cx p s m #[.ref b0] meth c code 7 "SweptPathsLaw" G A) (hfl : l.flags = pinnedFlags ++ [noTraceFlag]) (hA : ∀ q, s.heap.size ≤ q → A q) (hX : va_X b0 L xs s s.heap) (hbl : b0 < s.heap.size) (hbA : ¬ A b0) (hL : L ≤ 384) (hi : i + 6 ≤ L) (hI : LI G A s oa ad sa H locs) (hce : cells ≤ 100000) (hsl : slots ≤ 1000000) (hl : lv_has ls 7 [(0, .ref b0), (1, .ref sa), (2, .ref (ad 20)), (3, .ref oa), (4, .int (nI i))]) (kk : ∀ (H : Heap) (locs : List Loc) (cells2 slots2 : Nat) (ls : Array Slot), LI G A s oa ad sa H locs → cells2 ≤ cells + 80 → slots2 ≤ slots + 2224 → lv_has ls 7 [(0, .ref b0), (1, .ref sa), (2, .ref (ad 20)), (3, .ref oa), (4, .int (nI i))] → W p l e room_1 s m #[.ref b0] below meth c H locs cells2 slots2 Q (F0 m 1069 ls [])) : W p l e room_1 s m #[.ref b0] below meth c H locs cells slots Q (F0 m 1013 ls []) := by
  obtain ⟨rb, n, md, rd, sd, ms, fl, mn, sc, ar, b, np, f, hR, rfl, hH⟩ := hI
  have hn := hR.n3
  have hrbE := hR.1
  have h1 : sc 1 = nI n := hR.2.1.1.1
  have h6 : sc 6 = nI np := hR.2.1.1.2.2.1
  have hnp : np ≤ 20 := hR.2.1.1.2.2.2.1
  have hrb : 100 ≤ rb := by omega
  have hrb2 : rb ≤ 200 := by omega
  have hz0 : Z01 (ar 17) := hR.2.1.2.1
  by_cases hv : p_in (xs (i + 1)) 0 3 = 1
  · obtain ⟨q, hq, eq⟩ := plan_ix hv
    rw [eq] at hv
    by_cases h0 : n = 0
    · rw [cW_0 (v := 2)] at hH
      refine x_sx C b_Law_law_1013_1019 hl (L' := [(0, .ref b0), (1, .ref (sd 0)), (2, .ref (ad 20)), (3, .ref oa), (4, .int (nI i))]) (st' := [.int ((nI i) + 1), .ref b0, .ref (sd 0)]) rfl (fun ls hl => ?_)
      refine x_sld C hX hbl hbA hH.2.2 hL (ix_1 i) (by omega) d_Law_law_1019 ?_
      rw [eq]
      refine x_sx C b_Law_law_1020_1021 hl (L' := [(0, .ref b0), (1, .ref (sd 0)), (2, .ref (ad 20)), (3, .ref oa), (4, .int (nI i))]) (st' := [.ref oa, .int (nI q), .ref (sd 0)]) rfl (fun ls hl => ?_)
      refine x_q1 (x_cSW C (c_Law_sweeps_2 l G A rb n md rd sd ms fl mn (va_up sc 0 2) ar b (lwW G oa f ad sc ar) q hfl hn hrb hq h0 oa f hrbE lwW_o) t_631 t_0 t_629 t_630 hd_Law_sweeps blind_Pre (pre_mt C hH hA trivial) (As := [.ref (sd 0), .int (nI q), .ref oa]) (rest := []) rfl hl.1 rfl rfl rfl ⟨(Nat.le_of_ble_eq_true rfl), (Nat.le_of_ble_eq_true rfl)⟩ (Nat.le_of_ble_eq_true rfl) ⟨by show cells + 1 ≤ 601024; omega, by show slots + 6 ≤ 7293034; omega⟩ d_Law_law_1021) hH.2.2 (fun x H locs hx hH hz => ?_)
      rw [to_mW hn (by omega)] at hH
      refine x_sx C b_Law_law_1024_1032 hl (L' := [(5, .int 2), (0, .ref b0), (1, .ref (sd 0)), (2, .ref (ad 20)), (3, .ref oa), (4, .int (nI i))]) (st' := [.int ((nI i) + 1), .ref b0, .ref (ad 20)]) rfl (fun ls hl => ?_)
      refine x_sld C hX hbl hbA hH.2.2 hL (ix_1 i) (by omega) d_Law_law_1032 ?_
      rw [eq]
      refine x_mw1 (x_cV C hH.1 mW_o rfl (c_Mo_sweeps_2 l G A ad (cW G rb n md rd sd ms fl mn (va_up sc 0 2) ar b (oW G oa f)) sc ar (nI q) hv (n_0 h1 h0)) t_870 t_14 t_867 t_868 t_869 hd_Mo_sweeps blind_Pre (pre_mt C hH hA trivial) (As := [.int (nI q)]) (rest := []) rfl hl.1 rfl rfl rfl ⟨Nat.le_of_ble_eq_true rfl, Nat.le_of_ble_eq_true rfl⟩ (Nat.le_of_ble_eq_true rfl) ⟨by show cells + 1 + 0 ≤ 601024; omega, by show slots + 6 + 0 ≤ 7293034; omega⟩ d_Law_law_1033) hH.2.2 (fun H locs hH => ?_)
      refine x_sx C b_Law_law_1036_1039 hl (L' := [(6, .int 0), (5, .int 2), (0, .ref b0), (1, .ref (sd 0)), (2, .ref (ad 20)), (3, .ref oa), (4, .int (nI i))]) (st' := [.ref (ad 20)]) rfl (fun ls hl => ?_)
      refine x_ro (x_cV C hH.1 mW_o rfl (c_Mo_thrown l G ad (cW G rb n md rd sd ms fl mn (va_up sc 0 2) ar b (oW G oa f)) (va_up sc 0 2) ar) t_746 t_14 t_743 t_744 t_745 hd_Mo_thrown blind_Pro (pre_ro C hH.1 hH.2.2) (As := []) (rest := []) rfl hl.1 rfl rfl rfl ⟨Nat.le_of_ble_eq_true rfl, Nat.le_of_ble_eq_true rfl⟩ (Nat.le_of_ble_eq_true rfl) ⟨by show cells + 1 + 0 ≤ 601024; omega, by show slots + 6 + 0 ≤ 7293034; omega⟩ d_Law_law_1039) ?_
      refine x_sx C b_Law_law_1042_1044 hl (L' := [(6, .int 0), (5, .int 2), (0, .ref b0), (1, .ref (sd 0)), (2, .ref (ad 20)), (3, .ref oa), (4, .int (nI i))]) (st' := [.int 2, .int ((va_up sc 0 2) 0)]) rfl (fun ls hl => ?_)
      refine lv_icmp_eq (tgt := 1049) C.1 C.2.1 d_Law_law_1044 (by decide) (fun _ => ?_) (fun h => absurd (up_s _ _ _) h)
      refine x_sx C b_Law_law_1049_1051 hl (L' := [(6, .int 0), (5, .int 2), (0, .ref b0), (1, .ref (sd 0)), (2, .ref (ad 20)), (3, .ref oa), (4, .int (nI i))]) (st' := [.int 2]) rfl (fun ls hl => ?_)
      refine lv_if_ne (tgt := 1066) C.1 C.2.1 d_Law_law_1051 (by decide) (fun _ => ?_) (fun h => absurd h (by decide))
      refine x_goto (tgt := 1069) C d_Law_law_1066 (by decide) ?_
      exact kk H locs _ _ ls ⟨rb, n, md, rd, sd, ms, fl, mn, (va_up sc 0 2), ar, b, np, f, (hR.z _), rfl, by rw [to_mW hn (by omega)]; exact hH⟩ (by omega) (by omega) (lv_sub hl [2, 3, 4, 5, 6] rfl)
    · have hn0 : 0 < n := by omega
      have hRk := hR.keep
      have hcf := hRk.2.1.1
      have hpl := hRk.2.2.1
      rw [cW_0 (v := 0)] at hH
      refine x_sx C b_Law_law_1013_1019 hl (L' := [(0, .ref b0), (1, .ref (sd 0)), (2, .ref (ad 20)), (3, .ref oa), (4, .int (nI i))]) (st' := [.int ((nI i) + 1), .ref b0, .ref (sd 0)]) rfl (fun ls hl => ?_)
      refine x_sld C hX hbl hbA hH.2.2 hL (ix_1 i) (by omega) d_Law_law_1019 ?_
      rw [eq]
      refine x_sx C b_Law_law_1020_1021 hl (L' := [(0, .ref b0), (1, .ref (sd 0)), (2, .ref (ad 20)), (3, .ref oa), (4, .int (nI i))]) (st' := [.ref oa, .int (nI q), .ref (sd 0)]) rfl (fun ls hl => ?_)
      refine x_q1 (x_cSW C (c_Law_sweeps l G A rb n md rd sd ms fl mn (va_up sc 0 0) ar b (lwW G oa f ad sc ar) q np (va_up sc 0 0) (fKeep (va_up sc 0 0) ar) (KK n np) hn hrb hrbE hn0 hq hR.m6 hR.2.2.2.1 (hR.2.2.1 q hq).2.1 (fun j a b => rfl) (fun i a b => fKeep_n (by omega) (by omega)) hcf.1 hcf.2.2.1 hnp (fun k hk => (bg_rg hcf k hk).2) (fun k hk => ((hR.2.2.1 q hq).2.2 k hk).1) (fun k hk => ((hR.2.2.1 q hq).2.2 k hk).2) (KK_c n np) (KK_begin hcf) hcd_all (fun m h1 h2 => lwW_n (by omega)) oa f lwW_o) t_631 t_0 t_629 t_630 hd_Law_sweeps blind_Pre (pre_mt C hH hA trivial) (As := [.ref (sd 0), .int (nI q), .ref oa]) (rest := []) rfl hl.1 rfl rfl rfl ⟨(Nat.le_of_ble_eq_true rfl), (Nat.le_of_ble_eq_true rfl)⟩ (Nat.le_of_ble_eq_true rfl) ⟨by show cells + 20 ≤ 601024; omega, by show slots + 556 ≤ 7293034; omega⟩ d_Law_law_1021) hH.2.2 (fun x H locs hx hH hz => ?_)
      rw [lwW_up] at hH
      rw [to_mW hn (by omega)] at hH
      refine x_sx C b_Law_law_1024_1032 hl (L' := [(5, .int 0), (0, .ref b0), (1, .ref (sd 0)), (2, .ref (ad 20)), (3, .ref oa), (4, .int (nI i))]) (st' := [.int ((nI i) + 1), .ref b0, .ref (ad 20)]) rfl (fun ls hl => ?_)
      refine x_sld C hX hbl hbA hH.2.2 hL (ix_1 i) (by omega) d_Law_law_1032 ?_
      rw [eq]
      refine x_mw1 (x_cV C hH.1 mW_o rfl (c_Mo_sweeps l G A ad (cW G rb n md rd sd ms fl mn (va_up sc 0 0) ar b (oW G oa (vp_updL f 0 (nI (cnt ((fPlan ((va_up sc 0 0), (fKeep (va_up sc 0 0) ar)) q).2 17))).toInt64))) sc ar n np q (KK n np) hv hq h1 hn0 hn hz0 hR.2.1.2.2.2.1 hR.2.1.2.2.1 (PlH_of hcf hpl)) t_870 t_14 t_867 t_868 t_869 hd_Mo_sweeps blind_Pre (pre_mt C hH hA trivial) (As := [.int (nI q)]) (rest := []) rfl hl.1 rfl rfl rfl ⟨Nat.le_of_ble_eq_true rfl, Nat.le_of_ble_eq_true rfl⟩ (Nat.le_of_ble_eq_true rfl) ⟨by show cells + 20 + 0 ≤ 601024; omega, by show slots + 556 + 0 ≤ 7293034; omega⟩ d_Law_law_1033) hH.2.2 (fun H locs hH => ?_)
      refine x_sx C b_Law_law_1036_1039 hl (L' := [(6, .int ((fPlan (va_up sc 0 0, fKeep (va_up sc 0 0) ar) q).1 12)), (5, .int 0), (0, .ref b0), (1, .ref (sd 0)), (2, .ref (ad 20)), (3, .ref oa), (4, .int (nI i))]) (st' := [.ref (ad 20)]) rfl (fun ls hl => ?_)
      refine x_ro (x_cV C hH.1 mW_o rfl (c_Mo_thrown l G ad (cW G rb n md rd sd ms fl mn (va_up sc 0 0) ar b (oW G oa (vp_updL f 0 (nI (cnt ((fPlan ((va_up sc 0 0), (fKeep (va_up sc 0 0) ar)) q).2 17))).toInt64))) (va_up sc 0 0) (fKeep (va_up sc 0 0) ar)) t_746 t_14 t_743 t_744 t_745 hd_Mo_thrown blind_Pro (pre_ro C hH.1 hH.2.2) (As := []) (rest := []) rfl hl.1 rfl rfl rfl ⟨Nat.le_of_ble_eq_true rfl, Nat.le_of_ble_eq_true rfl⟩ (Nat.le_of_ble_eq_true rfl) ⟨by show cells + 20 + 0 ≤ 601024; omega, by show slots + 556 + 0 ≤ 7293034; omega⟩ d_Law_law_1039) ?_
      refine x_sx C b_Law_law_1042_1044 hl (L' := [(6, .int ((fPlan (va_up sc 0 0, fKeep (va_up sc 0 0) ar) q).1 12)), (5, .int 0), (0, .ref b0), (1, .ref (sd 0)), (2, .ref (ad 20)), (3, .ref oa), (4, .int (nI i))]) (st' := [.int 0, .int ((va_up sc 0 0) 0)]) rfl (fun ls hl => ?_)
      refine lv_icmp_eq (tgt := 1049) C.1 C.2.1 d_Law_law_1044 (by decide) (fun _ => ?_) (fun h => absurd (up_s _ _ _) h)
      refine x_sx C b_Law_law_1049_1051 hl (L' := [(6, .int ((fPlan (va_up sc 0 0, fKeep (va_up sc 0 0) ar) q).1 12)), (5, .int 0), (0, .ref b0), (1, .ref (sd 0)), (2, .ref (ad 20)), (3, .ref oa), (4, .int (nI i))]) (st' := [.int 0]) rfl (fun ls hl => ?_)
      refine lv_if_ne (tgt := 1066) C.1 C.2.1 d_Law_law_1051 (by decide) (fun h => absurd (by decide) h) (fun _ => ?_)
      refine x_sx C b_Law_law_1054_1056 hl (L' := [(6, .int ((fPlan (va_up sc 0 0, fKeep (va_up sc 0 0) ar) q).1 12)), (5, .int 0), (0, .ref b0), (1, .ref (sd 0)), (2, .ref (ad 20)), (3, .ref oa), (4, .int (nI i))]) (st' := [.int 0, .ref oa]) rfl (fun ls hl => ?_)
      refine x_lld C hH.1 500 (mo_o hn (by omega)) (j := 0) rfl (by decide) (by decide) d_Law_law_1056 ?_
      refine x_sx C b_Law_law_1057_1061 hl (L' := [(6, .int ((fPlan (va_up sc 0 0, fKeep (va_up sc 0 0) ar) q).1 12)), (5, .int 0), (0, .ref b0), (1, .ref (sd 0)), (2, .ref (ad 20)), (3, .ref oa), (4, .int (nI i))]) (st' := [.int (lg_cmp ((nI (cnt ((fPlan ((va_up sc 0 0), (fKeep (va_up sc 0 0) ar)) q).2 17))).toInt64) (((fPlan (va_up sc 0 0, fKeep (va_up sc 0 0) ar) q).1 12).toInt64))]) rfl (fun ls hl => ?_)
      refine lv_if_eq (tgt := 1066) C.1 C.2.1 d_Law_law_1061 (by decide) (fun _ => ?_) (fun h => absurd ((lg_cmp_eq _ _).mpr (by rw [(KK_plan hcf hpl hq).2.2.1])) h)
      refine x_goto (tgt := 1069) C d_Law_law_1066 (by decide) ?_
      exact kk H locs _ _ ls ⟨rb, n, md, rd, sd, ms, fl, mn, (va_up sc 0 0), (fKeep (va_up sc 0 0) ar), b, np, (vp_updL f 0 (nI (cnt ((fPlan ((va_up sc 0 0), (fKeep (va_up sc 0 0) ar)) q).2 17))).toInt64), hRk, rfl, by rw [to_mW hn (by omega)]; rw [cW_mx (sc := (va_up sc 0 0)) (ar := ar) (fun _ _ _ => rfl) (fun i a b => fKeep_n (by omega) (by omega))]; exact hH⟩ (by omega) (by omega) (lv_sub hl [2, 3, 4, 5, 6] rfl)
  · rw [cW_0 (v := 1)] at hH
    refine x_sx C b_Law_law_1013_1019 hl (L' := [(0, .ref b0), (1, .ref (sd 0)), (2, .ref (ad 20)), (3, .ref oa), (4, .int (nI i))]) (st' := [.int ((nI i) + 1), .ref b0, .ref (sd 0)]) rfl (fun ls hl => ?_)
    refine x_sld C hX hbl hbA hH.2.2 hL (ix_1 i) (by omega) d_Law_law_1019 ?_
    refine x_sx C b_Law_law_1020_1021 hl (L' := [(0, .ref b0), (1, .ref (sd 0)), (2, .ref (ad 20)), (3, .ref oa), (4, .int (nI i))]) (st' := [.ref oa, .int (xs (i + 1)), .ref (sd 0)]) rfl (fun ls hl => ?_)
    refine x_q1 (x_cSW C (c_Law_sweeps_1 l G A rb n md rd sd ms fl mn (va_up sc 0 1) ar b (lwW G oa f ad sc ar) (xs (i + 1)) hfl hn hrb hv oa f hrbE lwW_o) t_631 t_0 t_629 t_630 hd_Law_sweeps blind_Pre (pre_mt C hH hA trivial) (As := [.ref (sd 0), .int (xs (i + 1)), .ref oa]) (rest := []) rfl hl.1 rfl rfl rfl ⟨(Nat.le_of_ble_eq_true rfl), (Nat.le_of_ble_eq_true rfl)⟩ (Nat.le_of_ble_eq_true rfl) ⟨by show cells + 1 ≤ 601024; omega, by show slots + 6 ≤ 7293034; omega⟩ d_Law_law_1021) hH.2.2 (fun x H locs hx hH hz => ?_)
    rw [to_mW hn (by omega)] at hH
    refine x_sx C b_Law_law_1024_1032 hl (L' := [(5, .int 1), (0, .ref b0), (1, .ref (sd 0)), (2, .ref (ad 20)), (3, .ref oa), (4, .int (nI i))]) (st' := [.int ((nI i) + 1), .ref b0, .ref (ad 20)]) rfl (fun ls hl => ?_)
    refine x_sld C hX hbl hbA hH.2.2 hL (ix_1 i) (by omega) d_Law_law_1032 ?_
    refine x_mw1 (x_cV C hH.1 mW_o rfl (c_Mo_sweeps_1 l G A ad (cW G rb n md rd sd ms fl mn (va_up sc 0 1) ar b (oW G oa f)) sc ar (xs (i + 1)) hv) t_870 t_14 t_867 t_868 t_869 hd_Mo_sweeps blind_Pre (pre_mt C hH hA trivial) (As := [.int (xs (i + 1))]) (rest := []) rfl hl.1 rfl rfl rfl ⟨Nat.le_of_ble_eq_true rfl, Nat.le_of_ble_eq_true rfl⟩ (Nat.le_of_ble_eq_true rfl) ⟨by show cells + 1 + 0 ≤ 601024; omega, by show slots + 6 + 0 ≤ 7293034; omega⟩ d_Law_law_1033) hH.2.2 (fun H locs hH => ?_)
    refine x_sx C b_Law_law_1036_1039 hl (L' := [(6, .int 0), (5, .int 1), (0, .ref b0), (1, .ref (sd 0)), (2, .ref (ad 20)), (3, .ref oa), (4, .int (nI i))]) (st' := [.ref (ad 20)]) rfl (fun ls hl => ?_)
    refine x_ro (x_cV C hH.1 mW_o rfl (c_Mo_thrown l G ad (cW G rb n md rd sd ms fl mn (va_up sc 0 1) ar b (oW G oa f)) (va_up sc 0 1) ar) t_746 t_14 t_743 t_744 t_745 hd_Mo_thrown blind_Pro (pre_ro C hH.1 hH.2.2) (As := []) (rest := []) rfl hl.1 rfl rfl rfl ⟨Nat.le_of_ble_eq_true rfl, Nat.le_of_ble_eq_true rfl⟩ (Nat.le_of_ble_eq_true rfl) ⟨by show cells + 1 + 0 ≤ 601024; omega, by show slots + 6 + 0 ≤ 7293034; omega⟩ d_Law_law_1039) ?_
    refine x_sx C b_Law_law_1042_1044 hl (L' := [(6, .int 0), (5, .int 1), (0, .ref b0), (1, .ref (sd 0)), (2, .ref (ad 20)), (3, .ref oa), (4, .int (nI i))]) (st' := [.int 1, .int ((va_up sc 0 1) 0)]) rfl (fun ls hl => ?_)
    refine lv_icmp_eq (tgt := 1049) C.1 C.2.1 d_Law_law_1044 (by decide) (fun _ => ?_) (fun h => absurd (up_s _ _ _) h)
    refine x_sx C b_Law_law_1049_1051 hl (L' := [(6, .int 0), (5, .int 1), (0, .ref b0), (1, .ref (sd 0)), (2, .ref (ad 20)), (3, .ref oa), (4, .int (nI i))]) (st' := [.int 1]) rfl (fun ls hl => ?_)
    refine lv_if_ne (tgt := 1066) C.1 C.2.1 d_Law_law_1051 (by decide) (fun _ => ?_) (fun h => absurd h (by decide))
    refine x_goto (tgt := 1069) C d_Law_law_1066 (by decide) ?_
    exact kk H locs _ _ ls ⟨rb, n, md, rd, sd, ms, fl, mn, (va_up sc 0 1), ar, b, np, f, (hR.z _), rfl, by rw [to_mW hn (by omega)]; exact hH⟩ (by omega) (by omega) (lv_sub hl [2, 3, 4, 5, 6] rfl)
theorem b_Law_law_648_649 : decs code [(.aload_n 1, 1)] 648 649 = true := by decide +kernel
theorem d_Law_law_649 : decode code 649 = .ok (.invokevirtual 97, 3) := by decide +kernel
theorem b_Law_law_652_653 : decs code [(.aload_n 2, 1)] 652 653 = true := by decide +kernel
theorem d_Law_law_653 : decode code 653 = .ok (.invokevirtual 100, 3) := by decide +kernel
theorem d_Law_law_656 : decode code 656 = .ok (.if_icmp .eq 413, 3) := by decide +kernel
set_option maxRecDepth 100000 in
set_option maxHeartbeats 4000000 in
theorem lo_swept {p : Program} {l : Launch} {e : Env} {s : State} {m : MethodId} {below : List Frame} {meth : Method} {c : Code} {G : GG} {A : Nat → Prop} {b0 L : Nat} {xs : Nat → Int32} {H : Heap} {locs : List Loc} {cells slots : Nat} {Q : State → Prop} {ls : Array Slot} {oa sa : Nat} {ad : Nat → Nat} {i : Nat} (C : Cx p s m #[.ref b0] meth c code 7 "SweptPathsLaw" G A) (hfl : l.flags = pinnedFlags ++ [noTraceFlag]) (hA : ∀ q, s.heap.size ≤ q → A q) (hX : va_X b0 L xs s s.heap) (hbl : b0 < s.heap.size) (hbA : ¬ A b0) (hL : L ≤ 384) (hi : i + 6 ≤ L) (hI : LI G A s oa ad sa H locs) (hce : cells ≤ 100000) (hsl : slots ≤ 1000000) (hl : lv_has ls 7 [(0, .ref b0), (1, .ref sa), (2, .ref (ad 20)), (3, .ref oa), (4, .int (nI i))]) (kk : ∀ (H : Heap) (locs : List Loc) (cells2 slots2 : Nat) (ls : Array Slot), LI G A s oa ad sa H locs → cells2 ≤ cells + 80 → slots2 ≤ slots + 2224 → lv_has ls 7 [(0, .ref b0), (1, .ref sa), (2, .ref (ad 20)), (3, .ref oa), (4, .int (nI i))] → W p l e room_1 s m #[.ref b0] below meth c H locs cells2 slots2 Q (F0 m 1069 ls [])) : W p l e room_1 s m #[.ref b0] below meth c H locs cells slots Q (F0 m 648 ls []) := by
  obtain ⟨rb, n, md, rd, sd, ms, fl, mn, sc, ar, b, np, f, hR, rfl, hH⟩ := hI
  have hn := hR.n3
  have hrbE := hR.1
  have h1 : sc 1 = nI n := hR.2.1.1.1
  have h6 : sc 6 = nI np := hR.2.1.1.2.2.1
  have hnp : np ≤ 20 := hR.2.1.1.2.2.2.1
  have hrb : 100 ≤ rb := by omega
  have hrb2 : rb ≤ 200 := by omega
  have hz0 : Z01 (ar 17) := hR.2.1.2.1
  rw [cW_0 (v := 0)] at hH
  refine x_sx C b_Law_law_648_649 hl (L' := [(0, .ref b0), (1, .ref (sd 0)), (2, .ref (ad 20)), (3, .ref oa), (4, .int (nI i))]) (st' := [.ref (sd 0)]) rfl (fun ls hl => ?_)
  refine x_ro (x_cV C hH.1 ((rW_0 (Or.inl (by omega)) hn).trans sp_0) rfl (c_SP_swept l G rb n md rd sd ms fl mn (va_up sc 0 0) ar b (lwW G oa f ad sc ar) hn hrb hR.2.2.2.2) t_339 t_1 t_336 t_337 t_338 hd_SP_swept blind_Pro (pre_ro C hH.1 hH.2.2) (As := []) (rest := []) rfl hl.1 rfl rfl rfl ⟨Nat.le_of_ble_eq_true rfl, Nat.le_of_ble_eq_true rfl⟩ (Nat.le_of_ble_eq_true rfl) ⟨by show cells + 0 ≤ 601024; omega, by show slots + 0 ≤ 7293034; omega⟩ d_Law_law_649) ?_
  refine x_sx C b_Law_law_652_653 hl (L' := [(0, .ref b0), (1, .ref (sd 0)), (2, .ref (ad 20)), (3, .ref oa), (4, .int (nI i))]) (st' := [.ref (ad 20), .int (bsC b.2.2.2 b.2.2.1)]) rfl (fun ls hl => ?_)
  rw [to_mW hn hrb2] at hH
  refine x_mw1 (x_cV C hH.1 mW_o rfl (c_Mo_swept l G A ad (cW G rb n md rd sd ms fl mn (va_up sc 0 0) ar b (oW G oa f)) sc ar) t_830 t_14 t_827 t_828 t_829 hd_Mo_swept blind_Pre (pre_mt C hH hA trivial) (As := []) (rest := [.int (bsC b.2.2.2 b.2.2.1)]) rfl hl.1 rfl rfl rfl ⟨Nat.le_of_ble_eq_true rfl, Nat.le_of_ble_eq_true rfl⟩ (Nat.le_of_ble_eq_true rfl) ⟨by show cells + 0 + 0 ≤ 601024; omega, by show slots + 0 + 0 ≤ 7293034; omega⟩ d_Law_law_653) hH.2.2 (fun H locs hH => ?_)
  refine lv_icmp_eq (tgt := 1069) C.1 C.2.1 d_Law_law_656 (by decide) (fun _ => ?_) (fun h => absurd ((hcd_all b _ hR.2.2.2.2).trans hR.2.1.2.2.1.symm) h)
  exact kk H locs _ _ ls ⟨rb, n, md, rd, sd, ms, fl, mn, (va_up sc 0 0), ar, b, np, f, (hR.z 0), rfl, by rw [to_mW hn hrb2]; exact hH⟩ (by omega) (by omega) (lv_sub hl [0, 1, 2, 3, 4] rfl)
theorem b_Law_law_792_793 : decs code [(.aload_n 1, 1)] 792 793 = true := by decide +kernel
theorem d_Law_law_793 : decode code 793 = .ok (.invokevirtual 107, 3) := by decide +kernel
theorem b_Law_law_796_797 : decs code [(.aload_n 2, 1)] 796 797 = true := by decide +kernel
theorem d_Law_law_797 : decode code 797 = .ok (.invokevirtual 111, 3) := by decide +kernel
theorem d_Law_law_800 : decode code 800 = .ok (.if_icmp .eq 269, 3) := by decide +kernel
set_option maxRecDepth 100000 in
set_option maxHeartbeats 4000000 in
theorem lo_isStuck {p : Program} {l : Launch} {e : Env} {s : State} {m : MethodId} {below : List Frame} {meth : Method} {c : Code} {G : GG} {A : Nat → Prop} {b0 L : Nat} {xs : Nat → Int32} {H : Heap} {locs : List Loc} {cells slots : Nat} {Q : State → Prop} {ls : Array Slot} {oa sa : Nat} {ad : Nat → Nat} {i : Nat} (C : Cx p s m #[.ref b0] meth c code 7 "SweptPathsLaw" G A) (hfl : l.flags = pinnedFlags ++ [noTraceFlag]) (hA : ∀ q, s.heap.size ≤ q → A q) (hX : va_X b0 L xs s s.heap) (hbl : b0 < s.heap.size) (hbA : ¬ A b0) (hL : L ≤ 384) (hi : i + 6 ≤ L) (hI : LI G A s oa ad sa H locs) (hce : cells ≤ 100000) (hsl : slots ≤ 1000000) (hl : lv_has ls 7 [(0, .ref b0), (1, .ref sa), (2, .ref (ad 20)), (3, .ref oa), (4, .int (nI i))]) (kk : ∀ (H : Heap) (locs : List Loc) (cells2 slots2 : Nat) (ls : Array Slot), LI G A s oa ad sa H locs → cells2 ≤ cells + 80 → slots2 ≤ slots + 2224 → lv_has ls 7 [(0, .ref b0), (1, .ref sa), (2, .ref (ad 20)), (3, .ref oa), (4, .int (nI i))] → W p l e room_1 s m #[.ref b0] below meth c H locs cells2 slots2 Q (F0 m 1069 ls [])) : W p l e room_1 s m #[.ref b0] below meth c H locs cells slots Q (F0 m 792 ls []) := by
  obtain ⟨rb, n, md, rd, sd, ms, fl, mn, sc, ar, b, np, f, hR, rfl, hH⟩ := hI
  have hn := hR.n3
  have hrbE := hR.1
  have h1 : sc 1 = nI n := hR.2.1.1.1
  have h6 : sc 6 = nI np := hR.2.1.1.2.2.1
  have hnp : np ≤ 20 := hR.2.1.1.2.2.2.1
  have hrb : 100 ≤ rb := by omega
  have hrb2 : rb ≤ 200 := by omega
  have hz0 : Z01 (ar 17) := hR.2.1.2.1
  rw [cW_0 (v := 0)] at hH
  refine x_sx C b_Law_law_792_793 hl (L' := [(0, .ref b0), (1, .ref (sd 0)), (2, .ref (ad 20)), (3, .ref oa), (4, .int (nI i))]) (st' := [.ref (sd 0)]) rfl (fun ls hl => ?_)
  refine x_ro (x_cV C hH.1 ((rW_0 (Or.inl (by omega)) hn).trans sp_0) rfl (c_SP_isStuck l G rb n md rd sd ms fl mn (va_up sc 0 0) ar b (lwW G oa f ad sc ar) hn hrb hR.2.1.2.2.2.1) t_353 t_1 t_350 t_351 t_352 hd_SP_isStuck blind_Pro (pre_ro C hH.1 hH.2.2) (As := []) (rest := []) rfl hl.1 rfl rfl rfl ⟨Nat.le_of_ble_eq_true rfl, Nat.le_of_ble_eq_true rfl⟩ (Nat.le_of_ble_eq_true rfl) ⟨by show cells + 0 ≤ 601024; omega, by show slots + 0 ≤ 7293034; omega⟩ d_Law_law_793) ?_
  refine x_sx C b_Law_law_796_797 hl (L' := [(0, .ref b0), (1, .ref (sd 0)), (2, .ref (ad 20)), (3, .ref oa), (4, .int (nI i))]) (st' := [.ref (ad 20), .int ((va_up sc 0 0) 8)]) rfl (fun ls hl => ?_)
  rw [to_mW hn hrb2] at hH
  refine x_mw1 (x_cV C hH.1 mW_o rfl (c_Mo_isStuck l G A ad (cW G rb n md rd sd ms fl mn (va_up sc 0 0) ar b (oW G oa f)) sc ar hR.2.1.2.2.2.1) t_842 t_14 t_839 t_840 t_841 hd_Mo_isStuck blind_Pre (pre_mt C hH hA trivial) (As := []) (rest := [.int ((va_up sc 0 0) 8)]) rfl hl.1 rfl rfl rfl ⟨Nat.le_of_ble_eq_true rfl, Nat.le_of_ble_eq_true rfl⟩ (Nat.le_of_ble_eq_true rfl) ⟨by show cells + 0 + 0 ≤ 601024; omega, by show slots + 0 + 0 ≤ 7293034; omega⟩ d_Law_law_797) hH.2.2 (fun H locs hH => ?_)
  refine lv_icmp_eq (tgt := 1069) C.1 C.2.1 d_Law_law_800 (by decide) (fun _ => ?_) (fun h => absurd rfl h)
  exact kk H locs _ _ ls ⟨rb, n, md, rd, sd, ms, fl, mn, (va_up sc 0 0), ar, b, np, f, (hR.z 0), rfl, by rw [to_mW hn hrb2]; exact hH⟩ (by omega) (by omega) (lv_sub hl [0, 1, 2, 3, 4] rfl)
