theorem d_SP_gone_0 : decode prog_1_method_22_code 0 = .ok (.new 41, 3) := by decide +kernel
theorem b_SP_gone_3_5 : decs prog_1_method_22_code [(.dup, 1), (.aload_n 0, 1)] 3 5 = true := by decide +kernel
theorem d_SP_gone_5 : decode prog_1_method_22_code 5 = .ok (.invokespecial 43, 3) := by decide +kernel
theorem b_SP_gone_8_11 : decs prog_1_method_22_code [(.astore_n 2, 1), (.iconst 0, 1), (.istore_n 3, 1)] 8 11 = true := by decide +kernel
theorem b_SP_gone_11_13 : decs prog_1_method_22_code [(.iload_n 3, 1), (.aload_n 1, 1)] 11 13 = true := by decide +kernel
theorem d_SP_gone_13 : decode prog_1_method_22_code 13 = .ok (.invokevirtual 59, 3) := by decide +kernel
theorem d_SP_gone_16 : decode prog_1_method_22_code 16 = .ok (.if_icmp .ge 46, 3) := by decide +kernel
theorem b_SP_gone_62_63 : decs prog_1_method_22_code [(.aload_n 2, 1)] 62 63 = true := by decide +kernel
theorem d_SP_gone_63 : decode prog_1_method_22_code 63 = .ok (.areturn, 1) := by decide +kernel
theorem b_SP_gone_19_22 : decs prog_1_method_22_code [(.aload_n 2, 1), (.aload_n 1, 1), (.iload_n 3, 1)] 19 22 = true := by decide +kernel
theorem d_SP_gone_22 : decode prog_1_method_22_code 22 = .ok (.invokevirtual 71, 3) := by decide +kernel
theorem d_SP_gone_25 : decode prog_1_method_22_code 25 = .ok (.checkcast 172, 3) := by decide +kernel
theorem d_SP_gone_28 : decode prog_1_method_22_code 28 = .ok (.getfield 179, 3) := by decide +kernel
theorem b_SP_gone_31_33 : decs prog_1_method_22_code [(.aload_n 1, 1), (.iload_n 3, 1)] 31 33 = true := by decide +kernel
theorem d_SP_gone_33 : decode prog_1_method_22_code 33 = .ok (.invokevirtual 71, 3) := by decide +kernel
theorem d_SP_gone_36 : decode prog_1_method_22_code 36 = .ok (.checkcast 172, 3) := by decide +kernel
theorem d_SP_gone_39 : decode prog_1_method_22_code 39 = .ok (.getfield 182, 3) := by decide +kernel
theorem b_SP_gone_42_44 : decs prog_1_method_22_code [(.aload_n 1, 1), (.iload_n 3, 1)] 42 44 = true := by decide +kernel
theorem d_SP_gone_44 : decode prog_1_method_22_code 44 = .ok (.invokevirtual 71, 3) := by decide +kernel
theorem d_SP_gone_47 : decode prog_1_method_22_code 47 = .ok (.checkcast 172, 3) := by decide +kernel
theorem d_SP_gone_50 : decode prog_1_method_22_code 50 = .ok (.getfield 183, 3) := by decide +kernel
theorem d_SP_gone_53 : decode prog_1_method_22_code 53 = .ok (.invokevirtual 101, 3) := by decide +kernel
theorem b_SP_gone_56_59 : decs prog_1_method_22_code [(.iinc 3 1, 3)] 56 59 = true := by decide +kernel
theorem d_SP_gone_59 : decode prog_1_method_22_code 59 = .ok (.goto (-48), 3) := by decide +kernel
theorem Kc.go {n np : Nat} {K : SA → Prop} (h : Kc n np K) {turn fw : Int32} (ht : -3 ≤ turn ∧ turn ≤ 3) (f : Nat) (st : SA) (h0 : K st) : K (goI st turn fw f) := by
  induction f generalizing st with
  | zero => rw [goI]; exact h0
  | succ f ih =>
    rw [goI_s]
    split
    · rename_i q; exact ih _ (h st turn fw h0 ht q.2).2
    · exact h0
/-- go, of a run whose place has another name -/
theorem c_Run_go_a (l : Launch) (G : GG) (A : Nat → Prop) (rb n : Nat) (md : Int32) (rd sd : Nat → Nat) (w0 : WF) (rv : Value) (sc : Nat → Int32) (ar : Nat → Nat → Int32) (b : Bt) (np N : Nat) (turn fw : Int32) (K : SA → Prop) (sz tz : Nat) (hn0 : 0 < n) (hn : n ≤ 3) (hrb : 100 ≤ rb) (hN : N < 2 ^ 31) (hL : spL G w0 sd rv n sc ar) (hB : BR b (ar 17)) (hK : Kc n np K) (hk0 : K (sc, ar)) (htu : -3 ≤ turn ∧ turn ≤ 3)  {a : Nat} (ha : rd 0 = a) : Met l y_Run_go (Cond.code y_Run_go prog_4_method_5_code 5 none :: wt) { frames := 8, cells := (pc6 b.2.1), slots := (ps6 b.2.1), locals := 209 } (Pre G A (rW G rb n md rd sd w0 sc ar b) (fun H => H.size = sz ∧ hTot H = tz) [.ref a, .int turn, .int (nI N), .int fw]) (Qx0 (X := Bt) A (fun x H => BR x ((goI (sc, ar) turn fw N).2 17) ∧ rmP sz tz b.2.1 x.2.1 H) G (fun x => (rW G rb n md rd sd w0 (goI (sc, ar) turn fw N).1 (goI (sc, ar) turn fw N).2 x))) (pc6 b.2.1) (ps6 b.2.1) A := by
  subst ha
  exact c_Run_go l G A rb n md rd sd w0 rv sc ar b np N turn fw K sz tz hn0 hn hrb hN hL hB hK hk0 htu
set_option maxRecDepth 100000 in
set_option maxHeartbeats 4000000 in
theorem c_SP_gone (l : Launch) (G : GG) (A : Nat → Prop) (rb n : Nat) (md : Int32) (rd sd : Nat → Nat) (ms : Nat → Int32) (fl mn : Nat → Nat) (sc : Nat → Int32) (ar : Nat → Nat → Int32) (b : Bt) (w0 : WF) (q np : Nat) (sc1 : Nat → Int32) (ar1 : Nat → Nat → Int32) (K : SA → Prop) (hn : n ≤ 3) (hrb : 100 ≤ rb) (hrbE : rb = 100 ∨ rb = 200) (hn0 : 0 < n) (hq : q < 4) (hmq : ∀ q, q < 4 → mn q ≤ 6) (hf0 : ∀ q, q < 4 → fl q = 0 → mn q = 0) (h8 : ar 8 q = nI (mn q)) (e1 : ∀ j, 2 ≤ j → j ≤ 6 → sc1 j = sc j) (e2 : ∀ i, 1 ≤ i → i ≤ 11 → ar1 i = ar i) (h1 : sc1 1 = nI n) (h6 : sc1 6 = nI np) (hnp : np ≤ 20) (hg : ∀ k, k < n → rgC (bgI (bgS sc1) ar1 3) k) (hcn : ∀ k, k < mn q → ∃ N, N < 2 ^ 31 ∧ ar 10 (6 * q + k) = nI N) (htn : ∀ k, k < mn q → -3 ≤ ar 9 (6 * q + k) ∧ ar 9 (6 * q + k) ≤ 3) (hK : Kc n np K) (hB : K (fBegin (sc1, ar1))) : Met l y_SP_gone (Cond.code y_SP_gone prog_1_method_22_code 4 (some (FieldType.object "SweptPaths$Run")) :: wt) { frames := 9, cells := 20, slots := 556, locals := 233 } (Pre G A (cW G rb n md rd sd ms fl mn sc ar b w0) (fun _ => True) [.ref (sd 0), .ref (sd (10 + q))]) (Qx1 (X := (Nat → Nat) × Bt) A (fun x => .ref (x.1 0)) (fun x _ => BR x.2 ((fPlan (sc1, ar1) q).2 17)) G (fun x => rW G (300 - rb) n (nI n) x.1 sd (va_up (cW G rb n md rd sd ms fl mn sc ar b w0) (300 - rb) (some (x.1 0, .inr (4, [.null, .null, .int 0, .int 0, .int 0, .int 0, .int 0, .null])))) (fPlan (sc1, ar1) q).1 (fPlan (sc1, ar1) q).2 x.2)) 20 556 A := by
  refine mt_of (by decide) (Nat.le_of_ble_eq_true rfl) ?_
  intro p e s m below meth c ls C hH hA hE hr hmn hl
  have hl : lv_has ls 4 [(0, .ref (sd 0)), (1, .ref (sd (10 + q)))] := hl
  refine x_newN C hH hA (300 - rb) 4 rfl 8 rfl t_115 t_116 t_9 (fs := [.null, .null, .int 0, .int 0, .int 0, .int 0, .int 0, .null]) (by decide) (by show 0 + 1 ≤ 20; omega) (by show 0 + 8 ≤ 556; omega) d_SP_gone_0 (fun a H hH => ?_)
  refine x_sx C b_SP_gone_3_5 hl (L' := [(0, .ref (sd 0)), (1, .ref (sd (10 + q)))]) (st' := [.ref (sd 0), .ref a, .ref a]) rfl (fun ls hl => ?_)
  have hL1 : spL G (va_up (cW G rb n md rd sd ms fl mn sc ar b w0) (300 - rb) (some (a, .inr (4, [.null, .null, .int 0, .int 0, .int 0, .int 0, .int 0, .null])))) sd (.ref (rd 0)) n sc1 ar1 := spL_up (spL_rW ((sp_L hn).congr e1 (fun i h1 h2 => e2 i h1 (by omega))) hrb hn hn) (by omega) hn
  refine x_q0 (x_cI C (c_Run_init l G A (va_up (cW G rb n md rd sd ms fl mn sc ar b w0) (300 - rb) (some (a, .inr (4, [.null, .null, .int 0, .int 0, .int 0, .int 0, .int 0, .null])))) (300 - rb) n a (if n = 0 then G.2.2 1 else sd 4) (ms 0) (shD sd n) sd (.ref (rd 0)) sc1 ar1 np h1 hn (by omega) (up_s _ _ _) hL1 ((up_n _ _ (by omega)).trans ((rW_out hn (by omega)).trans sp_3)) (fun h0 => ⟨(up_n _ _ (by omega)).trans ((rW_out hn (by omega)).trans (by rw [if_neg (by omega)]; exact sp_4 h0)), fun k hk => if_pos hk⟩) h6 hnp hg) t_119 t_9 t_117 t_118 rfl hd_Run_init blind_Pre (pre_mt C hH hA trivial) (As := [.ref (sd 0)]) (rest := [.ref a]) rfl hl.1 rfl rfl rfl ⟨Nat.le_of_ble_eq_true rfl, Nat.le_of_ble_eq_true rfl⟩ (Nat.le_of_ble_eq_true rfl) ⟨(by show 0 + 1 + 13 ≤ 20; omega), (by show 0 + 8 + 292 ≤ 556; omega)⟩ d_SP_gone_5) hH.2.2 (fun x0 H locs hx hH hz => ?_)
  obtain ⟨rd2, b2⟩ := x0
  obtain ⟨hra, hb2⟩ := hx
  dsimp only at hra hb2 hH
  refine x_sx C b_SP_gone_8_11 hl (L' := [(3, .int 0), (2, .ref a), (0, .ref (sd 0)), (1, .ref (sd (10 + q)))]) (st' := []) rfl (fun ls hl => ?_)
  refine x_loopC (X := Nat × Bt) (fun x => mn q - x.1) (fun x H locs cells slots => x.1 ≤ mn q ∧ K (plI (sc1, ar1) q x.1) ∧ BR x.2 ((plI (sc1, ar1) q x.1).2 17) ∧ cells + pc6 x.2.2.1 ≤ 20 ∧ slots + ps6 x.2.2.1 ≤ 556 ∧ Hw G A s (rW G (300 - rb) n (nI n) rd2 sd (va_up (cW G rb n md rd sd ms fl mn sc ar b w0) (300 - rb) (some (a, .inr (4, [.null, .null, .int 0, .int 0, .int 0, .int 0, .int 0, .null])))) (plI (sc1, ar1) q x.1).1 (plI (sc1, ar1) q x.1).2 x.2) H locs) (fun x => [(0, .ref (sd 0)), (1, .ref (sd (10 + q))), (2, .ref a), (3, .int (nI x.1))]) 11 ?_ (0, b2) _ _ _ _ _ ⟨Nat.zero_le _, hB, hb2, (by have := pc6_le b2.2.1; show 0 + 1 + 13 + pc6 b2.2.1 ≤ 20; omega), (by have := ps6_le b2.2.1; show 0 + 8 + 292 + ps6 b2.2.1 ≤ 556; omega), hH⟩ (lv_sub hl [2, 3, 1, 0] rfl)
  clear hH hb2
  intro x H locs cells slots ls hI hl IH
  obtain ⟨k, bb⟩ := x
  obtain ⟨hkz, hKk, hb2, hc1, hc2, hH⟩ := hI
  dsimp only at hkz hKk hb2 hc1 hc2 hH IH
  have hl : lv_has ls 4 [(0, .ref (sd 0)), (1, .ref (sd (10 + q))), (2, .ref a), (3, .int (nI k))] := hl
  have h66 := hmq q hq
  have hc3 : cells + 0 ≤ 20 := by omega
  have hc4 : slots + 0 ≤ 556 := by omega
  have hps := plI_s (sc1, ar1) q k
  have hLk : spL G (va_up (cW G rb n md rd sd ms fl mn sc ar b w0) (300 - rb) (some (a, .inr (4, [.null, .null, .int 0, .int 0, .int 0, .int 0, .int 0, .null])))) sd (.ref (rd 0)) n (plI (sc1, ar1) q k).1 (plI (sc1, ar1) q k).2 := hL1.congr (fun j h1 h2 => plI_sc (sc1, ar1) q k (by omega) (by omega) (by omega) (by omega) (by omega) (by omega)) (fun i h1 h2 => plI_ar (sc1, ar1) q k (by omega) (by omega) (by omega) (by omega) (by omega) (by omega))
  generalize hstk : plI (sc1, ar1) q k = stk at hKk hb2 hH hps hLk
  obtain ⟨sck, ark⟩ := stk
  dsimp only at hKk hb2 hH hps hLk
  have hAL : (rW G (300 - rb) n (nI n) rd2 sd (va_up (cW G rb n md rd sd ms fl mn sc ar b w0) (300 - rb) (some (a, .inr (4, [.null, .null, .int 0, .int 0, .int 0, .int 0, .int 0, .null])))) sck ark bb) (10 + q) = some (sd (10 + q), .inr (6, [.ref (if fl q = 0 then G.2.2 1 else sd (14 + q)), .int (nI (mn q)), .int (ms (2 + q))])) := ((rW_out hn (by omega)).trans ((up_n _ _ (by omega)).trans ((rW_out hn (by omega)).trans (sp_p hq))))
  refine x_sx C b_SP_gone_11_13 hl (L' := [(0, .ref (sd 0)), (1, .ref (sd (10 + q))), (2, .ref a), (3, .int (nI k))]) (st' := [.ref (sd (10 + q)), .int (nI k)]) rfl (fun ls hl => ?_)
  refine x_ro (x_cV C hH.1 hAL rfl (c_AL_size l G (rW G (300 - rb) n (nI n) rd2 sd (va_up (cW G rb n md rd sd ms fl mn sc ar b w0) (300 - rb) (some (a, .inr (4, [.null, .null, .int 0, .int 0, .int 0, .int 0, .int 0, .null])))) sck ark bb) (10 + q) (sd (10 + q)) (if fl q = 0 then G.2.2 1 else sd (14 + q)) (nI (mn q)) (ms (2 + q)) hAL) t_151 t_4 t_431 t_149 t_150 hd_AL_size blind_Pro (pre_ro C hH.1 hH.2.2) (As := []) (rest := [.int (nI k)]) rfl hl.1 rfl rfl rfl ⟨Nat.le_of_ble_eq_true rfl, Nat.le_of_ble_eq_true rfl⟩ (Nat.le_of_ble_eq_true rfl) ⟨hc3, hc4⟩ d_SP_gone_13) ?_
  refine lv_icmp_ge (tgt := 62) C.1 C.2.1 d_SP_gone_16 (by decide) (fun hb => ?_) (fun hb => ?_)
  · have ek : k = mn q := by rw [nI_leI (by omega) (by have := hmq q hq; omega)] at hb; omega
    have hfp : fPlan (sc1, ar1) q = (sck, ark) := by unfold fPlan; dsimp only; rw [e2 8 (by decide) (by decide), h8, nI_clamp (by have := hmq q hq; omega), ← ek]; exact hstk
    refine x_sx C b_SP_gone_62_63 hl (L' := [(0, .ref (sd 0)), (1, .ref (sd (10 + q))), (2, .ref a), (3, .int (nI k))]) (st' := [.ref a]) rfl (fun ls hl => ?_)
    exact x_art C hr (Or.inl ⟨_, rfl⟩) (Or.inr ⟨_, rfl⟩) hH.2.2 ⟨(rd2, bb), (by show some (Value.ref a) = some (.ref (rd2 0)); rw [hra]), by rw [hfp]; exact hb2, by rw [hfp]; dsimp only; rw [hra]; exact hH.1, by rw [hfp]; dsimp only; rw [hra]; exact hH.2.1⟩ (by omega) (by omega) d_SP_gone_63
  · have hk : k < mn q := by rw [nI_leI (by omega) (by have := hmq q hq; omega)] at hb; omega
    have hf1 : ¬ fl q = 0 := fun y => by have := hf0 q hq y; omega
    rw [if_neg hf1] at hAL
    have hDA : (rW G (300 - rb) n (nI n) rd2 sd (va_up (cW G rb n md rd sd ms fl mn sc ar b w0) (300 - rb) (some (a, .inr (4, [.null, .null, .int 0, .int 0, .int 0, .int 0, .int 0, .null])))) sck ark bb) (14 + q) = some (sd (14 + q), .inl (G.2.1 3, 10, .inr (.inr (.inr (.inr (paD sd q (mn q))))))) := ((rW_out hn (by omega)).trans ((up_n _ _ (by omega)).trans ((rW_out hn (by omega)).trans (sp_d hq hf1))))
    have hPA : (rW G (300 - rb) n (nI n) rd2 sd (va_up (cW G rb n md rd sd ms fl mn sc ar b w0) (300 - rb) (some (a, .inr (4, [.null, .null, .int 0, .int 0, .int 0, .int 0, .int 0, .null])))) sck ark bb) (30 + 6 * q + k) = some (sd (30 + 6 * q + k), .inr (3, paFs ar (6 * q + k))) := ((rW_out hn (by omega)).trans ((up_n _ _ (by omega)).trans ((rW_out hn (by omega)).trans (sp_a hq hk h66 hn))))
    obtain ⟨N, hN, eN⟩ := hcn k hk
    refine x_sx C b_SP_gone_19_22 hl (L' := [(0, .ref (sd 0)), (1, .ref (sd (10 + q))), (2, .ref a), (3, .int (nI k))]) (st' := [.int (nI k), .ref (sd (10 + q)), .ref a]) rfl (fun ls hl => ?_)
    refine x_ro (x_cV C hH.1 hAL rfl (c_AL_get l G (rW G (300 - rb) n (nI n) rd2 sd (va_up (cW G rb n md rd sd ms fl mn sc ar b w0) (300 - rb) (some (a, .inr (4, [.null, .null, .int 0, .int 0, .int 0, .int 0, .int 0, .null])))) sck ark bb) (10 + q) (14 + q) (sd (10 + q)) (sd (14 + q)) (mn q) k (sd (30 + 6 * q + k)) (ms (2 + q)) (paD sd q (mn q)) hAL hDA hk (by omega) (if_pos hk)) t_157 t_4 t_548 t_155 t_156 hd_AL_get blind_Pro (pre_ro C hH.1 hH.2.2) (As := [.int (nI k)]) (rest := [.ref a]) rfl hl.1 rfl rfl rfl ⟨Nat.le_of_ble_eq_true rfl, Nat.le_of_ble_eq_true rfl⟩ (Nat.le_of_ble_eq_true rfl) ⟨hc3, hc4⟩ d_SP_gone_22) ?_
    refine x_cast C hH.1 (30 + 6 * q + k) hPA rfl t_588 d_SP_gone_25 ?_
    refine x_get C hH.1 (30 + 6 * q + k) hPA 0 (v := .int (ar 9 (6 * q + k))) rfl rfl (by decide) t_595 (fun _ z => z) d_SP_gone_28 ?_
    refine x_sx C b_SP_gone_31_33 hl (L' := [(0, .ref (sd 0)), (1, .ref (sd (10 + q))), (2, .ref a), (3, .int (nI k))]) (st' := [.int (nI k), .ref (sd (10 + q)), .int (ar 9 (6 * q + k)), .ref a]) rfl (fun ls hl => ?_)
    refine x_ro (x_cV C hH.1 hAL rfl (c_AL_get l G (rW G (300 - rb) n (nI n) rd2 sd (va_up (cW G rb n md rd sd ms fl mn sc ar b w0) (300 - rb) (some (a, .inr (4, [.null, .null, .int 0, .int 0, .int 0, .int 0, .int 0, .null])))) sck ark bb) (10 + q) (14 + q) (sd (10 + q)) (sd (14 + q)) (mn q) k (sd (30 + 6 * q + k)) (ms (2 + q)) (paD sd q (mn q)) hAL hDA hk (by omega) (if_pos hk)) t_157 t_4 t_548 t_155 t_156 hd_AL_get blind_Pro (pre_ro C hH.1 hH.2.2) (As := [.int (nI k)]) (rest := [.int (ar 9 (6 * q + k)), .ref a]) rfl hl.1 rfl rfl rfl ⟨Nat.le_of_ble_eq_true rfl, Nat.le_of_ble_eq_true rfl⟩ (Nat.le_of_ble_eq_true rfl) ⟨hc3, hc4⟩ d_SP_gone_33) ?_
    refine x_cast C hH.1 (30 + 6 * q + k) hPA rfl t_588 d_SP_gone_36 ?_
    refine x_get C hH.1 (30 + 6 * q + k) hPA 1 (v := .int (ar 10 (6 * q + k))) rfl rfl (by decide) t_597 (fun _ z => z) d_SP_gone_39 ?_
    rw [eN]
    refine x_sx C b_SP_gone_42_44 hl (L' := [(0, .ref (sd 0)), (1, .ref (sd (10 + q))), (2, .ref a), (3, .int (nI k))]) (st' := [.int (nI k), .ref (sd (10 + q)), .int (nI N), .int (ar 9 (6 * q + k)), .ref a]) rfl (fun ls hl => ?_)
    refine x_ro (x_cV C hH.1 hAL rfl (c_AL_get l G (rW G (300 - rb) n (nI n) rd2 sd (va_up (cW G rb n md rd sd ms fl mn sc ar b w0) (300 - rb) (some (a, .inr (4, [.null, .null, .int 0, .int 0, .int 0, .int 0, .int 0, .null])))) sck ark bb) (10 + q) (14 + q) (sd (10 + q)) (sd (14 + q)) (mn q) k (sd (30 + 6 * q + k)) (ms (2 + q)) (paD sd q (mn q)) hAL hDA hk (by omega) (if_pos hk)) t_157 t_4 t_548 t_155 t_156 hd_AL_get blind_Pro (pre_ro C hH.1 hH.2.2) (As := [.int (nI k)]) (rest := [.int (nI N), .int (ar 9 (6 * q + k)), .ref a]) rfl hl.1 rfl rfl rfl ⟨Nat.le_of_ble_eq_true rfl, Nat.le_of_ble_eq_true rfl⟩ (Nat.le_of_ble_eq_true rfl) ⟨hc3, hc4⟩ d_SP_gone_44) ?_
    refine x_cast C hH.1 (30 + 6 * q + k) hPA rfl t_588 d_SP_gone_47 ?_
    refine x_get C hH.1 (30 + 6 * q + k) hPA 2 (v := .int (ar 11 (6 * q + k))) rfl rfl (by decide) t_599 (fun _ z => z) d_SP_gone_50 ?_
    refine W.know (fun k1 k2 _ _ => ?_)
    have kk0 : H.size + pc6 bb.2.1 ≤ s.heap.size + 20 ∧ hTot H + ps6 bb.2.1 ≤ hTot s.heap + 556 := ⟨by omega, by omega⟩
    have hro : (rW G (300 - rb) n (nI n) rd2 sd (va_up (cW G rb n md rd sd ms fl mn sc ar b w0) (300 - rb) (some (a, .inr (4, [.null, .null, .int 0, .int 0, .int 0, .int 0, .int 0, .null])))) sck ark bb) (300 - rb) = some (a, .inr (4, rFs rd2 sd sck)) := by rw [← hra]; exact rW_o
    refine x_q0 (x_cV C hH.1 hro rfl (c_Run_go_a l G A (300 - rb) n (nI n) rd2 sd (va_up (cW G rb n md rd sd ms fl mn sc ar b w0) (300 - rb) (some (a, .inr (4, [.null, .null, .int 0, .int 0, .int 0, .int 0, .int 0, .null])))) (.ref (rd 0)) sck ark bb np N (ar 9 (6 * q + k)) (ar 11 (6 * q + k)) K H.size (hTot H) hn0 hn (by omega) hN hLk hb2 hK hKk (htn k hk) hra) t_518 t_9 t_515 t_516 t_517 hd_Run_go blind_Pre (pre_mt C hH hA ⟨rfl, rfl⟩) (As := [.int (ar 9 (6 * q + k)), .int (nI N), .int (ar 11 (6 * q + k))]) (rest := []) rfl hl.1 rfl rfl rfl ⟨Nat.le_of_ble_eq_true rfl, Nat.le_of_ble_eq_true rfl⟩ (Nat.le_of_ble_eq_true rfl) ⟨(by show cells + pc6 bb.2.1 ≤ 20; omega), (by show slots + ps6 bb.2.1 ≤ 556; omega)⟩ d_SP_gone_53) hH.2.2 (fun bn H locs hx hH hz => ?_)
    obtain ⟨hx0, hx1, hx2, hx3⟩ := hx
    obtain ⟨kz, ky⟩ := kk0
    have hpn : plI (sc1, ar1) q (k + 1) = goI (sck, ark) (ar 9 (6 * q + k)) (ar 11 (6 * q + k)) N := by rw [hps]; unfold fGo; (try dsimp only); rw [e2 9 (by decide) (by decide), e2 10 (by decide) (by decide), e2 11 (by decide) (by decide), eN, nI_clamp hN]
    have hkn : K (goI (sck, ark) (ar 9 (6 * q + k)) (ar 11 (6 * q + k)) N) := hK.go (htn k hk) N (sck, ark) hKk
    refine W.know (fun _ _ k3 k4 => ?_)
    refine W.tight (k := H.size - s.heap.size) (n := hTot H - hTot s.heap) (by omega) (by omega) ?_
    refine x_sx C b_SP_gone_56_59 hl (L' := [(3, .int ((nI k) + 1)), (0, .ref (sd 0)), (1, .ref (sd (10 + q))), (2, .ref a)]) (st' := []) rfl (fun ls hl => ?_)
    refine x_goto (tgt := 11) C d_SP_gone_59 (by decide) ?_
    exact IH (k + 1, bn) _ _ _ _ _ (by show mn q - (k + 1) < mn q - k; omega) ⟨by show k + 1 ≤ mn q; omega, by rw [hpn]; exact hkn, by rw [hpn]; exact hx0, (by show H.size - s.heap.size + pc6 bn.2.1 ≤ 20; omega), (by show hTot H - hTot s.heap + ps6 bn.2.1 ≤ 556; omega), by rw [hpn]; exact hH⟩ (by rw [← nI_1]; exact (lv_sub hl [1, 2, 3, 0] rfl))
theorem hd_SP_gone : hdP y_SP_gone 1 := ⟨by decide +kernel, by decide +kernel, by decide +kernel⟩
