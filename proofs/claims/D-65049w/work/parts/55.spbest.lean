theorem b_SP_sweeps_16_17 : decs prog_1_method_24_code [(.iconst 1, 1)] 16 17 = true := by decide +kernel
theorem d_SP_sweeps_17 : decode prog_1_method_24_code 17 = .ok (.goto 4, 3) := by decide +kernel
theorem b_SP_sweeps_24_26 : decs prog_1_method_24_code [(.aload_n 0, 1), (.aload_n 2, 1)] 24 26 = true := by decide +kernel
theorem d_SP_sweeps_26 : decode prog_1_method_24_code 26 = .ok (.invokevirtual 186, 3) := by decide +kernel
theorem d_SP_sweeps_29 : decode prog_1_method_24_code 29 = .ok (.getfield 143, 3) := by decide +kernel
theorem d_SP_sweeps_32 : decode prog_1_method_24_code 32 = .ok (.invokevirtual 147, 3) := by decide +kernel
theorem d_SP_sweeps_35 : decode prog_1_method_24_code 35 = .ok (.ireturn, 1) := by decide +kernel
set_option maxRecDepth 100000 in
set_option maxHeartbeats 4000000 in
theorem c_SP_sweeps (l : Launch) (G : GG) (A : Nat → Prop) (rb n : Nat) (md : Int32) (rd sd : Nat → Nat) (ms : Nat → Int32) (fl mn : Nat → Nat) (sc : Nat → Int32) (ar : Nat → Nat → Int32) (b : Bt) (w0 : WF) (q np : Nat) (sc1 : Nat → Int32) (ar1 : Nat → Nat → Int32) (K : SA → Prop) (hn : n ≤ 3) (hrb : 100 ≤ rb) (hrbE : rb = 100 ∨ rb = 200) (hn0 : 0 < n) (hq : q < 4) (hmq : ∀ q, q < 4 → mn q ≤ 6) (hf0 : ∀ q, q < 4 → fl q = 0 → mn q = 0) (h8 : ar 8 q = nI (mn q)) (e1 : ∀ j, 2 ≤ j → j ≤ 6 → sc1 j = sc j) (e2 : ∀ i, 1 ≤ i → i ≤ 11 → ar1 i = ar i) (h1 : sc1 1 = nI n) (h6 : sc1 6 = nI np) (hnp : np ≤ 20) (hg : ∀ k, k < n → rgC (bgI (bgS sc1) ar1 3) k) (hcn : ∀ k, k < mn q → ∃ N, N < 2 ^ 31 ∧ ar 10 (6 * q + k) = nI N) (htn : ∀ k, k < mn q → -3 ≤ ar 9 (6 * q + k) ∧ ar 9 (6 * q + k) ≤ 3) (hK : Kc n np K) (hB : K (fBegin (sc1, ar1))) (hcd : ∀ (b : Bt) (g : Nat → Int32), BR b g → bsC b.2.2.2 b.2.2.1 = nI (cnt g)) (hw : ∀ m, 100 ≤ m → m < 300 → w0 m = none) : Met l y_SP_sweeps (Cond.code y_SP_sweeps prog_1_method_24_code 3 (some FieldType.int) :: wt) { frames := 10, cells := 20, slots := 556, locals := 256 } (Pre G A (cW G rb n md rd sd ms fl mn sc ar b w0) (fun _ => True) [.ref (sd 0), .int (nI q)]) (Qx1 (X := Unit) A (fun _ => .int (nI (cnt ((fPlan (sc1, ar1) q).2 17)))) (fun _ _ => True) G (fun _ => (cW G rb n md rd sd ms fl mn sc ar b w0))) 20 556 A := by
  refine mt_of (by decide) (Nat.le_of_ble_eq_true rfl) ?_
  intro p e s m below meth c ls C hH hA hE hr hmn hl
  have hl : lv_has ls 3 [(0, .ref (sd 0)), (1, .int (nI q))] := hl
  refine x_sx C b_SP_sweeps_0_2 hl (L' := [(0, .ref (sd 0)), (1, .int (nI q))]) (st' := [.int (nI q), .ref (sd 0)]) rfl (fun ls hl => ?_)
  refine x_ro (x_cV C hH.1 ((rW_0 (Or.inl (by omega)) hn).trans (sp_L hn).1) rfl (c_SP_planOf l G rb n md rd sd ms fl mn sc ar b w0 q hn hrb hq) t_587 t_1 t_584 t_586 ts_12 hd_SP_planOf blind_Pro (pre_ro C hH.1 hH.2.2) (As := [.int (nI q)]) (rest := []) rfl hl.1 rfl rfl rfl ⟨Nat.le_of_ble_eq_true rfl, Nat.le_of_ble_eq_true rfl⟩ (Nat.le_of_ble_eq_true rfl) ⟨Nat.zero_le _, Nat.zero_le _⟩ d_SP_sweeps_2) ?_
  refine x_sx C b_SP_sweeps_5_7 hl (L' := [(2, .ref (sd (10 + q))), (0, .ref (sd 0)), (1, .int (nI q))]) (st' := [.ref (sd 0)]) rfl (fun ls hl => ?_)
  refine x_get C hH.1 0 ((rW_0 (Or.inl (by omega)) hn).trans (sp_L hn).1) 0 (v := .ref (sd 3)) rfl rfl (by decide) t_298 (fun _ z => z) d_SP_sweeps_7 ?_
  refine x_ro (x_cV C hH.1 ((rW_0 (Or.inl (by omega)) hn).trans sp_3) rfl (c_AL_isEmpty l G (cW G rb n md rd sd ms fl mn sc ar b w0) 3 (sd 3) (if n = 0 then G.2.2 1 else sd 4) (nI n) (ms 0) ((rW_0 (Or.inl (by omega)) hn).trans sp_3)) t_514 t_4 t_511 t_512 t_513 hd_AL_isEmpty blind_Pro (pre_ro C hH.1 hH.2.2) (As := []) (rest := []) rfl hl.1 rfl rfl rfl ⟨Nat.le_of_ble_eq_true rfl, Nat.le_of_ble_eq_true rfl⟩ (Nat.le_of_ble_eq_true rfl) ⟨Nat.zero_le _, Nat.zero_le _⟩ d_SP_sweeps_10) ?_
  refine lv_if_ne (tgt := 20) C.1 C.2.1 d_SP_sweeps_13 (by decide) (fun h => absurd (if_neg (nI_ne0 hn0 (by omega))) h) (fun _ => ?_)
  refine x_sx C b_SP_sweeps_16_17 hl (L' := [(2, .ref (sd (10 + q))), (0, .ref (sd 0)), (1, .int (nI q))]) (st' := [.int 1]) rfl (fun ls hl => ?_)
  refine x_goto (tgt := 21) C d_SP_sweeps_17 (by decide) ?_
  refine x_rv (x_cS C (c_SP_may l G (cW G rb n md rd sd ms fl mn sc ar b w0)) t_434 t_1 t_432 t_433 hd_SP_may blind_Pro (pre_ro C hH.1 hH.2.2) (As := [.int 1]) (rest := []) rfl hl.1 rfl rfl rfl ⟨Nat.le_of_ble_eq_true rfl, Nat.le_of_ble_eq_true rfl⟩ (Nat.le_of_ble_eq_true rfl) ⟨Nat.zero_le _, Nat.zero_le _⟩ d_SP_sweeps_21) ?_
  refine x_sx C b_SP_sweeps_24_26 hl (L' := [(2, .ref (sd (10 + q))), (0, .ref (sd 0)), (1, .int (nI q))]) (st' := [.ref (sd (10 + q)), .ref (sd 0)]) rfl (fun ls hl => ?_)
  refine x_q1 (x_cV C hH.1 ((rW_0 (Or.inl (by omega)) hn).trans (sp_L hn).1) rfl (c_SP_gone l G A rb n md rd sd ms fl mn sc ar b w0 q np sc1 ar1 K hn hrb hrbE hn0 hq hmq hf0 h8 e1 e2 h1 h6 hnp hg hcn htn hK hB) t_628 t_1 t_625 t_627 ts_13 hd_SP_gone blind_Pre (pre_mt C hH hA trivial) (As := [.ref (sd (10 + q))]) (rest := []) rfl hl.1 rfl rfl rfl ⟨Nat.le_of_ble_eq_true rfl, Nat.le_of_ble_eq_true rfl⟩ (Nat.le_of_ble_eq_true rfl) ⟨(by show 0 + 20 ≤ 20; omega), (by show 0 + 556 ≤ 556; omega)⟩ d_SP_sweeps_26) hH.2.2 (fun x H locs hx hH hz => ?_)
  refine x_get C hH.1 (300 - rb) (rW_o) 1 (v := .ref (x.1 3)) rfl rfl (by decide) t_268 (fun _ z => z) d_SP_sweeps_29 ?_
  refine x_ro (x_cV C hH.1 rW_s rfl (c_BS_cardinality l G (rW G (300 - rb) n (nI n) x.1 sd (va_up (cW G rb n md rd sd ms fl mn sc ar b w0) (300 - rb) (some ((x.1 0), .inr (4, [.null, .null, .int 0, .int 0, .int 0, .int 0, .int 0, .null])))) (fPlan (sc1, ar1) q).1 (fPlan (sc1, ar1) q).2 x.2) ((300 - rb) + 3) ((300 - rb) + 4) (x.1 3) x.2.1 x.2.2.1 x.2.2.2.1 x.2.2.2.2 rW_s rW_w hx.2.2.1 (Nat.le_trans hx.2.1 (by decide))) t_343 t_10 t_340 t_341 t_342 hd_BS_cardinality blind_Pro (pre_ro C hH.1 hH.2.2) (As := []) (rest := []) rfl hl.1 rfl rfl rfl ⟨Nat.le_of_ble_eq_true rfl, Nat.le_of_ble_eq_true rfl⟩ (Nat.le_of_ble_eq_true rfl) ⟨(by show 0 + 20 + 0 ≤ 20; omega), (by show 0 + 556 + 0 ≤ 556; omega)⟩ d_SP_sweeps_32) ?_
  have hH : Hw G A s (cW G rb n md rd sd ms fl mn sc ar b w0) H locs := hH.less (gone_less hn hrbE rfl hw)
  rw [hcd x.2 _ hx]
  exact x_irt C hr hH.2.2 ⟨(), rfl, trivial, hH.1, hH.2.1⟩ (Nat.le_of_ble_eq_true rfl) (Nat.le_of_ble_eq_true rfl) d_SP_sweeps_35
theorem hd_SP_sweeps : hdP y_SP_sweeps 1 := ⟨by decide +kernel, by decide +kernel, by decide +kernel⟩
theorem b_SP_best_10_11 : decs prog_1_method_23_code [(.iconst 1, 1)] 10 11 = true := by decide +kernel
theorem d_SP_best_11 : decode prog_1_method_23_code 11 = .ok (.goto 4, 3) := by decide +kernel
theorem b_SP_best_18_24 : decs prog_1_method_23_code [(.iconst (-1), 1), (.istore_n 1, 1), (.iconst 0, 1), (.istore_n 2, 1), (.iconst 0, 1), (.istore_n 3, 1)] 18 24 = true := by decide +kernel
theorem b_SP_best_24_26 : decs prog_1_method_23_code [(.iload_n 3, 1), (.iconst 4, 1)] 24 26 = true := by decide +kernel
theorem d_SP_best_26 : decode prog_1_method_23_code 26 = .ok (.if_icmp .ge 69, 3) := by decide +kernel
theorem b_SP_best_95_96 : decs prog_1_method_23_code [(.iload_n 1, 1)] 95 96 = true := by decide +kernel
theorem d_SP_best_96 : decode prog_1_method_23_code 96 = .ok (.ireturn, 1) := by decide +kernel
theorem b_SP_best_29_31 : decs prog_1_method_23_code [(.aload_n 0, 1), (.aload_n 0, 1)] 29 31 = true := by decide +kernel
theorem d_SP_best_31 : decode prog_1_method_23_code 31 = .ok (.getfield 24, 3) := by decide +kernel
theorem b_SP_best_34_35 : decs prog_1_method_23_code [(.iload_n 3, 1)] 34 35 = true := by decide +kernel
theorem d_SP_best_35 : decode prog_1_method_23_code 35 = .ok (.invokevirtual 71, 3) := by decide +kernel
theorem d_SP_best_38 : decode prog_1_method_23_code 38 = .ok (.checkcast 17, 3) := by decide +kernel
theorem d_SP_best_41 : decode prog_1_method_23_code 41 = .ok (.invokevirtual 186, 3) := by decide +kernel
theorem b_SP_best_44_48 : decs prog_1_method_23_code [(.astore 4, 2), (.aload 4, 2)] 44 48 = true := by decide +kernel
theorem d_SP_best_48 : decode prog_1_method_23_code 48 = .ok (.getfield 143, 3) := by decide +kernel
theorem d_SP_best_51 : decode prog_1_method_23_code 51 = .ok (.invokevirtual 147, 3) := by decide +kernel
theorem b_SP_best_54_58 : decs prog_1_method_23_code [(.istore 5, 2), (.aload 4, 2)] 54 58 = true := by decide +kernel
theorem d_SP_best_58 : decode prog_1_method_23_code 58 = .ok (.getfield 164, 3) := by decide +kernel
theorem d_SP_best_61 : decode prog_1_method_23_code 61 = .ok (.ifCond .ne 28, 3) := by decide +kernel
theorem b_SP_best_89_92 : decs prog_1_method_23_code [(.iinc 3 1, 3)] 89 92 = true := by decide +kernel
theorem d_SP_best_92 : decode prog_1_method_23_code 92 = .ok (.goto (-68), 3) := by decide +kernel
theorem b_SP_best_64_66 : decs prog_1_method_23_code [(.aload 4, 2)] 64 66 = true := by decide +kernel
theorem d_SP_best_66 : decode prog_1_method_23_code 66 = .ok (.getfield 155, 3) := by decide +kernel
theorem b_SP_best_69_70 : decs prog_1_method_23_code [(.iconst (-1), 1)] 69 70 = true := by decide +kernel
theorem d_SP_best_70 : decode prog_1_method_23_code 70 = .ok (.if_icmp .ne 19, 3) := by decide +kernel
theorem b_SP_best_73_75 : decs prog_1_method_23_code [(.iload_n 1, 1), (.iconst (-1), 1)] 73 75 = true := by decide +kernel
theorem d_SP_best_75 : decode prog_1_method_23_code 75 = .ok (.if_icmp .eq 9, 3) := by decide +kernel
theorem b_SP_best_84_92 : decs prog_1_method_23_code [(.iload_n 3, 1), (.istore_n 1, 1), (.iload 5, 2), (.istore_n 2, 1), (.iinc 3 1, 3)] 84 92 = true := by decide +kernel
theorem b_SP_best_78_81 : decs prog_1_method_23_code [(.iload 5, 2), (.iload_n 2, 1)] 78 81 = true := by decide +kernel
theorem d_SP_best_81 : decode prog_1_method_23_code 81 = .ok (.if_icmp .ge 8, 3) := by decide +kernel
set_option maxRecDepth 100000 in
set_option maxHeartbeats 4000000 in
theorem c_SP_best (l : Launch) (G : GG) (A : Nat → Prop) (rb n : Nat) (md : Int32) (rd sd : Nat → Nat) (ms : Nat → Int32) (fl mn : Nat → Nat) (sc : Nat → Int32) (ar : Nat → Nat → Int32) (b : Bt) (w0 : WF) (np : Nat) (st : SA) (K : SA → Prop) (hn : n ≤ 3) (hrb : 100 ≤ rb) (hrbE : rb = 100 ∨ rb = 200) (hn0 : 0 < n) (hmq : ∀ q, q < 4 → mn q ≤ 6) (hf0 : ∀ q, q < 4 → fl q = 0 → mn q = 0) (h8 : ∀ q, q < 4 → ar 8 q = nI (mn q)) (e1 : ∀ j, 1 ≤ j → j ≤ 6 → st.1 j = sc j) (e2 : ∀ i, 1 ≤ i → i ≤ 11 → st.2 i = ar i) (h1 : sc 1 = nI n) (h6 : sc 6 = nI np) (hnp : np ≤ 20) (hg : ∀ st', eqB st st' → ∀ k, k < n → rgC (bgI (bgS st'.1) st'.2 3) k) (hcn : ∀ q, q < 4 → ∀ k, k < mn q → ∃ N, N < 2 ^ 31 ∧ ar 10 (6 * q + k) = nI N) (htn : ∀ q, q < 4 → ∀ k, k < mn q → -3 ≤ ar 9 (6 * q + k) ∧ ar 9 (6 * q + k) ≤ 3) (hK : Kc n np K) (hB : ∀ st', eqB st st' → K (fBegin st')) (h12 : ∀ st', eqB st st' → ∀ q, q < 4 → (fPlan st' q).1 12 = nI (cnt ((fPlan st' q).2 17))) (hcd : ∀ (b : Bt) (g : Nat → Int32), BR b g → bsC b.2.2.2 b.2.2.1 = nI (cnt g)) (hw : ∀ m, 100 ≤ m → m < 300 → w0 m = none) : Met l y_SP_best (Cond.code y_SP_best prog_1_method_23_code 6 (some FieldType.int) :: wt) { frames := 10, cells := 80, slots := 2224, locals := 256 } (Pre G A (cW G rb n md rd sd ms fl mn sc ar b w0) (fun _ => True) [.ref (sd 0)]) (Qx1 (X := Unit) A (fun _ => .int (bsI st 4).2.1) (fun _ _ => True) G (fun _ => (cW G rb n md rd sd ms fl mn sc ar b w0))) 80 2224 A := by
  refine mt_of (by decide) (Nat.le_of_ble_eq_true rfl) ?_
  intro p e s m below meth c ls C hH hA hE hr hmn hl
  have hl : lv_has ls 6 [(0, .ref (sd 0))] := hl
  refine x_sx C b_SP_best_0_1 hl (L' := [(0, .ref (sd 0))]) (st' := [.ref (sd 0)]) rfl (fun ls hl => ?_)
  refine x_get C hH.1 0 ((rW_0 (Or.inl (by omega)) hn).trans (sp_L hn).1) 0 (v := .ref (sd 3)) rfl rfl (by decide) t_298 (fun _ z => z) d_SP_best_1 ?_
  refine x_ro (x_cV C hH.1 ((rW_0 (Or.inl (by omega)) hn).trans sp_3) rfl (c_AL_isEmpty l G (cW G rb n md rd sd ms fl mn sc ar b w0) 3 (sd 3) (if n = 0 then G.2.2 1 else sd 4) (nI n) (ms 0) ((rW_0 (Or.inl (by omega)) hn).trans sp_3)) t_514 t_4 t_511 t_512 t_513 hd_AL_isEmpty blind_Pro (pre_ro C hH.1 hH.2.2) (As := []) (rest := []) rfl hl.1 rfl rfl rfl ⟨Nat.le_of_ble_eq_true rfl, Nat.le_of_ble_eq_true rfl⟩ (Nat.le_of_ble_eq_true rfl) ⟨Nat.zero_le _, Nat.zero_le _⟩ d_SP_best_4) ?_
  refine lv_if_ne (tgt := 14) C.1 C.2.1 d_SP_best_7 (by decide) (fun h => absurd (if_neg (nI_ne0 hn0 (by omega))) h) (fun _ => ?_)
  refine x_sx C b_SP_best_10_11 hl (L' := [(0, .ref (sd 0))]) (st' := [.int 1]) rfl (fun ls hl => ?_)
  refine x_goto (tgt := 15) C d_SP_best_11 (by decide) ?_
  refine x_rv (x_cS C (c_SP_may l G (cW G rb n md rd sd ms fl mn sc ar b w0)) t_434 t_1 t_432 t_433 hd_SP_may blind_Pro (pre_ro C hH.1 hH.2.2) (As := [.int 1]) (rest := []) rfl hl.1 rfl rfl rfl ⟨Nat.le_of_ble_eq_true rfl, Nat.le_of_ble_eq_true rfl⟩ (Nat.le_of_ble_eq_true rfl) ⟨Nat.zero_le _, Nat.zero_le _⟩ d_SP_best_15) ?_
  refine x_sx C b_SP_best_18_24 hl (L' := [(3, .int 0), (2, .int 0), (1, .int (-1)), (0, .ref (sd 0))]) (st' := []) rfl (fun ls hl => ?_)
  refine x_loopC (X := Nat) (fun x => 4 - x) (fun x H locs cells slots => x ≤ 4 ∧ cells ≤ 20 * x ∧ slots ≤ 556 * x ∧ Hw G A s (cW G rb n md rd sd ms fl mn sc ar b w0) H locs) (fun x => [(0, .ref (sd 0)), (1, .int (bsI st x).2.1), (2, .int (bsI st x).2.2), (3, .int (nI x))]) 24 ?_ 0 _ _ _ _ _ ⟨by decide, Nat.le_refl _, Nat.le_refl _, hH⟩ (by rw [bsI]; exact (lv_sub hl [3, 2, 1, 0] rfl))
  clear hH
  intro k H locs cells slots ls hI hl IH
  obtain ⟨hk4, hc1, hc2, hH⟩ := hI
  have hl : lv_has ls 6 [(0, .ref (sd 0)), (1, .int (bsI st k).2.1), (2, .int (bsI st k).2.2), (3, .int (nI k))] := hl
  refine x_sx C b_SP_best_24_26 hl (L' := [(0, .ref (sd 0)), (1, .int (bsI st k).2.1), (2, .int (bsI st k).2.2), (3, .int (nI k))]) (st' := [.int 4, .int (nI k)]) rfl (fun ls hl => ?_)
  refine lv_icmp_ge (tgt := 95) C.1 C.2.1 d_SP_best_26 (by decide) (fun hb => ?_) (fun hb => ?_)
  · have ek : k = 4 := by rw [show (4 : Int32) = nI 4 from rfl, nI_leI (by decide) (by omega)] at hb; omega
    subst ek
    have hl : lv_has ls 6 [(0, .ref (sd 0)), (1, .int (bsI st 4).2.1), (2, .int (bsI st 4).2.2), (3, .int (nI 4))] := hl
    refine x_sx C b_SP_best_95_96 hl (L' := [(0, .ref (sd 0)), (1, .int (bsI st 4).2.1), (2, .int (bsI st 4).2.2), (3, .int (nI 4))]) (st' := [.int (bsI st 4).2.1]) rfl (fun ls hl => ?_)
    exact x_irt C hr hH.2.2 ⟨(), rfl, trivial, hH.1, hH.2.1⟩ (by omega) (by omega) d_SP_best_96
  · have hk : k < 4 := by rw [show (4 : Int32) = nI 4 from rfl, nI_leI (by decide) (by omega)] at hb; omega
    clear hb
    have hc3 : cells + 0 ≤ 80 := by omega
    have hc4 : slots + 0 ≤ 2224 := by omega
    have heq := bsI_eqB st k
    have hbs := bsI_s st k
    generalize hB2 : bsI st k = bk at heq hbs hl
    obtain ⟨⟨sck, ark⟩, bst, few⟩ := bk
    dsimp only at heq hbs hl
    have hl : lv_has ls 6 [(0, .ref (sd 0)), (1, .int bst), (2, .int few), (3, .int (nI k))] := hl
    refine x_sx C b_SP_best_29_31 hl (L' := [(0, .ref (sd 0)), (1, .int bst), (2, .int few), (3, .int (nI k))]) (st' := [.ref (sd 0), .ref (sd 0)]) rfl (fun ls hl => ?_)
    refine x_get C hH.1 0 ((rW_0 (Or.inl (by omega)) hn).trans (sp_L hn).1) 1 (v := .ref (sd 5)) rfl rfl (by decide) t_299 (fun _ z => z) d_SP_best_31 ?_
    refine x_sx C b_SP_best_34_35 hl (L' := [(0, .ref (sd 0)), (1, .int bst), (2, .int few), (3, .int (nI k))]) (st' := [.int (nI k), .ref (sd 5), .ref (sd 0)]) rfl (fun ls hl => ?_)
    refine x_ro (x_cV C hH.1 ((rW_0 (Or.inl (by omega)) hn).trans sp_5) rfl (c_AL_get l G (cW G rb n md rd sd ms fl mn sc ar b w0) 5 6 (sd 5) (sd 6) 4 k (sd (10 + k)) (ms 1) (plD sd) ((rW_0 (Or.inl (by omega)) hn).trans sp_5) ((rW_0 (Or.inl (by omega)) hn).trans sp_6) hk (by decide) (if_pos hk)) t_157 t_4 t_548 t_155 t_156 hd_AL_get blind_Pro (pre_ro C hH.1 hH.2.2) (As := [.int (nI k)]) (rest := [.ref (sd 0)]) rfl hl.1 rfl rfl rfl ⟨Nat.le_of_ble_eq_true rfl, Nat.le_of_ble_eq_true rfl⟩ (Nat.le_of_ble_eq_true rfl) ⟨hc3, hc4⟩ d_SP_best_35) ?_
    refine x_cast C hH.1 (10 + k) ((rW_0 (Or.inl (by omega)) hn).trans (sp_p hk)) rfl t_32 d_SP_best_38 ?_
    refine x_q1 (x_cV C hH.1 ((rW_0 (Or.inl (by omega)) hn).trans (sp_L hn).1) rfl (c_SP_gone l G A rb n md rd sd ms fl mn sc ar b w0 k np sck ark K hn hrb hrbE hn0 hk hmq hf0 (h8 k hk) (fun j h1 h2 => (heq.1 j (by omega) h2).trans (e1 j (by omega) h2)) (fun i h1 h2 => (heq.2 i h1 h2).trans (e2 i h1 h2)) ((heq.1 1 (by decide) (by decide)).trans ((e1 1 (by decide) (by decide)).trans h1)) ((heq.1 6 (by decide) (by decide)).trans ((e1 6 (by decide) (by decide)).trans h6)) hnp (hg (sck, ark) heq) (hcn k hk) (htn k hk) hK (hB (sck, ark) heq)) t_628 t_1 t_625 t_627 ts_13 hd_SP_gone blind_Pre (pre_mt C hH hA trivial) (As := [.ref (sd (10 + k))]) (rest := []) rfl hl.1 rfl rfl rfl ⟨Nat.le_of_ble_eq_true rfl, Nat.le_of_ble_eq_true rfl⟩ (Nat.le_of_ble_eq_true rfl) ⟨(by show cells + 20 ≤ 80; omega), (by show slots + 556 ≤ 2224; omega)⟩ d_SP_best_41) hH.2.2 (fun x H locs hx hH hz => ?_)
    refine x_sx C b_SP_best_44_48 hl (L' := [(4, .ref (x.1 0)), (0, .ref (sd 0)), (1, .int bst), (2, .int few), (3, .int (nI k))]) (st' := [.ref (x.1 0)]) rfl (fun ls hl => ?_)
    refine x_get C hH.1 (300 - rb) rW_o 1 (v := .ref (x.1 3)) rfl rfl (by decide) t_268 (fun _ z => z) d_SP_best_48 ?_
    refine x_ro (x_cV C hH.1 rW_s rfl (c_BS_cardinality l G (rW G (300 - rb) n (nI n) x.1 sd (va_up (cW G rb n md rd sd ms fl mn sc ar b w0) (300 - rb) (some ((x.1 0), .inr (4, [.null, .null, .int 0, .int 0, .int 0, .int 0, .int 0, .null])))) (fPlan (sck, ark) k).1 (fPlan (sck, ark) k).2 x.2) ((300 - rb) + 3) ((300 - rb) + 4) (x.1 3) x.2.1 x.2.2.1 x.2.2.2.1 x.2.2.2.2 rW_s rW_w hx.2.2.1 (Nat.le_trans hx.2.1 (by decide))) t_343 t_10 t_340 t_341 t_342 hd_BS_cardinality blind_Pro (pre_ro C hH.1 hH.2.2) (As := []) (rest := []) rfl hl.1 rfl rfl rfl ⟨Nat.le_of_ble_eq_true rfl, Nat.le_of_ble_eq_true rfl⟩ (Nat.le_of_ble_eq_true rfl) ⟨(by show cells + 20 + 0 ≤ 80; omega), (by show slots + 556 + 0 ≤ 2224; omega)⟩ d_SP_best_51) ?_
    rw [hcd x.2 _ hx, ← h12 (sck, ark) heq k hk]
    refine x_sx C b_SP_best_54_58 hl (L' := [(5, .int ((fPlan (sck, ark) k).1 12)), (4, .ref (x.1 0)), (0, .ref (sd 0)), (1, .int bst), (2, .int few), (3, .int (nI k))]) (st' := [.ref (x.1 0)]) rfl (fun ls hl => ?_)
    refine x_get C hH.1 (300 - rb) rW_o 3 (v := .int ((fPlan (sck, ark) k).1 8)) rfl rfl (by decide) t_272 (fun _ z => z) d_SP_best_58 ?_
    refine lv_if_ne (tgt := 89) C.1 C.2.1 d_SP_best_61 (by decide) (fun hq1 => ?_) (fun hq1 => ?_)
    · have hok : ¬ bsOk (fPlan (sck, ark) k) bst few := fun y => hq1 y.1
      refine x_sx C b_SP_best_89_92 hl (L' := [(3, .int ((nI k) + 1)), (5, .int ((fPlan (sck, ark) k).1 12)), (4, .ref (x.1 0)), (0, .ref (sd 0)), (1, .int bst), (2, .int few)]) (st' := []) rfl (fun ls hl => ?_)
      refine x_goto (tgt := 24) C d_SP_best_92 (by decide) ?_
      have hH : Hw G A s (cW G rb n md rd sd ms fl mn sc ar b w0) H locs := hH.less (gone_less hn hrbE rfl hw)
      refine IH (k + 1) _ _ _ _ _ (by omega) ⟨by omega, by omega, by omega, hH⟩ ?_
      rw [hbs, ← nI_1]
      dsimp only
      rw [if_neg hok, if_neg hok]
      exact (lv_sub hl [3, 4, 5, 0] rfl)
    · refine x_sx C b_SP_best_64_66 hl (L' := [(5, .int ((fPlan (sck, ark) k).1 12)), (4, .ref (x.1 0)), (0, .ref (sd 0)), (1, .int bst), (2, .int few), (3, .int (nI k))]) (st' := [.ref (x.1 0)]) rfl (fun ls hl => ?_)
      refine x_get C hH.1 (300 - rb) rW_o 4 (v := .int ((fPlan (sck, ark) k).1 9)) rfl rfl (by decide) t_274 (fun _ z => z) d_SP_best_66 ?_
      refine x_sx C b_SP_best_69_70 hl (L' := [(5, .int ((fPlan (sck, ark) k).1 12)), (4, .ref (x.1 0)), (0, .ref (sd 0)), (1, .int bst), (2, .int few), (3, .int (nI k))]) (st' := [.int (-1), .int ((fPlan (sck, ark) k).1 9)]) rfl (fun ls hl => ?_)
      refine lv_icmp_ne (tgt := 89) C.1 C.2.1 d_SP_best_70 (by decide) (fun hq2 => ?_) (fun hq2 => ?_)
      · have hok : ¬ bsOk (fPlan (sck, ark) k) bst few := fun y => hq2 y.2.1
        refine x_sx C b_SP_best_89_92 hl (L' := [(3, .int ((nI k) + 1)), (5, .int ((fPlan (sck, ark) k).1 12)), (4, .ref (x.1 0)), (0, .ref (sd 0)), (1, .int bst), (2, .int few)]) (st' := []) rfl (fun ls hl => ?_)
        refine x_goto (tgt := 24) C d_SP_best_92 (by decide) ?_
        have hH : Hw G A s (cW G rb n md rd sd ms fl mn sc ar b w0) H locs := hH.less (gone_less hn hrbE rfl hw)
        refine IH (k + 1) _ _ _ _ _ (by omega) ⟨by omega, by omega, by omega, hH⟩ ?_
        rw [hbs, ← nI_1]
        dsimp only
        rw [if_neg hok, if_neg hok]
        exact (lv_sub hl [3, 4, 5, 0] rfl)
      · refine x_sx C b_SP_best_73_75 hl (L' := [(5, .int ((fPlan (sck, ark) k).1 12)), (4, .ref (x.1 0)), (0, .ref (sd 0)), (1, .int bst), (2, .int few), (3, .int (nI k))]) (st' := [.int (-1), .int bst]) rfl (fun ls hl => ?_)
        refine lv_icmp_eq (tgt := 84) C.1 C.2.1 d_SP_best_75 (by decide) (fun hq3 => ?_) (fun hq3 => ?_)
        · have hok : bsOk (fPlan (sck, ark) k) bst few := ⟨hq1, hq2, Or.inl hq3⟩
          refine x_sx C b_SP_best_84_92 hl (L' := [(3, .int ((nI k) + 1)), (2, .int ((fPlan (sck, ark) k).1 12)), (1, .int (nI k)), (5, .int ((fPlan (sck, ark) k).1 12)), (4, .ref (x.1 0)), (0, .ref (sd 0))]) (st' := []) rfl (fun ls hl => ?_)
          refine x_goto (tgt := 24) C d_SP_best_92 (by decide) ?_
          have hH : Hw G A s (cW G rb n md rd sd ms fl mn sc ar b w0) H locs := hH.less (gone_less hn hrbE rfl hw)
          refine IH (k + 1) _ _ _ _ _ (by omega) ⟨by omega, by omega, by omega, hH⟩ ?_
          rw [hbs, ← nI_1]
          dsimp only
          rw [if_pos hok, if_pos hok]
          exact (lv_sub hl [5, 2, 1, 0] rfl)
        · refine x_sx C b_SP_best_78_81 hl (L' := [(5, .int ((fPlan (sck, ark) k).1 12)), (4, .ref (x.1 0)), (0, .ref (sd 0)), (1, .int bst), (2, .int few), (3, .int (nI k))]) (st' := [.int few, .int ((fPlan (sck, ark) k).1 12)]) rfl (fun ls hl => ?_)
          refine lv_icmp_ge (tgt := 89) C.1 C.2.1 d_SP_best_81 (by decide) (fun hq4 => ?_) (fun hq4 => ?_)
          · have hok : ¬ bsOk (fPlan (sck, ark) k) bst few := fun y => y.2.2.elim hq3 (fun z => absurd z (Int32.not_lt.mpr hq4))
            refine x_sx C b_SP_best_89_92 hl (L' := [(3, .int ((nI k) + 1)), (5, .int ((fPlan (sck, ark) k).1 12)), (4, .ref (x.1 0)), (0, .ref (sd 0)), (1, .int bst), (2, .int few)]) (st' := []) rfl (fun ls hl => ?_)
            refine x_goto (tgt := 24) C d_SP_best_92 (by decide) ?_
            have hH : Hw G A s (cW G rb n md rd sd ms fl mn sc ar b w0) H locs := hH.less (gone_less hn hrbE rfl hw)
            refine IH (k + 1) _ _ _ _ _ (by omega) ⟨by omega, by omega, by omega, hH⟩ ?_
            rw [hbs, ← nI_1]
            dsimp only
            rw [if_neg hok, if_neg hok]
            exact (lv_sub hl [3, 4, 5, 0] rfl)
          · have hok : bsOk (fPlan (sck, ark) k) bst few := ⟨hq1, hq2, Or.inr (Int32.not_le.mp hq4)⟩
            refine x_sx C b_SP_best_84_92 hl (L' := [(3, .int ((nI k) + 1)), (2, .int ((fPlan (sck, ark) k).1 12)), (1, .int (nI k)), (5, .int ((fPlan (sck, ark) k).1 12)), (4, .ref (x.1 0)), (0, .ref (sd 0))]) (st' := []) rfl (fun ls hl => ?_)
            refine x_goto (tgt := 24) C d_SP_best_92 (by decide) ?_
            have hH : Hw G A s (cW G rb n md rd sd ms fl mn sc ar b w0) H locs := hH.less (gone_less hn hrbE rfl hw)
            refine IH (k + 1) _ _ _ _ _ (by omega) ⟨by omega, by omega, by omega, hH⟩ ?_
            rw [hbs, ← nI_1]
            dsimp only
            rw [if_pos hok, if_pos hok]
            exact (lv_sub hl [5, 2, 1, 0] rfl)
theorem hd_SP_best : hdP y_SP_best 0 := ⟨by decide +kernel, by decide +kernel, by decide +kernel⟩
