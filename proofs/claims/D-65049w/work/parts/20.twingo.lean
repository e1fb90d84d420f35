theorem b_Mo_goOn_0_3 : decs prog_7_method_16_code [(.iconst 0, 1), (.istore 4, 2)] 0 3 = true := by decide +kernel
theorem b_Mo_goOn_3_6 : decs prog_7_method_16_code [(.iload 4, 2), (.iload_n 2, 1)] 3 6 = true := by decide +kernel
theorem d_Mo_goOn_6 : decode prog_7_method_16_code 6 = .ok (.if_icmp .ge 32, 3) := by decide +kernel
theorem d_Mo_goOn_38 : decode prog_7_method_16_code 38 = .ok (.return_, 1) := by decide +kernel
theorem b_Mo_goOn_9_10 : decs prog_7_method_16_code [(.aload_n 0, 1)] 9 10 = true := by decide +kernel
theorem d_Mo_goOn_10 : decode prog_7_method_16_code 10 = .ok (.getfield 125, 3) := by decide +kernel
theorem d_Mo_goOn_13 : decode prog_7_method_16_code 13 = .ok (.ifCond .ne 25, 3) := by decide +kernel
theorem b_Mo_goOn_16_17 : decs prog_7_method_16_code [(.aload_n 0, 1)] 16 17 = true := by decide +kernel
theorem d_Mo_goOn_17 : decode prog_7_method_16_code 17 = .ok (.getfield 122, 3) := by decide +kernel
theorem b_Mo_goOn_20_23 : decs prog_7_method_16_code [(.sipush 4000, 3)] 20 23 = true := by decide +kernel
theorem d_Mo_goOn_23 : decode prog_7_method_16_code 23 = .ok (.if_icmp .ge 15, 3) := by decide +kernel
theorem b_Mo_goOn_26_29 : decs prog_7_method_16_code [(.aload_n 0, 1), (.iload_n 1, 1), (.iload_n 3, 1)] 26 29 = true := by decide +kernel
theorem d_Mo_goOn_29 : decode prog_7_method_16_code 29 = .ok (.invokevirtual 148, 3) := by decide +kernel
theorem b_Mo_goOn_32_35 : decs prog_7_method_16_code [(.iinc 4 1, 3)] 32 35 = true := by decide +kernel
theorem d_Mo_goOn_35 : decode prog_7_method_16_code 35 = .ok (.goto (-32), 3) := by decide +kernel
theorem fGo_N {st : SA} {turn fw : Int32} {N : Nat} (hN : N < 2 ^ 31) : fGo st turn (nI N) fw = goI st turn fw N := by unfold fGo; rw [nI_clamp hN]
set_option maxRecDepth 100000 in
set_option maxHeartbeats 4000000 in
theorem c_Mo_goOn (l : Launch) (G : GG) (A : Nat → Prop) (ad : Nat → Nat) (w0 : WF) (sc : Nat → Int32) (ar : Nat → Nat → Int32) (n np N : Nat) (turn fw : Int32) (K : SA → Prop) (hN : N < 2 ^ 31) (ht : -3 ≤ turn ∧ turn ≤ 3) (hK : Kp n np K) (h0 : K (sc, ar)) : Met l y_Mo_goOn (Cond.code y_Mo_goOn prog_7_method_16_code 5 none :: wt) { frames := 5, cells := 0, slots := 0, locals := 132 } (Pre G A (mW G ad w0 sc ar) (fun _ => True) [.ref (ad 20), .int turn, .int (nI N), .int fw]) (Qw A none G (mW G ad w0 (fGo (sc, ar) turn (nI N) fw).1 (fGo (sc, ar) turn (nI N) fw).2)) 0 0 A := by
  refine mt_of (by decide) (Nat.le_of_ble_eq_true rfl) ?_
  intro p e s m below meth c ls C hH hA hE hr hmn hl
  have hl : lv_has ls 5 [(0, .ref (ad 20)), (1, .int turn), (2, .int (nI N)), (3, .int fw)] := hl
  refine x_sx C b_Mo_goOn_0_3 hl (L' := [(4, .int 0), (0, .ref (ad 20)), (1, .int turn), (2, .int (nI N)), (3, .int fw)]) (st' := []) rfl (fun ls hl => ?_)
  refine x_loop (X := Nat × SA) (fun x => N - x.1) (fun x H locs => x.1 ≤ N ∧ K x.2 ∧ goI (sc, ar) turn fw N = goI x.2 turn fw (N - x.1) ∧ Hw G A s (mW G ad w0 x.2.1 x.2.2) H locs) (fun x => [(0, .ref (ad 20)), (1, .int turn), (2, .int (nI N)), (3, .int fw), (4, .int (nI x.1))]) 3 ?_ (0, (sc, ar)) _ _ _ ⟨Nat.zero_le _, h0, rfl, hH⟩ (lv_sub hl [1, 2, 3, 4, 0] rfl)
  intro x H locs ls hI hl IH
  obtain ⟨k, sck, ark⟩ := x
  obtain ⟨hk, hKk, hgo, hH⟩ := hI
  dsimp only at hk hKk hgo hH IH
  have hl : lv_has ls 5 [(0, .ref (ad 20)), (1, .int turn), (2, .int (nI N)), (3, .int fw), (4, .int (nI k))] := hl
  refine x_sx C b_Mo_goOn_3_6 hl (L' := [(0, .ref (ad 20)), (1, .int turn), (2, .int (nI N)), (3, .int fw), (4, .int (nI k))]) (st' := [.int (nI N), .int (nI k)]) rfl (fun ls hl => ?_)
  refine lv_icmp_ge (tgt := 38) C.1 C.2.1 d_Mo_goOn_6 (by decide) (fun hb => ?_) (fun hb => ?_)
  · have hst : goI (sck, ark) turn fw (N - k) = (sck, ark) := by rw [nI_leI (by omega) (by omega)] at hb; rw [show N - k = 0 by omega, goI]
    exact x_vrt C hr hH.2.2 ⟨rfl, by rw [fGo_N hN, hgo, hst]; exact hH.1, by rw [fGo_N hN, hgo, hst]; exact hH.2.1⟩ (Nat.le_refl _) (Nat.le_refl _) d_Mo_goOn_38
  · have hkN : k < N := by rw [nI_leI (by omega) (by omega)] at hb; omega
    have hgs : goI (sck, ark) turn fw (N - k) = if sck 8 = 0 ∧ sck 7 < 4000 then goI (fMove (sck, ark) turn fw) turn fw (N - (k + 1)) else (sck, ark) := by rw [show N - k = (N - (k + 1)) + 1 by omega, goI_s]
    refine x_sx C b_Mo_goOn_9_10 hl (L' := [(0, .ref (ad 20)), (1, .int turn), (2, .int (nI N)), (3, .int fw), (4, .int (nI k))]) (st' := [.ref (ad 20)]) rfl (fun ls hl => ?_)
    refine x_get C hH.1 1000 mW_o 25 (v := .int (sck 8)) rfl rfl (by decide) t_667 (fun _ z => z) d_Mo_goOn_10 ?_
    refine lv_if_ne (tgt := 38) C.1 C.2.1 d_Mo_goOn_13 (by decide) (fun h8 => ?_) (fun h8 => ?_)
    · have hst : goI (sck, ark) turn fw (N - k) = (sck, ark) := by rw [hgs, if_neg (fun z => h8 z.1)]
      exact x_vrt C hr hH.2.2 ⟨rfl, by rw [fGo_N hN, hgo, hst]; exact hH.1, by rw [fGo_N hN, hgo, hst]; exact hH.2.1⟩ (Nat.le_refl _) (Nat.le_refl _) d_Mo_goOn_38
    · refine x_sx C b_Mo_goOn_16_17 hl (L' := [(0, .ref (ad 20)), (1, .int turn), (2, .int (nI N)), (3, .int fw), (4, .int (nI k))]) (st' := [.ref (ad 20)]) rfl (fun ls hl => ?_)
      refine x_get C hH.1 1000 mW_o 24 (v := .int (sck 7)) rfl rfl (by decide) t_666 (fun _ z => z) d_Mo_goOn_17 ?_
      refine x_sx C b_Mo_goOn_20_23 hl (L' := [(0, .ref (ad 20)), (1, .int turn), (2, .int (nI N)), (3, .int fw), (4, .int (nI k))]) (st' := [.int 4000, .int (sck 7)]) rfl (fun ls hl => ?_)
      refine lv_icmp_ge (tgt := 38) C.1 C.2.1 d_Mo_goOn_23 (by decide) (fun h7 => ?_) (fun h7 => ?_)
      · have hst : goI (sck, ark) turn fw (N - k) = (sck, ark) := by rw [hgs, if_neg (fun z => absurd h7 (Int32.not_le.mpr z.2))]
        exact x_vrt C hr hH.2.2 ⟨rfl, by rw [fGo_N hN, hgo, hst]; exact hH.1, by rw [fGo_N hN, hgo, hst]; exact hH.2.1⟩ (Nat.le_refl _) (Nat.le_refl _) d_Mo_goOn_38
      · obtain ⟨⟨q1, q2, q3, q4, q5, q6, q7, q8, q9⟩, hK2⟩ := hK (sck, ark) turn fw hKk ht (Int32.not_le.mp h7)
        dsimp only at q1 q2 q3 q4 q5 q6 q7 q8 q9
        rw [if_pos ⟨h8, Int32.not_le.mp h7⟩] at hgs
        refine x_sx C b_Mo_goOn_26_29 hl (L' := [(0, .ref (ad 20)), (1, .int turn), (2, .int (nI N)), (3, .int fw), (4, .int (nI k))]) (st' := [.int fw, .int turn, .ref (ad 20)]) rfl (fun ls hl => ?_)
        refine x_mw0 (x_cV C hH.1 mW_o rfl (c_Mo_move l G A ad w0 sck ark n np turn fw q1 q2 q3 q4 q5 q6 q7 q8 q9) t_811 t_14 t_808 t_810 ts_21 hd_Mo_move blind_Pre (pre_mt C hH hA trivial) (As := [.int turn, .int fw]) (rest := []) rfl hl.1 rfl rfl rfl ⟨Nat.le_of_ble_eq_true rfl, Nat.le_of_ble_eq_true rfl⟩ (Nat.le_of_ble_eq_true rfl) ⟨Nat.zero_le _, Nat.zero_le _⟩ d_Mo_goOn_29) hH.2.2 (fun H locs hH => ?_)
        refine x_sx C b_Mo_goOn_32_35 hl (L' := [(4, .int ((nI k) + 1)), (0, .ref (ad 20)), (1, .int turn), (2, .int (nI N)), (3, .int fw)]) (st' := []) rfl (fun ls hl => ?_)
        refine x_goto (tgt := 3) C d_Mo_goOn_35 (by decide) ?_
        exact IH (k + 1, fMove (sck, ark) turn fw) _ _ _ (by show N - (k + 1) < N - k; omega) ⟨by show k + 1 ≤ N; omega, hK2, hgo.trans hgs, hH⟩ (by rw [← nI_1]; exact (lv_sub hl [1, 2, 3, 4, 0] rfl))
theorem hd_Mo_goOn : hdP y_Mo_goOn 3 := ⟨by decide +kernel, by decide +kernel, by decide +kernel⟩
theorem b_Mo_goPlan_0_1 : decs prog_7_method_32_code [(.aload_n 0, 1)] 0 1 = true := by decide +kernel
theorem d_Mo_goPlan_1 : decode prog_7_method_32_code 1 = .ok (.invokevirtual 155, 3) := by decide +kernel
theorem b_Mo_goPlan_4_6 : decs prog_7_method_32_code [(.iconst 0, 1), (.istore_n 2, 1)] 4 6 = true := by decide +kernel
theorem b_Mo_goPlan_6_8 : decs prog_7_method_32_code [(.iload_n 2, 1), (.aload_n 0, 1)] 6 8 = true := by decide +kernel
theorem d_Mo_goPlan_8 : decode prog_7_method_32_code 8 = .ok (.getfield 38, 3) := by decide +kernel
theorem b_Mo_goPlan_11_12 : decs prog_7_method_32_code [(.iload_n 1, 1)] 11 12 = true := by decide +kernel
theorem d_Mo_goPlan_12 : decode prog_7_method_32_code 12 = .ok (.iaload, 1) := by decide +kernel
theorem d_Mo_goPlan_13 : decode prog_7_method_32_code 13 = .ok (.if_icmp .ge 38, 3) := by decide +kernel
theorem d_Mo_goPlan_51 : decode prog_7_method_32_code 51 = .ok (.return_, 1) := by decide +kernel
theorem b_Mo_goPlan_16_23 : decs prog_7_method_32_code [(.bipush 6, 2), (.iload_n 1, 1), (.imul, 1), (.iload_n 2, 1), (.iadd, 1), (.istore_n 3, 1)] 16 23 = true := by decide +kernel
theorem b_Mo_goPlan_23_25 : decs prog_7_method_32_code [(.aload_n 0, 1), (.aload_n 0, 1)] 23 25 = true := by decide +kernel
theorem d_Mo_goPlan_25 : decode prog_7_method_32_code 25 = .ok (.getfield 41, 3) := by decide +kernel
theorem b_Mo_goPlan_28_29 : decs prog_7_method_32_code [(.iload_n 3, 1)] 28 29 = true := by decide +kernel
theorem d_Mo_goPlan_29 : decode prog_7_method_32_code 29 = .ok (.iaload, 1) := by decide +kernel
theorem b_Mo_goPlan_30_31 : decs prog_7_method_32_code [(.aload_n 0, 1)] 30 31 = true := by decide +kernel
theorem d_Mo_goPlan_31 : decode prog_7_method_32_code 31 = .ok (.getfield 44, 3) := by decide +kernel
theorem b_Mo_goPlan_34_35 : decs prog_7_method_32_code [(.iload_n 3, 1)] 34 35 = true := by decide +kernel
theorem d_Mo_goPlan_35 : decode prog_7_method_32_code 35 = .ok (.iaload, 1) := by decide +kernel
theorem b_Mo_goPlan_36_37 : decs prog_7_method_32_code [(.aload_n 0, 1)] 36 37 = true := by decide +kernel
theorem d_Mo_goPlan_37 : decode prog_7_method_32_code 37 = .ok (.getfield 47, 3) := by decide +kernel
theorem b_Mo_goPlan_40_41 : decs prog_7_method_32_code [(.iload_n 3, 1)] 40 41 = true := by decide +kernel
theorem d_Mo_goPlan_41 : decode prog_7_method_32_code 41 = .ok (.baload, 1) := by decide +kernel
theorem d_Mo_goPlan_42 : decode prog_7_method_32_code 42 = .ok (.invokevirtual 158, 3) := by decide +kernel
theorem b_Mo_goPlan_45_48 : decs prog_7_method_32_code [(.iinc 2 1, 3)] 45 48 = true := by decide +kernel
theorem d_Mo_goPlan_48 : decode prog_7_method_32_code 48 = .ok (.goto (-42), 3) := by decide +kernel
set_option maxRecDepth 100000 in
set_option maxHeartbeats 4000000 in
theorem c_Mo_goPlan (l : Launch) (G : GG) (A : Nat → Prop) (ad : Nat → Nat) (w0 : WF) (sc : Nat → Int32) (ar : Nat → Nat → Int32) (n np q z : Nat) (K : SA → Prop) (h1 : sc 1 = nI n) (hn : n ≤ 3) (h6 : sc 6 = nI np) (hnp : np ≤ 20) (hg : ∀ k, k < n → rgT (bgI (bgS sc) ar 3) k) (hq : q < 4) (hz : ar 8 q = nI z) (hz6 : z ≤ 6) (hcn : ∀ k, k < z → ∃ N, N < 2 ^ 31 ∧ ar 10 (6 * q + k) = nI N) (htn : ∀ k, k < z → -3 ≤ ar 9 (6 * q + k) ∧ ar 9 (6 * q + k) ≤ 3) (hK : Kp n np K) (hB : K (fBegin (sc, ar))) : Met l y_Mo_goPlan (Cond.code y_Mo_goPlan prog_7_method_32_code 4 none :: wt) { frames := 6, cells := 0, slots := 0, locals := 156 } (Pre G A (mW G ad w0 sc ar) (fun _ => True) [.ref (ad 20), .int (nI q)]) (Qw A none G (mW G ad w0 (fPlan (sc, ar) q).1 (fPlan (sc, ar) q).2)) 0 0 A := by
  refine mt_of (by decide) (Nat.le_of_ble_eq_true rfl) ?_
  intro p e s m below meth c ls C hH hA hE hr hmn hl
  have hl : lv_has ls 4 [(0, .ref (ad 20)), (1, .int (nI q))] := hl
  refine x_sx C b_Mo_goPlan_0_1 hl (L' := [(0, .ref (ad 20)), (1, .int (nI q))]) (st' := [.ref (ad 20)]) rfl (fun ls hl => ?_)
  refine x_mw0 (x_cV C hH.1 mW_o rfl (c_Mo_beginAnew l G A ad w0 sc ar n np h1 hn h6 hnp hg) t_757 t_14 t_754 t_756 ts_14 hd_Mo_beginAnew blind_Pre (pre_mt C hH hA trivial) (As := []) (rest := []) rfl hl.1 rfl rfl rfl ⟨Nat.le_of_ble_eq_true rfl, Nat.le_of_ble_eq_true rfl⟩ (Nat.le_of_ble_eq_true rfl) ⟨Nat.zero_le _, Nat.zero_le _⟩ d_Mo_goPlan_1) hH.2.2 (fun H locs hH => ?_)
  refine x_sx C b_Mo_goPlan_4_6 hl (L' := [(2, .int 0), (0, .ref (ad 20)), (1, .int (nI q))]) (st' := []) rfl (fun ls hl => ?_)
  refine x_loop (X := Nat) (fun x => z - x) (fun x H locs => x ≤ z ∧ K (plI (sc, ar) q x) ∧ Hw G A s (mW G ad w0 (plI (sc, ar) q x).1 (plI (sc, ar) q x).2) H locs) (fun x => [(0, .ref (ad 20)), (1, .int (nI q)), (2, .int (nI x))]) 6 ?_ 0 _ _ _ ⟨Nat.zero_le _, by rw [plI]; exact hB, by rw [plI]; exact hH⟩ (lv_sub hl [1, 2, 0] rfl)
  intro k H locs ls hI hl IH
  obtain ⟨hkz, hKk, hH⟩ := hI
  have hl : lv_has ls 4 [(0, .ref (ad 20)), (1, .int (nI q)), (2, .int (nI k))] := hl
  have hs := plI_s (sc, ar) q k
  have g8 : (plI (sc, ar) q k).2 8 = ar 8 := plI_ar _ _ _ (by decide) (by decide) (by decide) (by decide) (by decide) (by decide)
  have g9 : (plI (sc, ar) q k).2 9 = ar 9 := plI_ar _ _ _ (by decide) (by decide) (by decide) (by decide) (by decide) (by decide)
  have g10 : (plI (sc, ar) q k).2 10 = ar 10 := plI_ar _ _ _ (by decide) (by decide) (by decide) (by decide) (by decide) (by decide)
  have g11 : (plI (sc, ar) q k).2 11 = ar 11 := plI_ar _ _ _ (by decide) (by decide) (by decide) (by decide) (by decide) (by decide)
  generalize hpk : plI (sc, ar) q k = stk at hH hKk hs g8 g9 g10 g11
  obtain ⟨sck, ark⟩ := stk
  dsimp only at hH g8 g9 g10 g11
  refine x_sx C b_Mo_goPlan_6_8 hl (L' := [(0, .ref (ad 20)), (1, .int (nI q)), (2, .int (nI k))]) (st' := [.ref (ad 20), .int (nI k)]) rfl (fun ls hl => ?_)
  refine x_get C hH.1 1000 mW_o 15 (v := .ref (ad 8)) rfl rfl (by decide) t_657 (fun _ z => z) d_Mo_goPlan_8 ?_
  refine x_sx C b_Mo_goPlan_11_12 hl (L' := [(0, .ref (ad 20)), (1, .int (nI q)), (2, .int (nI k))]) (st' := [.int (nI q), .ref (ad 8), .int (nI k)]) rfl (fun ls hl => ?_)
  refine x_ald C hH.1 (1001 + 8) (mW_i 8 (by decide) (by decide) rfl rfl rfl) (N := 4) (f := (ark 8)) (j := q) rfl hq (by decide) d_Mo_goPlan_12 ?_
  refine lv_icmp_ge (tgt := 51) C.1 C.2.1 d_Mo_goPlan_13 (by decide) (fun hb => ?_) (fun hb => ?_)
  · have e1 : k = z := by rw [g8, hz, nI_leI (by omega) (by omega)] at hb; omega
    have hfin : fPlan (sc, ar) q = (sck, ark) := by unfold fPlan; dsimp only; rw [hz, nI_clamp (by omega), ← e1]; exact hpk
    exact x_vrt C hr hH.2.2 ⟨rfl, by rw [hfin]; exact hH.1, by rw [hfin]; exact hH.2.1⟩ (Nat.le_refl _) (Nat.le_refl _) d_Mo_goPlan_51
  · have hkz2 : k < z := by rw [g8, hz, nI_leI (by omega) (by omega)] at hb; omega
    refine x_sx C b_Mo_goPlan_16_23 hl (L' := [(3, .int ((6 * (nI q)) + (nI k))), (0, .ref (ad 20)), (1, .int (nI q)), (2, .int (nI k))]) (st' := []) rfl (fun ls hl => ?_)
    have hl : lv_has ls 4 [(3, .int (nI (6 * q + k))), (0, .ref (ad 20)), (1, .int (nI q)), (2, .int (nI k))] := by rw [← nI_add, ← pk_mul]; exact hl
    obtain ⟨N, hN, eN⟩ := hcn k hkz2
    refine x_sx C b_Mo_goPlan_23_25 hl (L' := [(3, .int (nI (6 * q + k))), (0, .ref (ad 20)), (1, .int (nI q)), (2, .int (nI k))]) (st' := [.ref (ad 20), .ref (ad 20)]) rfl (fun ls hl => ?_)
    refine x_get C hH.1 1000 mW_o 16 (v := .ref (ad 9)) rfl rfl (by decide) t_658 (fun _ z => z) d_Mo_goPlan_25 ?_
    refine x_sx C b_Mo_goPlan_28_29 hl (L' := [(3, .int (nI (6 * q + k))), (0, .ref (ad 20)), (1, .int (nI q)), (2, .int (nI k))]) (st' := [.int (nI (6 * q + k)), .ref (ad 9), .ref (ad 20)]) rfl (fun ls hl => ?_)
    refine x_ald C hH.1 (1001 + 9) (mW_i 9 (by decide) (by decide) rfl rfl rfl) (N := 24) (f := (ark 9)) (j := (6 * q + k)) rfl (by omega) (by decide) d_Mo_goPlan_29 ?_
    refine x_sx C b_Mo_goPlan_30_31 hl (L' := [(3, .int (nI (6 * q + k))), (0, .ref (ad 20)), (1, .int (nI q)), (2, .int (nI k))]) (st' := [.ref (ad 20), .int (ark 9 (6 * q + k)), .ref (ad 20)]) rfl (fun ls hl => ?_)
    refine x_get C hH.1 1000 mW_o 17 (v := .ref (ad 10)) rfl rfl (by decide) t_659 (fun _ z => z) d_Mo_goPlan_31 ?_
    refine x_sx C b_Mo_goPlan_34_35 hl (L' := [(3, .int (nI (6 * q + k))), (0, .ref (ad 20)), (1, .int (nI q)), (2, .int (nI k))]) (st' := [.int (nI (6 * q + k)), .ref (ad 10), .int (ark 9 (6 * q + k)), .ref (ad 20)]) rfl (fun ls hl => ?_)
    refine x_ald C hH.1 (1001 + 10) (mW_i 10 (by decide) (by decide) rfl rfl rfl) (N := 24) (f := (ark 10)) (j := (6 * q + k)) rfl (by omega) (by decide) d_Mo_goPlan_35 ?_
    refine x_sx C b_Mo_goPlan_36_37 hl (L' := [(3, .int (nI (6 * q + k))), (0, .ref (ad 20)), (1, .int (nI q)), (2, .int (nI k))]) (st' := [.ref (ad 20), .int (ark 10 (6 * q + k)), .int (ark 9 (6 * q + k)), .ref (ad 20)]) rfl (fun ls hl => ?_)
    refine x_get C hH.1 1000 mW_o 18 (v := .ref (ad 11)) rfl rfl (by decide) t_660 (fun _ z => z) d_Mo_goPlan_37 ?_
    refine x_sx C b_Mo_goPlan_40_41 hl (L' := [(3, .int (nI (6 * q + k))), (0, .ref (ad 20)), (1, .int (nI q)), (2, .int (nI k))]) (st' := [.int (nI (6 * q + k)), .ref (ad 11), .int (ark 10 (6 * q + k)), .int (ark 9 (6 * q + k)), .ref (ad 20)]) rfl (fun ls hl => ?_)
    refine x_zld C hH.1 (1001 + 11) (mW_z 11 (by decide) (by decide) rfl rfl rfl) (N := 24) (f := (ark 11)) (j := (6 * q + k)) rfl (by omega) (by decide) d_Mo_goPlan_41 ?_
    rw [g9, g10, g11, eN]
    refine x_mw0 (x_cV C hH.1 mW_o rfl (c_Mo_goOn l G A ad w0 sck ark n np N (ar 9 (6 * q + k)) (ar 11 (6 * q + k)) K hN (htn k hkz2) hK hKk) t_807 t_14 t_804 t_806 ts_20 hd_Mo_goOn blind_Pre (pre_mt C hH hA trivial) (As := [.int (ar 9 (6 * q + k)), .int (nI N), .int (ar 11 (6 * q + k))]) (rest := []) rfl hl.1 rfl rfl rfl ⟨Nat.le_of_ble_eq_true rfl, Nat.le_of_ble_eq_true rfl⟩ (Nat.le_of_ble_eq_true rfl) ⟨Nat.zero_le _, Nat.zero_le _⟩ d_Mo_goPlan_42) hH.2.2 (fun H locs hH => ?_)
    refine x_sx C b_Mo_goPlan_45_48 hl (L' := [(2, .int ((nI k) + 1)), (3, .int (nI (6 * q + k))), (0, .ref (ad 20)), (1, .int (nI q))]) (st' := []) rfl (fun ls hl => ?_)
    refine x_goto (tgt := 6) C d_Mo_goPlan_48 (by decide) ?_
    refine IH (k + 1) _ _ _ (by omega) ⟨by omega, ?_, ?_⟩ (by rw [← nI_1]; exact (lv_sub hl [2, 3, 0] rfl))
    · rw [hs]; unfold fGo; exact hK.go (htn k hkz2) _ _ hKk
    · rw [hs]; dsimp only; rw [eN]; exact hH
theorem hd_Mo_goPlan : hdP y_Mo_goPlan 1 := ⟨by decide +kernel, by decide +kernel, by decide +kernel⟩
theorem b_Mo_keepAside_0_4 : decs prog_7_method_30_code [(.iconst 0, 1), (.istore_n 1, 1), (.iload_n 1, 1), (.iconst 3, 1)] 0 4 = true := by decide +kernel
theorem d_Mo_keepAside_4 : decode prog_7_method_30_code 4 = .ok (.if_icmp .ge 80, 3) := by decide +kernel
theorem b_Mo_keepAside_7_8 : decs prog_7_method_30_code [(.aload_n 0, 1)] 7 8 = true := by decide +kernel
theorem d_Mo_keepAside_8 : decode prog_7_method_30_code 8 = .ok (.getfield 78, 3) := by decide +kernel
theorem b_Mo_keepAside_11_13 : decs prog_7_method_30_code [(.iload_n 1, 1), (.aload_n 0, 1)] 11 13 = true := by decide +kernel
theorem d_Mo_keepAside_13 : decode prog_7_method_30_code 13 = .ok (.getfield 51, 3) := by decide +kernel
theorem b_Mo_keepAside_16_17 : decs prog_7_method_30_code [(.iload_n 1, 1)] 16 17 = true := by decide +kernel
theorem d_Mo_keepAside_17 : decode prog_7_method_30_code 17 = .ok (.iaload, 1) := by decide +kernel
theorem d_Mo_keepAside_18 : decode prog_7_method_30_code 18 = .ok (.iastore, 1) := by decide +kernel
theorem b_Mo_keepAside_19_20 : decs prog_7_method_30_code [(.aload_n 0, 1)] 19 20 = true := by decide +kernel
theorem d_Mo_keepAside_20 : decode prog_7_method_30_code 20 = .ok (.getfield 78, 3) := by decide +kernel
theorem b_Mo_keepAside_23_27 : decs prog_7_method_30_code [(.iconst 3, 1), (.iload_n 1, 1), (.iadd, 1), (.aload_n 0, 1)] 23 27 = true := by decide +kernel
theorem d_Mo_keepAside_27 : decode prog_7_method_30_code 27 = .ok (.getfield 54, 3) := by decide +kernel
theorem b_Mo_keepAside_30_31 : decs prog_7_method_30_code [(.iload_n 1, 1)] 30 31 = true := by decide +kernel
theorem d_Mo_keepAside_31 : decode prog_7_method_30_code 31 = .ok (.iaload, 1) := by decide +kernel
theorem d_Mo_keepAside_32 : decode prog_7_method_30_code 32 = .ok (.iastore, 1) := by decide +kernel
theorem b_Mo_keepAside_33_34 : decs prog_7_method_30_code [(.aload_n 0, 1)] 33 34 = true := by decide +kernel
theorem d_Mo_keepAside_34 : decode prog_7_method_30_code 34 = .ok (.getfield 78, 3) := by decide +kernel
theorem b_Mo_keepAside_37_42 : decs prog_7_method_30_code [(.bipush 6, 2), (.iload_n 1, 1), (.iadd, 1), (.aload_n 0, 1)] 37 42 = true := by decide +kernel
theorem d_Mo_keepAside_42 : decode prog_7_method_30_code 42 = .ok (.getfield 57, 3) := by decide +kernel
theorem b_Mo_keepAside_45_46 : decs prog_7_method_30_code [(.iload_n 1, 1)] 45 46 = true := by decide +kernel
theorem d_Mo_keepAside_46 : decode prog_7_method_30_code 46 = .ok (.iaload, 1) := by decide +kernel
theorem d_Mo_keepAside_47 : decode prog_7_method_30_code 47 = .ok (.iastore, 1) := by decide +kernel
theorem b_Mo_keepAside_48_49 : decs prog_7_method_30_code [(.aload_n 0, 1)] 48 49 = true := by decide +kernel
theorem d_Mo_keepAside_49 : decode prog_7_method_30_code 49 = .ok (.getfield 78, 3) := by decide +kernel
theorem b_Mo_keepAside_52_57 : decs prog_7_method_30_code [(.bipush 9, 2), (.iload_n 1, 1), (.iadd, 1), (.aload_n 0, 1)] 52 57 = true := by decide +kernel
theorem d_Mo_keepAside_57 : decode prog_7_method_30_code 57 = .ok (.getfield 60, 3) := by decide +kernel
theorem b_Mo_keepAside_60_61 : decs prog_7_method_30_code [(.iload_n 1, 1)] 60 61 = true := by decide +kernel
theorem d_Mo_keepAside_61 : decode prog_7_method_30_code 61 = .ok (.iaload, 1) := by decide +kernel
theorem d_Mo_keepAside_62 : decode prog_7_method_30_code 62 = .ok (.iastore, 1) := by decide +kernel
theorem b_Mo_keepAside_63_64 : decs prog_7_method_30_code [(.aload_n 0, 1)] 63 64 = true := by decide +kernel
theorem d_Mo_keepAside_64 : decode prog_7_method_30_code 64 = .ok (.getfield 78, 3) := by decide +kernel
theorem b_Mo_keepAside_67_72 : decs prog_7_method_30_code [(.bipush 12, 2), (.iload_n 1, 1), (.iadd, 1), (.aload_n 0, 1)] 67 72 = true := by decide +kernel
theorem d_Mo_keepAside_72 : decode prog_7_method_30_code 72 = .ok (.getfield 63, 3) := by decide +kernel
theorem b_Mo_keepAside_75_76 : decs prog_7_method_30_code [(.iload_n 1, 1)] 75 76 = true := by decide +kernel
theorem d_Mo_keepAside_76 : decode prog_7_method_30_code 76 = .ok (.iaload, 1) := by decide +kernel
theorem d_Mo_keepAside_77 : decode prog_7_method_30_code 77 = .ok (.iastore, 1) := by decide +kernel
theorem b_Mo_keepAside_78_81 : decs prog_7_method_30_code [(.iinc 1 1, 3)] 78 81 = true := by decide +kernel
theorem d_Mo_keepAside_81 : decode prog_7_method_30_code 81 = .ok (.goto (-79), 3) := by decide +kernel
theorem b_Mo_keepAside_2_4 : decs prog_7_method_30_code [(.iload_n 1, 1), (.iconst 3, 1)] 2 4 = true := by decide +kernel
theorem b_Mo_keepAside_84_85 : decs prog_7_method_30_code [(.aload_n 0, 1)] 84 85 = true := by decide +kernel
theorem d_Mo_keepAside_85 : decode prog_7_method_30_code 85 = .ok (.getfield 78, 3) := by decide +kernel
theorem b_Mo_keepAside_88_91 : decs prog_7_method_30_code [(.bipush 15, 2), (.aload_n 0, 1)] 88 91 = true := by decide +kernel
theorem d_Mo_keepAside_91 : decode prog_7_method_30_code 91 = .ok (.getfield 122, 3) := by decide +kernel
theorem d_Mo_keepAside_94 : decode prog_7_method_30_code 94 = .ok (.iastore, 1) := by decide +kernel
theorem b_Mo_keepAside_95_96 : decs prog_7_method_30_code [(.aload_n 0, 1)] 95 96 = true := by decide +kernel
theorem d_Mo_keepAside_96 : decode prog_7_method_30_code 96 = .ok (.getfield 78, 3) := by decide +kernel
theorem b_Mo_keepAside_99_102 : decs prog_7_method_30_code [(.bipush 16, 2), (.aload_n 0, 1)] 99 102 = true := by decide +kernel
theorem d_Mo_keepAside_102 : decode prog_7_method_30_code 102 = .ok (.getfield 66, 3) := by decide +kernel
theorem d_Mo_keepAside_105 : decode prog_7_method_30_code 105 = .ok (.iastore, 1) := by decide +kernel
theorem b_Mo_keepAside_106_107 : decs prog_7_method_30_code [(.aload_n 0, 1)] 106 107 = true := by decide +kernel
theorem d_Mo_keepAside_107 : decode prog_7_method_30_code 107 = .ok (.getfield 78, 3) := by decide +kernel
theorem b_Mo_keepAside_110_113 : decs prog_7_method_30_code [(.bipush 17, 2), (.aload_n 0, 1)] 110 113 = true := by decide +kernel
theorem d_Mo_keepAside_113 : decode prog_7_method_30_code 113 = .ok (.getfield 69, 3) := by decide +kernel
theorem d_Mo_keepAside_116 : decode prog_7_method_30_code 116 = .ok (.iastore, 1) := by decide +kernel
theorem b_Mo_keepAside_117_118 : decs prog_7_method_30_code [(.aload_n 0, 1)] 117 118 = true := by decide +kernel
theorem d_Mo_keepAside_118 : decode prog_7_method_30_code 118 = .ok (.getfield 78, 3) := by decide +kernel
theorem b_Mo_keepAside_121_124 : decs prog_7_method_30_code [(.bipush 18, 2), (.aload_n 0, 1)] 121 124 = true := by decide +kernel
theorem d_Mo_keepAside_124 : decode prog_7_method_30_code 124 = .ok (.getfield 72, 3) := by decide +kernel
theorem d_Mo_keepAside_127 : decode prog_7_method_30_code 127 = .ok (.iastore, 1) := by decide +kernel
theorem b_Mo_keepAside_128_129 : decs prog_7_method_30_code [(.aload_n 0, 1)] 128 129 = true := by decide +kernel
theorem d_Mo_keepAside_129 : decode prog_7_method_30_code 129 = .ok (.getfield 78, 3) := by decide +kernel
theorem b_Mo_keepAside_132_135 : decs prog_7_method_30_code [(.bipush 19, 2), (.aload_n 0, 1)] 132 135 = true := by decide +kernel
theorem d_Mo_keepAside_135 : decode prog_7_method_30_code 135 = .ok (.getfield 125, 3) := by decide +kernel
theorem d_Mo_keepAside_146 : decode prog_7_method_30_code 146 = .ok (.iastore, 1) := by decide +kernel
theorem b_Mo_keepAside_147_149 : decs prog_7_method_30_code [(.iconst 0, 1), (.istore_n 1, 1)] 147 149 = true := by decide +kernel
theorem b_Mo_keepAside_149_153 : decs prog_7_method_30_code [(.iload_n 1, 1), (.sipush 4096, 3)] 149 153 = true := by decide +kernel
theorem d_Mo_keepAside_153 : decode prog_7_method_30_code 153 = .ok (.if_icmp .ge 21, 3) := by decide +kernel
theorem d_Mo_keepAside_174 : decode prog_7_method_30_code 174 = .ok (.return_, 1) := by decide +kernel
theorem b_Mo_keepAside_156_157 : decs prog_7_method_30_code [(.aload_n 0, 1)] 156 157 = true := by decide +kernel
theorem d_Mo_keepAside_157 : decode prog_7_method_30_code 157 = .ok (.getfield 81, 3) := by decide +kernel
theorem b_Mo_keepAside_160_162 : decs prog_7_method_30_code [(.iload_n 1, 1), (.aload_n 0, 1)] 160 162 = true := by decide +kernel
theorem d_Mo_keepAside_162 : decode prog_7_method_30_code 162 = .ok (.getfield 75, 3) := by decide +kernel
theorem b_Mo_keepAside_165_166 : decs prog_7_method_30_code [(.iload_n 1, 1)] 165 166 = true := by decide +kernel
theorem d_Mo_keepAside_166 : decode prog_7_method_30_code 166 = .ok (.baload, 1) := by decide +kernel
theorem d_Mo_keepAside_167 : decode prog_7_method_30_code 167 = .ok (.bastore, 1) := by decide +kernel
theorem b_Mo_keepAside_168_171 : decs prog_7_method_30_code [(.iinc 1 1, 3)] 168 171 = true := by decide +kernel
theorem d_Mo_keepAside_171 : decode prog_7_method_30_code 171 = .ok (.goto (-22), 3) := by decide +kernel
theorem d_Mo_keepAside_138 : decode prog_7_method_30_code 138 = .ok (.ifCond .eq 7, 3) := by decide +kernel
theorem b_Mo_keepAside_145_146 : decs prog_7_method_30_code [(.iconst 0, 1)] 145 146 = true := by decide +kernel
theorem b_Mo_keepAside_141_142 : decs prog_7_method_30_code [(.iconst 1, 1)] 141 142 = true := by decide +kernel
theorem d_Mo_keepAside_142 : decode prog_7_method_30_code 142 = .ok (.goto 4, 3) := by decide +kernel
set_option maxRecDepth 100000 in
set_option maxHeartbeats 4000000 in
theorem c_Mo_keepAside (l : Launch) (G : GG) (A : Nat → Prop) (ad : Nat → Nat) (w0 : WF) (sc : Nat → Int32) (ar : Nat → Nat → Int32) (hz : Z01 (ar 17)) : Met l y_Mo_keepAside (Cond.code y_Mo_keepAside prog_7_method_30_code 2 none :: wt) { frames := 0, cells := 0, slots := 0, locals := 0 } (Pre G A (mW G ad w0 sc ar) (fun _ => True) [.ref (ad 20)]) (Qw A none G (mW G ad w0 sc (fKeep sc ar))) 0 0 A := by
  refine mt_of (by decide) (Nat.le_of_ble_eq_true rfl) ?_
  intro p e s m below meth c ls C hH hA hE hr hmn hl
  have hl : lv_has ls 2 [(0, .ref (ad 20))] := hl
  refine x_sx C b_Mo_keepAside_0_4 hl (L' := [(1, .int 0), (0, .ref (ad 20))]) (st' := [.int 3, .int 0]) rfl (fun ls hl => ?_)
  refine lv_icmp_ge (tgt := 84) C.1 C.2.1 d_Mo_keepAside_4 (by decide) (fun h1 => ?_) (fun h1 => ?_)
  · exact absurd h1 (by decide)
  refine x_sx C b_Mo_keepAside_7_8 hl (L' := [(1, .int 0), (0, .ref (ad 20))]) (st' := [.ref (ad 20)]) rfl (fun ls hl => ?_)
  refine x_get C hH.1 1000 mW_o 31 (v := .ref (ad 18)) rfl rfl (by decide) t_673 (fun _ z => z) d_Mo_keepAside_8 ?_
  refine x_sx C b_Mo_keepAside_11_13 hl (L' := [(1, .int 0), (0, .ref (ad 20))]) (st' := [.ref (ad 20), .int 0, .ref (ad 18)]) rfl (fun ls hl => ?_)
  refine x_get C hH.1 1000 mW_o 19 (v := .ref (ad 12)) rfl rfl (by decide) t_661 (fun _ z => z) d_Mo_keepAside_13 ?_
  refine x_sx C b_Mo_keepAside_16_17 hl (L' := [(1, .int 0), (0, .ref (ad 20))]) (st' := [.int 0, .ref (ad 12), .int 0, .ref (ad 18)]) rfl (fun ls hl => ?_)
  refine x_ald C hH.1 (1001 + 12) (mW_i 12 (by decide) (by decide) rfl rfl rfl) (N := 3) (f := (ar 12)) (j := 0) rfl (by decide) (by decide) d_Mo_keepAside_17 ?_
  refine m_ast C hH 18 (by decide) (by decide) rfl (N := 20) rfl (f := (ar 18)) rfl (j := 0) rfl (by decide) d_Mo_keepAside_18 (fun H locs hH => ?_)
  refine x_sx C b_Mo_keepAside_19_20 hl (L' := [(1, .int 0), (0, .ref (ad 20))]) (st' := [.ref (ad 20)]) rfl (fun ls hl => ?_)
  refine x_get C hH.1 1000 mW_o 31 (v := .ref (ad 18)) rfl rfl (by decide) t_673 (fun _ z => z) d_Mo_keepAside_20 ?_
  refine x_sx C b_Mo_keepAside_23_27 hl (L' := [(1, .int 0), (0, .ref (ad 20))]) (st' := [.ref (ad 20), .int (3 + 0), .ref (ad 18)]) rfl (fun ls hl => ?_)
  refine x_get C hH.1 1000 mW_o 20 (v := .ref (ad 13)) rfl rfl (by decide) t_662 (fun _ z => z) d_Mo_keepAside_27 ?_
  refine x_sx C b_Mo_keepAside_30_31 hl (L' := [(1, .int 0), (0, .ref (ad 20))]) (st' := [.int 0, .ref (ad 13), .int (3 + 0), .ref (ad 18)]) rfl (fun ls hl => ?_)
  refine x_ald C hH.1 (1001 + 13) (mW_i 13 (by decide) (by decide) rfl rfl rfl) (N := 3) (f := (ar 13)) (j := 0) rfl (by decide) (by decide) d_Mo_keepAside_31 ?_
  refine m_ast C hH 18 (by decide) (by decide) rfl (N := 20) rfl (f := (upd (ar 18) 0 (ar 12 0))) rfl (j := 3) (by decide) (by decide) d_Mo_keepAside_32 (fun H locs hH => ?_)
  refine x_sx C b_Mo_keepAside_33_34 hl (L' := [(1, .int 0), (0, .ref (ad 20))]) (st' := [.ref (ad 20)]) rfl (fun ls hl => ?_)
  refine x_get C hH.1 1000 mW_o 31 (v := .ref (ad 18)) rfl rfl (by decide) t_673 (fun _ z => z) d_Mo_keepAside_34 ?_
  refine x_sx C b_Mo_keepAside_37_42 hl (L' := [(1, .int 0), (0, .ref (ad 20))]) (st' := [.ref (ad 20), .int (6 + 0), .ref (ad 18)]) rfl (fun ls hl => ?_)
  refine x_get C hH.1 1000 mW_o 21 (v := .ref (ad 14)) rfl rfl (by decide) t_663 (fun _ z => z) d_Mo_keepAside_42 ?_
  refine x_sx C b_Mo_keepAside_45_46 hl (L' := [(1, .int 0), (0, .ref (ad 20))]) (st' := [.int 0, .ref (ad 14), .int (6 + 0), .ref (ad 18)]) rfl (fun ls hl => ?_)
  refine x_ald C hH.1 (1001 + 14) (mW_i 14 (by decide) (by decide) rfl rfl rfl) (N := 3) (f := (ar 14)) (j := 0) rfl (by decide) (by decide) d_Mo_keepAside_46 ?_
  refine m_ast C hH 18 (by decide) (by decide) rfl (N := 20) rfl (f := (upd (upd (ar 18) 0 (ar 12 0)) 3 (ar 13 0))) rfl (j := 6) (by decide) (by decide) d_Mo_keepAside_47 (fun H locs hH => ?_)
  refine x_sx C b_Mo_keepAside_48_49 hl (L' := [(1, .int 0), (0, .ref (ad 20))]) (st' := [.ref (ad 20)]) rfl (fun ls hl => ?_)
  refine x_get C hH.1 1000 mW_o 31 (v := .ref (ad 18)) rfl rfl (by decide) t_673 (fun _ z => z) d_Mo_keepAside_49 ?_
  refine x_sx C b_Mo_keepAside_52_57 hl (L' := [(1, .int 0), (0, .ref (ad 20))]) (st' := [.ref (ad 20), .int (9 + 0), .ref (ad 18)]) rfl (fun ls hl => ?_)
  refine x_get C hH.1 1000 mW_o 22 (v := .ref (ad 15)) rfl rfl (by decide) t_664 (fun _ z => z) d_Mo_keepAside_57 ?_
  refine x_sx C b_Mo_keepAside_60_61 hl (L' := [(1, .int 0), (0, .ref (ad 20))]) (st' := [.int 0, .ref (ad 15), .int (9 + 0), .ref (ad 18)]) rfl (fun ls hl => ?_)
  refine x_ald C hH.1 (1001 + 15) (mW_i 15 (by decide) (by decide) rfl rfl rfl) (N := 3) (f := (ar 15)) (j := 0) rfl (by decide) (by decide) d_Mo_keepAside_61 ?_
  refine m_ast C hH 18 (by decide) (by decide) rfl (N := 20) rfl (f := (upd (upd (upd (ar 18) 0 (ar 12 0)) 3 (ar 13 0)) 6 (ar 14 0))) rfl (j := 9) (by decide) (by decide) d_Mo_keepAside_62 (fun H locs hH => ?_)
  refine x_sx C b_Mo_keepAside_63_64 hl (L' := [(1, .int 0), (0, .ref (ad 20))]) (st' := [.ref (ad 20)]) rfl (fun ls hl => ?_)
  refine x_get C hH.1 1000 mW_o 31 (v := .ref (ad 18)) rfl rfl (by decide) t_673 (fun _ z => z) d_Mo_keepAside_64 ?_
  refine x_sx C b_Mo_keepAside_67_72 hl (L' := [(1, .int 0), (0, .ref (ad 20))]) (st' := [.ref (ad 20), .int (12 + 0), .ref (ad 18)]) rfl (fun ls hl => ?_)
  refine x_get C hH.1 1000 mW_o 23 (v := .ref (ad 16)) rfl rfl (by decide) t_665 (fun _ z => z) d_Mo_keepAside_72 ?_
  refine x_sx C b_Mo_keepAside_75_76 hl (L' := [(1, .int 0), (0, .ref (ad 20))]) (st' := [.int 0, .ref (ad 16), .int (12 + 0), .ref (ad 18)]) rfl (fun ls hl => ?_)
  refine x_ald C hH.1 (1001 + 16) (mW_i 16 (by decide) (by decide) rfl rfl rfl) (N := 3) (f := (ar 16)) (j := 0) rfl (by decide) (by decide) d_Mo_keepAside_76 ?_
  refine m_ast C hH 18 (by decide) (by decide) rfl (N := 20) rfl (f := (upd (upd (upd (upd (ar 18) 0 (ar 12 0)) 3 (ar 13 0)) 6 (ar 14 0)) 9 (ar 15 0))) rfl (j := 12) (by decide) (by decide) d_Mo_keepAside_77 (fun H locs hH => ?_)
  refine x_sx C b_Mo_keepAside_78_81 hl (L' := [(1, .int (0 + 1)), (0, .ref (ad 20))]) (st' := []) rfl (fun ls hl => ?_)
  refine x_goto (tgt := 2) C d_Mo_keepAside_81 (by decide) ?_
  refine x_sx C b_Mo_keepAside_2_4 hl (L' := [(1, .int (0 + 1)), (0, .ref (ad 20))]) (st' := [.int 3, .int (0 + 1)]) rfl (fun ls hl => ?_)
  refine lv_icmp_ge (tgt := 84) C.1 C.2.1 d_Mo_keepAside_4 (by decide) (fun h2 => ?_) (fun h2 => ?_)
  · exact absurd h2 (by decide)
  refine x_sx C b_Mo_keepAside_7_8 hl (L' := [(1, .int (0 + 1)), (0, .ref (ad 20))]) (st' := [.ref (ad 20)]) rfl (fun ls hl => ?_)
  refine x_get C hH.1 1000 mW_o 31 (v := .ref (ad 18)) rfl rfl (by decide) t_673 (fun _ z => z) d_Mo_keepAside_8 ?_
  refine x_sx C b_Mo_keepAside_11_13 hl (L' := [(1, .int (0 + 1)), (0, .ref (ad 20))]) (st' := [.ref (ad 20), .int (0 + 1), .ref (ad 18)]) rfl (fun ls hl => ?_)
  refine x_get C hH.1 1000 mW_o 19 (v := .ref (ad 12)) rfl rfl (by decide) t_661 (fun _ z => z) d_Mo_keepAside_13 ?_
  refine x_sx C b_Mo_keepAside_16_17 hl (L' := [(1, .int (0 + 1)), (0, .ref (ad 20))]) (st' := [.int (0 + 1), .ref (ad 12), .int (0 + 1), .ref (ad 18)]) rfl (fun ls hl => ?_)
  refine x_ald C hH.1 (1001 + 12) (mW_i 12 (by decide) (by decide) rfl rfl rfl) (N := 3) (f := (ar 12)) (j := 1) (by decide) (by decide) (by decide) d_Mo_keepAside_17 ?_
  refine m_ast C hH 18 (by decide) (by decide) rfl (N := 20) rfl (f := (upd (upd (upd (upd (upd (ar 18) 0 (ar 12 0)) 3 (ar 13 0)) 6 (ar 14 0)) 9 (ar 15 0)) 12 (ar 16 0))) rfl (j := 1) (by decide) (by decide) d_Mo_keepAside_18 (fun H locs hH => ?_)
  refine x_sx C b_Mo_keepAside_19_20 hl (L' := [(1, .int (0 + 1)), (0, .ref (ad 20))]) (st' := [.ref (ad 20)]) rfl (fun ls hl => ?_)
  refine x_get C hH.1 1000 mW_o 31 (v := .ref (ad 18)) rfl rfl (by decide) t_673 (fun _ z => z) d_Mo_keepAside_20 ?_
  refine x_sx C b_Mo_keepAside_23_27 hl (L' := [(1, .int (0 + 1)), (0, .ref (ad 20))]) (st' := [.ref (ad 20), .int (3 + (0 + 1)), .ref (ad 18)]) rfl (fun ls hl => ?_)
  refine x_get C hH.1 1000 mW_o 20 (v := .ref (ad 13)) rfl rfl (by decide) t_662 (fun _ z => z) d_Mo_keepAside_27 ?_
  refine x_sx C b_Mo_keepAside_30_31 hl (L' := [(1, .int (0 + 1)), (0, .ref (ad 20))]) (st' := [.int (0 + 1), .ref (ad 13), .int (3 + (0 + 1)), .ref (ad 18)]) rfl (fun ls hl => ?_)
  refine x_ald C hH.1 (1001 + 13) (mW_i 13 (by decide) (by decide) rfl rfl rfl) (N := 3) (f := (ar 13)) (j := 1) (by decide) (by decide) (by decide) d_Mo_keepAside_31 ?_
  refine m_ast C hH 18 (by decide) (by decide) rfl (N := 20) rfl (f := (upd (upd (upd (upd (upd (upd (ar 18) 0 (ar 12 0)) 3 (ar 13 0)) 6 (ar 14 0)) 9 (ar 15 0)) 12 (ar 16 0)) 1 (ar 12 1))) rfl (j := 4) (by decide) (by decide) d_Mo_keepAside_32 (fun H locs hH => ?_)
  refine x_sx C b_Mo_keepAside_33_34 hl (L' := [(1, .int (0 + 1)), (0, .ref (ad 20))]) (st' := [.ref (ad 20)]) rfl (fun ls hl => ?_)
  refine x_get C hH.1 1000 mW_o 31 (v := .ref (ad 18)) rfl rfl (by decide) t_673 (fun _ z => z) d_Mo_keepAside_34 ?_
  refine x_sx C b_Mo_keepAside_37_42 hl (L' := [(1, .int (0 + 1)), (0, .ref (ad 20))]) (st' := [.ref (ad 20), .int (6 + (0 + 1)), .ref (ad 18)]) rfl (fun ls hl => ?_)
  refine x_get C hH.1 1000 mW_o 21 (v := .ref (ad 14)) rfl rfl (by decide) t_663 (fun _ z => z) d_Mo_keepAside_42 ?_
  refine x_sx C b_Mo_keepAside_45_46 hl (L' := [(1, .int (0 + 1)), (0, .ref (ad 20))]) (st' := [.int (0 + 1), .ref (ad 14), .int (6 + (0 + 1)), .ref (ad 18)]) rfl (fun ls hl => ?_)
  refine x_ald C hH.1 (1001 + 14) (mW_i 14 (by decide) (by decide) rfl rfl rfl) (N := 3) (f := (ar 14)) (j := 1) (by decide) (by decide) (by decide) d_Mo_keepAside_46 ?_
  refine m_ast C hH 18 (by decide) (by decide) rfl (N := 20) rfl (f := (upd (upd (upd (upd (upd (upd (upd (ar 18) 0 (ar 12 0)) 3 (ar 13 0)) 6 (ar 14 0)) 9 (ar 15 0)) 12 (ar 16 0)) 1 (ar 12 1)) 4 (ar 13 1))) rfl (j := 7) (by decide) (by decide) d_Mo_keepAside_47 (fun H locs hH => ?_)
  refine x_sx C b_Mo_keepAside_48_49 hl (L' := [(1, .int (0 + 1)), (0, .ref (ad 20))]) (st' := [.ref (ad 20)]) rfl (fun ls hl => ?_)
  refine x_get C hH.1 1000 mW_o 31 (v := .ref (ad 18)) rfl rfl (by decide) t_673 (fun _ z => z) d_Mo_keepAside_49 ?_
  refine x_sx C b_Mo_keepAside_52_57 hl (L' := [(1, .int (0 + 1)), (0, .ref (ad 20))]) (st' := [.ref (ad 20), .int (9 + (0 + 1)), .ref (ad 18)]) rfl (fun ls hl => ?_)
  refine x_get C hH.1 1000 mW_o 22 (v := .ref (ad 15)) rfl rfl (by decide) t_664 (fun _ z => z) d_Mo_keepAside_57 ?_
  refine x_sx C b_Mo_keepAside_60_61 hl (L' := [(1, .int (0 + 1)), (0, .ref (ad 20))]) (st' := [.int (0 + 1), .ref (ad 15), .int (9 + (0 + 1)), .ref (ad 18)]) rfl (fun ls hl => ?_)
  refine x_ald C hH.1 (1001 + 15) (mW_i 15 (by decide) (by decide) rfl rfl rfl) (N := 3) (f := (ar 15)) (j := 1) (by decide) (by decide) (by decide) d_Mo_keepAside_61 ?_
  refine m_ast C hH 18 (by decide) (by decide) rfl (N := 20) rfl (f := (upd (upd (upd (upd (upd (upd (upd (upd (ar 18) 0 (ar 12 0)) 3 (ar 13 0)) 6 (ar 14 0)) 9 (ar 15 0)) 12 (ar 16 0)) 1 (ar 12 1)) 4 (ar 13 1)) 7 (ar 14 1))) rfl (j := 10) (by decide) (by decide) d_Mo_keepAside_62 (fun H locs hH => ?_)
  refine x_sx C b_Mo_keepAside_63_64 hl (L' := [(1, .int (0 + 1)), (0, .ref (ad 20))]) (st' := [.ref (ad 20)]) rfl (fun ls hl => ?_)
  refine x_get C hH.1 1000 mW_o 31 (v := .ref (ad 18)) rfl rfl (by decide) t_673 (fun _ z => z) d_Mo_keepAside_64 ?_
  refine x_sx C b_Mo_keepAside_67_72 hl (L' := [(1, .int (0 + 1)), (0, .ref (ad 20))]) (st' := [.ref (ad 20), .int (12 + (0 + 1)), .ref (ad 18)]) rfl (fun ls hl => ?_)
  refine x_get C hH.1 1000 mW_o 23 (v := .ref (ad 16)) rfl rfl (by decide) t_665 (fun _ z => z) d_Mo_keepAside_72 ?_
  refine x_sx C b_Mo_keepAside_75_76 hl (L' := [(1, .int (0 + 1)), (0, .ref (ad 20))]) (st' := [.int (0 + 1), .ref (ad 16), .int (12 + (0 + 1)), .ref (ad 18)]) rfl (fun ls hl => ?_)
  refine x_ald C hH.1 (1001 + 16) (mW_i 16 (by decide) (by decide) rfl rfl rfl) (N := 3) (f := (ar 16)) (j := 1) (by decide) (by decide) (by decide) d_Mo_keepAside_76 ?_
  refine m_ast C hH 18 (by decide) (by decide) rfl (N := 20) rfl (f := (upd (upd (upd (upd (upd (upd (upd (upd (upd (ar 18) 0 (ar 12 0)) 3 (ar 13 0)) 6 (ar 14 0)) 9 (ar 15 0)) 12 (ar 16 0)) 1 (ar 12 1)) 4 (ar 13 1)) 7 (ar 14 1)) 10 (ar 15 1))) rfl (j := 13) (by decide) (by decide) d_Mo_keepAside_77 (fun H locs hH => ?_)
  refine x_sx C b_Mo_keepAside_78_81 hl (L' := [(1, .int ((0 + 1) + 1)), (0, .ref (ad 20))]) (st' := []) rfl (fun ls hl => ?_)
  refine x_goto (tgt := 2) C d_Mo_keepAside_81 (by decide) ?_
  refine x_sx C b_Mo_keepAside_2_4 hl (L' := [(1, .int ((0 + 1) + 1)), (0, .ref (ad 20))]) (st' := [.int 3, .int ((0 + 1) + 1)]) rfl (fun ls hl => ?_)
  refine lv_icmp_ge (tgt := 84) C.1 C.2.1 d_Mo_keepAside_4 (by decide) (fun h3 => ?_) (fun h3 => ?_)
  · exact absurd h3 (by decide)
  refine x_sx C b_Mo_keepAside_7_8 hl (L' := [(1, .int ((0 + 1) + 1)), (0, .ref (ad 20))]) (st' := [.ref (ad 20)]) rfl (fun ls hl => ?_)
  refine x_get C hH.1 1000 mW_o 31 (v := .ref (ad 18)) rfl rfl (by decide) t_673 (fun _ z => z) d_Mo_keepAside_8 ?_
  refine x_sx C b_Mo_keepAside_11_13 hl (L' := [(1, .int ((0 + 1) + 1)), (0, .ref (ad 20))]) (st' := [.ref (ad 20), .int ((0 + 1) + 1), .ref (ad 18)]) rfl (fun ls hl => ?_)
  refine x_get C hH.1 1000 mW_o 19 (v := .ref (ad 12)) rfl rfl (by decide) t_661 (fun _ z => z) d_Mo_keepAside_13 ?_
  refine x_sx C b_Mo_keepAside_16_17 hl (L' := [(1, .int ((0 + 1) + 1)), (0, .ref (ad 20))]) (st' := [.int ((0 + 1) + 1), .ref (ad 12), .int ((0 + 1) + 1), .ref (ad 18)]) rfl (fun ls hl => ?_)
  refine x_ald C hH.1 (1001 + 12) (mW_i 12 (by decide) (by decide) rfl rfl rfl) (N := 3) (f := (ar 12)) (j := 2) (by decide) (by decide) (by decide) d_Mo_keepAside_17 ?_
  refine m_ast C hH 18 (by decide) (by decide) rfl (N := 20) rfl (f := (upd (upd (upd (upd (upd (upd (upd (upd (upd (upd (ar 18) 0 (ar 12 0)) 3 (ar 13 0)) 6 (ar 14 0)) 9 (ar 15 0)) 12 (ar 16 0)) 1 (ar 12 1)) 4 (ar 13 1)) 7 (ar 14 1)) 10 (ar 15 1)) 13 (ar 16 1))) rfl (j := 2) (by decide) (by decide) d_Mo_keepAside_18 (fun H locs hH => ?_)
  refine x_sx C b_Mo_keepAside_19_20 hl (L' := [(1, .int ((0 + 1) + 1)), (0, .ref (ad 20))]) (st' := [.ref (ad 20)]) rfl (fun ls hl => ?_)
  refine x_get C hH.1 1000 mW_o 31 (v := .ref (ad 18)) rfl rfl (by decide) t_673 (fun _ z => z) d_Mo_keepAside_20 ?_
  refine x_sx C b_Mo_keepAside_23_27 hl (L' := [(1, .int ((0 + 1) + 1)), (0, .ref (ad 20))]) (st' := [.ref (ad 20), .int (3 + ((0 + 1) + 1)), .ref (ad 18)]) rfl (fun ls hl => ?_)
  refine x_get C hH.1 1000 mW_o 20 (v := .ref (ad 13)) rfl rfl (by decide) t_662 (fun _ z => z) d_Mo_keepAside_27 ?_
  refine x_sx C b_Mo_keepAside_30_31 hl (L' := [(1, .int ((0 + 1) + 1)), (0, .ref (ad 20))]) (st' := [.int ((0 + 1) + 1), .ref (ad 13), .int (3 + ((0 + 1) + 1)), .ref (ad 18)]) rfl (fun ls hl => ?_)
  refine x_ald C hH.1 (1001 + 13) (mW_i 13 (by decide) (by decide) rfl rfl rfl) (N := 3) (f := (ar 13)) (j := 2) (by decide) (by decide) (by decide) d_Mo_keepAside_31 ?_
  refine m_ast C hH 18 (by decide) (by decide) rfl (N := 20) rfl (f := (upd (upd (upd (upd (upd (upd (upd (upd (upd (upd (upd (ar 18) 0 (ar 12 0)) 3 (ar 13 0)) 6 (ar 14 0)) 9 (ar 15 0)) 12 (ar 16 0)) 1 (ar 12 1)) 4 (ar 13 1)) 7 (ar 14 1)) 10 (ar 15 1)) 13 (ar 16 1)) 2 (ar 12 2))) rfl (j := 5) (by decide) (by decide) d_Mo_keepAside_32 (fun H locs hH => ?_)
  refine x_sx C b_Mo_keepAside_33_34 hl (L' := [(1, .int ((0 + 1) + 1)), (0, .ref (ad 20))]) (st' := [.ref (ad 20)]) rfl (fun ls hl => ?_)
  refine x_get C hH.1 1000 mW_o 31 (v := .ref (ad 18)) rfl rfl (by decide) t_673 (fun _ z => z) d_Mo_keepAside_34 ?_
  refine x_sx C b_Mo_keepAside_37_42 hl (L' := [(1, .int ((0 + 1) + 1)), (0, .ref (ad 20))]) (st' := [.ref (ad 20), .int (6 + ((0 + 1) + 1)), .ref (ad 18)]) rfl (fun ls hl => ?_)
  refine x_get C hH.1 1000 mW_o 21 (v := .ref (ad 14)) rfl rfl (by decide) t_663 (fun _ z => z) d_Mo_keepAside_42 ?_
  refine x_sx C b_Mo_keepAside_45_46 hl (L' := [(1, .int ((0 + 1) + 1)), (0, .ref (ad 20))]) (st' := [.int ((0 + 1) + 1), .ref (ad 14), .int (6 + ((0 + 1) + 1)), .ref (ad 18)]) rfl (fun ls hl => ?_)
  refine x_ald C hH.1 (1001 + 14) (mW_i 14 (by decide) (by decide) rfl rfl rfl) (N := 3) (f := (ar 14)) (j := 2) (by decide) (by decide) (by decide) d_Mo_keepAside_46 ?_
  refine m_ast C hH 18 (by decide) (by decide) rfl (N := 20) rfl (f := (upd (upd (upd (upd (upd (upd (upd (upd (upd (upd (upd (upd (ar 18) 0 (ar 12 0)) 3 (ar 13 0)) 6 (ar 14 0)) 9 (ar 15 0)) 12 (ar 16 0)) 1 (ar 12 1)) 4 (ar 13 1)) 7 (ar 14 1)) 10 (ar 15 1)) 13 (ar 16 1)) 2 (ar 12 2)) 5 (ar 13 2))) rfl (j := 8) (by decide) (by decide) d_Mo_keepAside_47 (fun H locs hH => ?_)
  refine x_sx C b_Mo_keepAside_48_49 hl (L' := [(1, .int ((0 + 1) + 1)), (0, .ref (ad 20))]) (st' := [.ref (ad 20)]) rfl (fun ls hl => ?_)
  refine x_get C hH.1 1000 mW_o 31 (v := .ref (ad 18)) rfl rfl (by decide) t_673 (fun _ z => z) d_Mo_keepAside_49 ?_
  refine x_sx C b_Mo_keepAside_52_57 hl (L' := [(1, .int ((0 + 1) + 1)), (0, .ref (ad 20))]) (st' := [.ref (ad 20), .int (9 + ((0 + 1) + 1)), .ref (ad 18)]) rfl (fun ls hl => ?_)
  refine x_get C hH.1 1000 mW_o 22 (v := .ref (ad 15)) rfl rfl (by decide) t_664 (fun _ z => z) d_Mo_keepAside_57 ?_
  refine x_sx C b_Mo_keepAside_60_61 hl (L' := [(1, .int ((0 + 1) + 1)), (0, .ref (ad 20))]) (st' := [.int ((0 + 1) + 1), .ref (ad 15), .int (9 + ((0 + 1) + 1)), .ref (ad 18)]) rfl (fun ls hl => ?_)
  refine x_ald C hH.1 (1001 + 15) (mW_i 15 (by decide) (by decide) rfl rfl rfl) (N := 3) (f := (ar 15)) (j := 2) (by decide) (by decide) (by decide) d_Mo_keepAside_61 ?_
  refine m_ast C hH 18 (by decide) (by decide) rfl (N := 20) rfl (f := (upd (upd (upd (upd (upd (upd (upd (upd (upd (upd (upd (upd (upd (ar 18) 0 (ar 12 0)) 3 (ar 13 0)) 6 (ar 14 0)) 9 (ar 15 0)) 12 (ar 16 0)) 1 (ar 12 1)) 4 (ar 13 1)) 7 (ar 14 1)) 10 (ar 15 1)) 13 (ar 16 1)) 2 (ar 12 2)) 5 (ar 13 2)) 8 (ar 14 2))) rfl (j := 11) (by decide) (by decide) d_Mo_keepAside_62 (fun H locs hH => ?_)
  refine x_sx C b_Mo_keepAside_63_64 hl (L' := [(1, .int ((0 + 1) + 1)), (0, .ref (ad 20))]) (st' := [.ref (ad 20)]) rfl (fun ls hl => ?_)
  refine x_get C hH.1 1000 mW_o 31 (v := .ref (ad 18)) rfl rfl (by decide) t_673 (fun _ z => z) d_Mo_keepAside_64 ?_
  refine x_sx C b_Mo_keepAside_67_72 hl (L' := [(1, .int ((0 + 1) + 1)), (0, .ref (ad 20))]) (st' := [.ref (ad 20), .int (12 + ((0 + 1) + 1)), .ref (ad 18)]) rfl (fun ls hl => ?_)
  refine x_get C hH.1 1000 mW_o 23 (v := .ref (ad 16)) rfl rfl (by decide) t_665 (fun _ z => z) d_Mo_keepAside_72 ?_
  refine x_sx C b_Mo_keepAside_75_76 hl (L' := [(1, .int ((0 + 1) + 1)), (0, .ref (ad 20))]) (st' := [.int ((0 + 1) + 1), .ref (ad 16), .int (12 + ((0 + 1) + 1)), .ref (ad 18)]) rfl (fun ls hl => ?_)
  refine x_ald C hH.1 (1001 + 16) (mW_i 16 (by decide) (by decide) rfl rfl rfl) (N := 3) (f := (ar 16)) (j := 2) (by decide) (by decide) (by decide) d_Mo_keepAside_76 ?_
  refine m_ast C hH 18 (by decide) (by decide) rfl (N := 20) rfl (f := (upd (upd (upd (upd (upd (upd (upd (upd (upd (upd (upd (upd (upd (upd (ar 18) 0 (ar 12 0)) 3 (ar 13 0)) 6 (ar 14 0)) 9 (ar 15 0)) 12 (ar 16 0)) 1 (ar 12 1)) 4 (ar 13 1)) 7 (ar 14 1)) 10 (ar 15 1)) 13 (ar 16 1)) 2 (ar 12 2)) 5 (ar 13 2)) 8 (ar 14 2)) 11 (ar 15 2))) rfl (j := 14) (by decide) (by decide) d_Mo_keepAside_77 (fun H locs hH => ?_)
  refine x_sx C b_Mo_keepAside_78_81 hl (L' := [(1, .int (((0 + 1) + 1) + 1)), (0, .ref (ad 20))]) (st' := []) rfl (fun ls hl => ?_)
  refine x_goto (tgt := 2) C d_Mo_keepAside_81 (by decide) ?_
  refine x_sx C b_Mo_keepAside_2_4 hl (L' := [(1, .int (((0 + 1) + 1) + 1)), (0, .ref (ad 20))]) (st' := [.int 3, .int (((0 + 1) + 1) + 1)]) rfl (fun ls hl => ?_)
  refine lv_icmp_ge (tgt := 84) C.1 C.2.1 d_Mo_keepAside_4 (by decide) (fun h4 => ?_) (fun h4 => ?_)
  rotate_left
  · exact absurd (by decide) h4
  refine x_sx C b_Mo_keepAside_84_85 hl (L' := [(1, .int (((0 + 1) + 1) + 1)), (0, .ref (ad 20))]) (st' := [.ref (ad 20)]) rfl (fun ls hl => ?_)
  refine x_get C hH.1 1000 mW_o 31 (v := .ref (ad 18)) rfl rfl (by decide) t_673 (fun _ z => z) d_Mo_keepAside_85 ?_
  refine x_sx C b_Mo_keepAside_88_91 hl (L' := [(1, .int (((0 + 1) + 1) + 1)), (0, .ref (ad 20))]) (st' := [.ref (ad 20), .int 15, .ref (ad 18)]) rfl (fun ls hl => ?_)
  refine x_get C hH.1 1000 mW_o 24 (v := .int (sc 7)) rfl rfl (by decide) t_666 (fun _ z => z) d_Mo_keepAside_91 ?_
  refine m_ast C hH 18 (by decide) (by decide) rfl (N := 20) rfl (f := (upd (upd (upd (upd (upd (upd (upd (upd (upd (upd (upd (upd (upd (upd (upd (ar 18) 0 (ar 12 0)) 3 (ar 13 0)) 6 (ar 14 0)) 9 (ar 15 0)) 12 (ar 16 0)) 1 (ar 12 1)) 4 (ar 13 1)) 7 (ar 14 1)) 10 (ar 15 1)) 13 (ar 16 1)) 2 (ar 12 2)) 5 (ar 13 2)) 8 (ar 14 2)) 11 (ar 15 2)) 14 (ar 16 2))) rfl (j := 15) rfl (by decide) d_Mo_keepAside_94 (fun H locs hH => ?_)
  refine x_sx C b_Mo_keepAside_95_96 hl (L' := [(1, .int (((0 + 1) + 1) + 1)), (0, .ref (ad 20))]) (st' := [.ref (ad 20)]) rfl (fun ls hl => ?_)
  refine x_get C hH.1 1000 mW_o 31 (v := .ref (ad 18)) rfl rfl (by decide) t_673 (fun _ z => z) d_Mo_keepAside_96 ?_
  refine x_sx C b_Mo_keepAside_99_102 hl (L' := [(1, .int (((0 + 1) + 1) + 1)), (0, .ref (ad 20))]) (st' := [.ref (ad 20), .int 16, .ref (ad 18)]) rfl (fun ls hl => ?_)
  refine x_get C hH.1 1000 mW_o 26 (v := .int (sc 9)) rfl rfl (by decide) t_668 (fun _ z => z) d_Mo_keepAside_102 ?_
  refine m_ast C hH 18 (by decide) (by decide) rfl (N := 20) rfl (f := (upd (upd (upd (upd (upd (upd (upd (upd (upd (upd (upd (upd (upd (upd (upd (upd (ar 18) 0 (ar 12 0)) 3 (ar 13 0)) 6 (ar 14 0)) 9 (ar 15 0)) 12 (ar 16 0)) 1 (ar 12 1)) 4 (ar 13 1)) 7 (ar 14 1)) 10 (ar 15 1)) 13 (ar 16 1)) 2 (ar 12 2)) 5 (ar 13 2)) 8 (ar 14 2)) 11 (ar 15 2)) 14 (ar 16 2)) 15 (sc 7))) rfl (j := 16) rfl (by decide) d_Mo_keepAside_105 (fun H locs hH => ?_)
  refine x_sx C b_Mo_keepAside_106_107 hl (L' := [(1, .int (((0 + 1) + 1) + 1)), (0, .ref (ad 20))]) (st' := [.ref (ad 20)]) rfl (fun ls hl => ?_)
  refine x_get C hH.1 1000 mW_o 31 (v := .ref (ad 18)) rfl rfl (by decide) t_673 (fun _ z => z) d_Mo_keepAside_107 ?_
  refine x_sx C b_Mo_keepAside_110_113 hl (L' := [(1, .int (((0 + 1) + 1) + 1)), (0, .ref (ad 20))]) (st' := [.ref (ad 20), .int 17, .ref (ad 18)]) rfl (fun ls hl => ?_)
  refine x_get C hH.1 1000 mW_o 27 (v := .int (sc 10)) rfl rfl (by decide) t_669 (fun _ z => z) d_Mo_keepAside_113 ?_
  refine m_ast C hH 18 (by decide) (by decide) rfl (N := 20) rfl (f := (upd (upd (upd (upd (upd (upd (upd (upd (upd (upd (upd (upd (upd (upd (upd (upd (upd (ar 18) 0 (ar 12 0)) 3 (ar 13 0)) 6 (ar 14 0)) 9 (ar 15 0)) 12 (ar 16 0)) 1 (ar 12 1)) 4 (ar 13 1)) 7 (ar 14 1)) 10 (ar 15 1)) 13 (ar 16 1)) 2 (ar 12 2)) 5 (ar 13 2)) 8 (ar 14 2)) 11 (ar 15 2)) 14 (ar 16 2)) 15 (sc 7)) 16 (sc 9))) rfl (j := 17) rfl (by decide) d_Mo_keepAside_116 (fun H locs hH => ?_)
  refine x_sx C b_Mo_keepAside_117_118 hl (L' := [(1, .int (((0 + 1) + 1) + 1)), (0, .ref (ad 20))]) (st' := [.ref (ad 20)]) rfl (fun ls hl => ?_)
  refine x_get C hH.1 1000 mW_o 31 (v := .ref (ad 18)) rfl rfl (by decide) t_673 (fun _ z => z) d_Mo_keepAside_118 ?_
  refine x_sx C b_Mo_keepAside_121_124 hl (L' := [(1, .int (((0 + 1) + 1) + 1)), (0, .ref (ad 20))]) (st' := [.ref (ad 20), .int 18, .ref (ad 18)]) rfl (fun ls hl => ?_)
  refine x_get C hH.1 1000 mW_o 28 (v := .int (sc 11)) rfl rfl (by decide) t_670 (fun _ z => z) d_Mo_keepAside_124 ?_
  refine m_ast C hH 18 (by decide) (by decide) rfl (N := 20) rfl (f := (upd (upd (upd (upd (upd (upd (upd (upd (upd (upd (upd (upd (upd (upd (upd (upd (upd (upd (ar 18) 0 (ar 12 0)) 3 (ar 13 0)) 6 (ar 14 0)) 9 (ar 15 0)) 12 (ar 16 0)) 1 (ar 12 1)) 4 (ar 13 1)) 7 (ar 14 1)) 10 (ar 15 1)) 13 (ar 16 1)) 2 (ar 12 2)) 5 (ar 13 2)) 8 (ar 14 2)) 11 (ar 15 2)) 14 (ar 16 2)) 15 (sc 7)) 16 (sc 9)) 17 (sc 10))) rfl (j := 18) rfl (by decide) d_Mo_keepAside_127 (fun H locs hH => ?_)
  refine x_sx C b_Mo_keepAside_128_129 hl (L' := [(1, .int (((0 + 1) + 1) + 1)), (0, .ref (ad 20))]) (st' := [.ref (ad 20)]) rfl (fun ls hl => ?_)
  refine x_get C hH.1 1000 mW_o 31 (v := .ref (ad 18)) rfl rfl (by decide) t_673 (fun _ z => z) d_Mo_keepAside_129 ?_
  refine x_sx C b_Mo_keepAside_132_135 hl (L' := [(1, .int (((0 + 1) + 1) + 1)), (0, .ref (ad 20))]) (st' := [.ref (ad 20), .int 19, .ref (ad 18)]) rfl (fun ls hl => ?_)
  refine x_get C hH.1 1000 mW_o 25 (v := .int (sc 8)) rfl rfl (by decide) t_667 (fun _ z => z) d_Mo_keepAside_135 ?_
  refine x_join (X := Unit) (nL := 2) (fun _ => True) (fun _ => [(1, .int (((0 + 1) + 1) + 1)), (0, .ref (ad 20))]) (fun _ => [.int (if sc 8 = 0 then 0 else 1), .int 19, .ref (ad 18)]) 146 (fun ls _ hl _ => ?_) (fun J5 => ?_)
  · have hl : lv_has ls 2 [(1, .int (((0 + 1) + 1) + 1)), (0, .ref (ad 20))] := hl
    refine m_ast C hH 18 (by decide) (by decide) rfl (N := 20) rfl (f := (upd (upd (upd (upd (upd (upd (upd (upd (upd (upd (upd (upd (upd (upd (upd (upd (upd (upd (upd (ar 18) 0 (ar 12 0)) 3 (ar 13 0)) 6 (ar 14 0)) 9 (ar 15 0)) 12 (ar 16 0)) 1 (ar 12 1)) 4 (ar 13 1)) 7 (ar 14 1)) 10 (ar 15 1)) 13 (ar 16 1)) 2 (ar 12 2)) 5 (ar 13 2)) 8 (ar 14 2)) 11 (ar 15 2)) 14 (ar 16 2)) 15 (sc 7)) 16 (sc 9)) 17 (sc 10)) 18 (sc 11))) rfl (j := 19) rfl (by decide) d_Mo_keepAside_146 (fun H locs hH => ?_)
    have hH : Hw G A s (mW G ad w0 sc (va_up ar 18 (svN sc ar))) H locs := by
      refine hH.mcongr (fun i h0 h1 j hj => ?_)
      by_cases e : i = 18
      · subst e
        have hj : j < 20 := hj
        rw [up_s]
        rcases (show j = 0 ∨ j = 1 ∨ j = 2 ∨ j = 3 ∨ j = 4 ∨ j = 5 ∨ j = 6 ∨ j = 7 ∨ j = 8 ∨ j = 9 ∨ j = 10 ∨ j = 11 ∨ j = 12 ∨ j = 13 ∨ j = 14 ∨ j = 15 ∨ j = 16 ∨ j = 17 ∨ j = 18 ∨ j = 19 by omega) with rfl | rfl | rfl | rfl | rfl | rfl | rfl | rfl | rfl | rfl | rfl | rfl | rfl | rfl | rfl | rfl | rfl | rfl | rfl | rfl <;> rfl
      · simp only [va_up, e, if_false]
    have hH : Hw G A s (mW G ad w0 sc (va_up (va_up ar 18 (svN sc ar)) 19 (ar 19))) H locs := by rw [show va_up (va_up ar 18 (svN sc ar)) 19 (ar 19) = va_up ar 18 (svN sc ar) from up_id _ 19 _ rfl]; exact hH
    refine x_sx C b_Mo_keepAside_147_149 hl (L' := [(1, .int 0), (0, .ref (ad 20))]) (st' := []) rfl (fun ls hl => ?_)
    refine x_loop (X := Nat × (Nat → Int32)) (fun x => 4096 - x.1) (fun x H locs => x.1 ≤ 4096 ∧ (∀ j, j < x.1 → x.2 j = ar 17 j) ∧ Hw G A s (mW G ad w0 sc (va_up (va_up ar 18 (svN sc ar)) 19 x.2)) H locs) (fun x => [(0, .ref (ad 20)), (1, .int (nI x.1))]) 149 ?_ (0, ar 19) _ _ _ ⟨Nat.zero_le _, fun j hj => absurd hj (Nat.not_lt_zero j), hH⟩ (lv_sub hl [1, 0] rfl)
    intro x H locs ls hI hl IH1
    obtain ⟨k, f⟩ := x
    obtain ⟨hk, hf, hH⟩ := hI
    dsimp only at hk hf hH IH1
    have hl : lv_has ls 2 [(0, .ref (ad 20)), (1, .int (nI k))] := hl
    refine x_sx C b_Mo_keepAside_149_153 hl (L' := [(0, .ref (ad 20)), (1, .int (nI k))]) (st' := [.int 4096, .int (nI k)]) rfl (fun ls hl => ?_)
    refine lv_icmp_ge (tgt := 174) C.1 C.2.1 d_Mo_keepAside_153 (by decide) (fun hb => ?_) (fun hb => ?_)
    · have e1 : k = 4096 := by rw [show (4096 : Int32) = nI 4096 from rfl, nI_leI (by omega) (by omega)] at hb; omega
      have hH : Hw G A s (mW G ad w0 sc (fKeep sc ar)) H locs := by
        refine hH.mcongr (fun i h0 h1 j hj => ?_)
        unfold fKeep
        by_cases e : i = 19
        · subst e; rw [up_s, up_s]; exact hf j (by rw [e1]; exact hj)
        · rw [up_n _ _ e, up_n _ _ e]
      exact x_vrt C hr hH.2.2 ⟨rfl, hH.1, hH.2.1⟩ (Nat.le_refl _) (Nat.le_refl _) d_Mo_keepAside_174
    · have hk4 : k < 4096 := by rw [show (4096 : Int32) = nI 4096 from rfl, nI_leI (by omega) (by omega)] at hb; omega
      refine x_sx C b_Mo_keepAside_156_157 hl (L' := [(0, .ref (ad 20)), (1, .int (nI k))]) (st' := [.ref (ad 20)]) rfl (fun ls hl => ?_)
      refine x_get C hH.1 1000 mW_o 32 (v := .ref (ad 19)) rfl rfl (by decide) t_674 (fun _ z => z) d_Mo_keepAside_157 ?_
      refine x_sx C b_Mo_keepAside_160_162 hl (L' := [(0, .ref (ad 20)), (1, .int (nI k))]) (st' := [.ref (ad 20), .int (nI k), .ref (ad 19)]) rfl (fun ls hl => ?_)
      refine x_get C hH.1 1000 mW_o 30 (v := .ref (ad 17)) rfl rfl (by decide) t_672 (fun _ z => z) d_Mo_keepAside_162 ?_
      refine x_sx C b_Mo_keepAside_165_166 hl (L' := [(0, .ref (ad 20)), (1, .int (nI k))]) (st' := [.int (nI k), .ref (ad 17), .int (nI k), .ref (ad 19)]) rfl (fun ls hl => ?_)
      refine x_zld C hH.1 (1001 + 17) (mW_z 17 (by decide) (by decide) rfl rfl rfl) (N := 4096) (f := ar 17) (j := k) rfl hk4 (by decide) d_Mo_keepAside_166 ?_
      refine m_zst C hH 19 (by decide) (by decide) rfl (N := 4096) rfl (f := f) rfl (j := k) rfl hk4 (by rcases hz k hk4 with z | z <;> rw [z] <;> rfl) d_Mo_keepAside_167 (fun H locs hH => ?_)
      rw [bx_uu] at hH
      refine x_sx C b_Mo_keepAside_168_171 hl (L' := [(1, .int ((nI k) + 1)), (0, .ref (ad 20))]) (st' := []) rfl (fun ls hl => ?_)
      refine x_goto (tgt := 149) C d_Mo_keepAside_171 (by decide) ?_
      exact IH1 (k + 1, upd f k (ar 17 k)) _ _ _ (by show 4096 - (k + 1) < 4096 - k; omega) ⟨by show k + 1 ≤ 4096; omega, fun j hj => (by show upd f k (ar 17 k) j = ar 17 j; unfold upd; split; (rename_i e; rw [e]); exact hf j (by have : j < k + 1 := hj; omega)), hH⟩ (by rw [← nI_1]; exact (lv_sub hl [1, 0] rfl))
  · refine lv_if_eq (tgt := 145) C.1 C.2.1 d_Mo_keepAside_138 (by decide) (fun hq => ?_) (fun hq => ?_)
    · refine x_sx C b_Mo_keepAside_145_146 hl (L' := [(1, .int (((0 + 1) + 1) + 1)), (0, .ref (ad 20))]) (st' := [.int 0, .int 19, .ref (ad 18)]) rfl (fun ls hl => ?_)
      have q := J5 ls () hl trivial
      try dsimp only at q
      rw [if_pos hq] at q
      exact q
    · refine x_sx C b_Mo_keepAside_141_142 hl (L' := [(1, .int (((0 + 1) + 1) + 1)), (0, .ref (ad 20))]) (st' := [.int 1, .int 19, .ref (ad 18)]) rfl (fun ls hl => ?_)
      refine x_goto (tgt := 146) C d_Mo_keepAside_142 (by decide) ?_
      have q := J5 ls () hl trivial
      try dsimp only at q
      rw [if_neg hq] at q
      exact q
theorem hd_Mo_keepAside : hdP y_Mo_keepAside 0 := ⟨by decide +kernel, by decide +kernel, by decide +kernel⟩
theorem b_Mo_putBack_0_4 : decs prog_7_method_31_code [(.iconst 0, 1), (.istore_n 1, 1), (.iload_n 1, 1), (.iconst 3, 1)] 0 4 = true := by decide +kernel
theorem d_Mo_putBack_4 : decode prog_7_method_31_code 4 = .ok (.if_icmp .ge 80, 3) := by decide +kernel
theorem b_Mo_putBack_7_8 : decs prog_7_method_31_code [(.aload_n 0, 1)] 7 8 = true := by decide +kernel
theorem d_Mo_putBack_8 : decode prog_7_method_31_code 8 = .ok (.getfield 51, 3) := by decide +kernel
theorem b_Mo_putBack_11_13 : decs prog_7_method_31_code [(.iload_n 1, 1), (.aload_n 0, 1)] 11 13 = true := by decide +kernel
theorem d_Mo_putBack_13 : decode prog_7_method_31_code 13 = .ok (.getfield 78, 3) := by decide +kernel
theorem b_Mo_putBack_16_17 : decs prog_7_method_31_code [(.iload_n 1, 1)] 16 17 = true := by decide +kernel
theorem d_Mo_putBack_17 : decode prog_7_method_31_code 17 = .ok (.iaload, 1) := by decide +kernel
theorem d_Mo_putBack_18 : decode prog_7_method_31_code 18 = .ok (.iastore, 1) := by decide +kernel
theorem b_Mo_putBack_19_20 : decs prog_7_method_31_code [(.aload_n 0, 1)] 19 20 = true := by decide +kernel
theorem d_Mo_putBack_20 : decode prog_7_method_31_code 20 = .ok (.getfield 54, 3) := by decide +kernel
theorem b_Mo_putBack_23_25 : decs prog_7_method_31_code [(.iload_n 1, 1), (.aload_n 0, 1)] 23 25 = true := by decide +kernel
theorem d_Mo_putBack_25 : decode prog_7_method_31_code 25 = .ok (.getfield 78, 3) := by decide +kernel
theorem b_Mo_putBack_28_31 : decs prog_7_method_31_code [(.iconst 3, 1), (.iload_n 1, 1), (.iadd, 1)] 28 31 = true := by decide +kernel
theorem d_Mo_putBack_31 : decode prog_7_method_31_code 31 = .ok (.iaload, 1) := by decide +kernel
theorem d_Mo_putBack_32 : decode prog_7_method_31_code 32 = .ok (.iastore, 1) := by decide +kernel
theorem b_Mo_putBack_33_34 : decs prog_7_method_31_code [(.aload_n 0, 1)] 33 34 = true := by decide +kernel
theorem d_Mo_putBack_34 : decode prog_7_method_31_code 34 = .ok (.getfield 57, 3) := by decide +kernel
theorem b_Mo_putBack_37_39 : decs prog_7_method_31_code [(.iload_n 1, 1), (.aload_n 0, 1)] 37 39 = true := by decide +kernel
theorem d_Mo_putBack_39 : decode prog_7_method_31_code 39 = .ok (.getfield 78, 3) := by decide +kernel
theorem b_Mo_putBack_42_46 : decs prog_7_method_31_code [(.bipush 6, 2), (.iload_n 1, 1), (.iadd, 1)] 42 46 = true := by decide +kernel
theorem d_Mo_putBack_46 : decode prog_7_method_31_code 46 = .ok (.iaload, 1) := by decide +kernel
theorem d_Mo_putBack_47 : decode prog_7_method_31_code 47 = .ok (.iastore, 1) := by decide +kernel
theorem b_Mo_putBack_48_49 : decs prog_7_method_31_code [(.aload_n 0, 1)] 48 49 = true := by decide +kernel
theorem d_Mo_putBack_49 : decode prog_7_method_31_code 49 = .ok (.getfield 60, 3) := by decide +kernel
theorem b_Mo_putBack_52_54 : decs prog_7_method_31_code [(.iload_n 1, 1), (.aload_n 0, 1)] 52 54 = true := by decide +kernel
theorem d_Mo_putBack_54 : decode prog_7_method_31_code 54 = .ok (.getfield 78, 3) := by decide +kernel
theorem b_Mo_putBack_57_61 : decs prog_7_method_31_code [(.bipush 9, 2), (.iload_n 1, 1), (.iadd, 1)] 57 61 = true := by decide +kernel
theorem d_Mo_putBack_61 : decode prog_7_method_31_code 61 = .ok (.iaload, 1) := by decide +kernel
theorem d_Mo_putBack_62 : decode prog_7_method_31_code 62 = .ok (.iastore, 1) := by decide +kernel
theorem b_Mo_putBack_63_64 : decs prog_7_method_31_code [(.aload_n 0, 1)] 63 64 = true := by decide +kernel
theorem d_Mo_putBack_64 : decode prog_7_method_31_code 64 = .ok (.getfield 63, 3) := by decide +kernel
theorem b_Mo_putBack_67_69 : decs prog_7_method_31_code [(.iload_n 1, 1), (.aload_n 0, 1)] 67 69 = true := by decide +kernel
theorem d_Mo_putBack_69 : decode prog_7_method_31_code 69 = .ok (.getfield 78, 3) := by decide +kernel
theorem b_Mo_putBack_72_76 : decs prog_7_method_31_code [(.bipush 12, 2), (.iload_n 1, 1), (.iadd, 1)] 72 76 = true := by decide +kernel
theorem d_Mo_putBack_76 : decode prog_7_method_31_code 76 = .ok (.iaload, 1) := by decide +kernel
theorem d_Mo_putBack_77 : decode prog_7_method_31_code 77 = .ok (.iastore, 1) := by decide +kernel
theorem b_Mo_putBack_78_81 : decs prog_7_method_31_code [(.iinc 1 1, 3)] 78 81 = true := by decide +kernel
theorem d_Mo_putBack_81 : decode prog_7_method_31_code 81 = .ok (.goto (-79), 3) := by decide +kernel
theorem b_Mo_putBack_2_4 : decs prog_7_method_31_code [(.iload_n 1, 1), (.iconst 3, 1)] 2 4 = true := by decide +kernel
theorem b_Mo_putBack_84_86 : decs prog_7_method_31_code [(.aload_n 0, 1), (.aload_n 0, 1)] 84 86 = true := by decide +kernel
theorem d_Mo_putBack_86 : decode prog_7_method_31_code 86 = .ok (.getfield 78, 3) := by decide +kernel
theorem b_Mo_putBack_89_91 : decs prog_7_method_31_code [(.bipush 15, 2)] 89 91 = true := by decide +kernel
theorem d_Mo_putBack_91 : decode prog_7_method_31_code 91 = .ok (.iaload, 1) := by decide +kernel
theorem d_Mo_putBack_92 : decode prog_7_method_31_code 92 = .ok (.putfield 122, 3) := by decide +kernel
theorem b_Mo_putBack_95_97 : decs prog_7_method_31_code [(.aload_n 0, 1), (.aload_n 0, 1)] 95 97 = true := by decide +kernel
theorem d_Mo_putBack_97 : decode prog_7_method_31_code 97 = .ok (.getfield 78, 3) := by decide +kernel
theorem b_Mo_putBack_100_102 : decs prog_7_method_31_code [(.bipush 16, 2)] 100 102 = true := by decide +kernel
theorem d_Mo_putBack_102 : decode prog_7_method_31_code 102 = .ok (.iaload, 1) := by decide +kernel
theorem d_Mo_putBack_103 : decode prog_7_method_31_code 103 = .ok (.putfield 66, 3) := by decide +kernel
theorem b_Mo_putBack_106_108 : decs prog_7_method_31_code [(.aload_n 0, 1), (.aload_n 0, 1)] 106 108 = true := by decide +kernel
theorem d_Mo_putBack_108 : decode prog_7_method_31_code 108 = .ok (.getfield 78, 3) := by decide +kernel
theorem b_Mo_putBack_111_113 : decs prog_7_method_31_code [(.bipush 17, 2)] 111 113 = true := by decide +kernel
theorem d_Mo_putBack_113 : decode prog_7_method_31_code 113 = .ok (.iaload, 1) := by decide +kernel
theorem d_Mo_putBack_114 : decode prog_7_method_31_code 114 = .ok (.putfield 69, 3) := by decide +kernel
theorem b_Mo_putBack_117_119 : decs prog_7_method_31_code [(.aload_n 0, 1), (.aload_n 0, 1)] 117 119 = true := by decide +kernel
theorem d_Mo_putBack_119 : decode prog_7_method_31_code 119 = .ok (.getfield 78, 3) := by decide +kernel
theorem b_Mo_putBack_122_124 : decs prog_7_method_31_code [(.bipush 18, 2)] 122 124 = true := by decide +kernel
theorem d_Mo_putBack_124 : decode prog_7_method_31_code 124 = .ok (.iaload, 1) := by decide +kernel
theorem d_Mo_putBack_125 : decode prog_7_method_31_code 125 = .ok (.putfield 72, 3) := by decide +kernel
theorem b_Mo_putBack_128_130 : decs prog_7_method_31_code [(.aload_n 0, 1), (.aload_n 0, 1)] 128 130 = true := by decide +kernel
theorem d_Mo_putBack_130 : decode prog_7_method_31_code 130 = .ok (.getfield 78, 3) := by decide +kernel
theorem b_Mo_putBack_133_135 : decs prog_7_method_31_code [(.bipush 19, 2)] 133 135 = true := by decide +kernel
theorem d_Mo_putBack_135 : decode prog_7_method_31_code 135 = .ok (.iaload, 1) := by decide +kernel
theorem b_Mo_putBack_136_137 : decs prog_7_method_31_code [(.iconst 1, 1)] 136 137 = true := by decide +kernel
theorem d_Mo_putBack_145 : decode prog_7_method_31_code 145 = .ok (.putfield 125, 3) := by decide +kernel
theorem b_Mo_putBack_148_150 : decs prog_7_method_31_code [(.aload_n 0, 1), (.iconst 0, 1)] 148 150 = true := by decide +kernel
theorem d_Mo_putBack_150 : decode prog_7_method_31_code 150 = .ok (.putfield 116, 3) := by decide +kernel
theorem b_Mo_putBack_153_155 : decs prog_7_method_31_code [(.iconst 0, 1), (.istore_n 1, 1)] 153 155 = true := by decide +kernel
theorem b_Mo_putBack_155_159 : decs prog_7_method_31_code [(.iload_n 1, 1), (.sipush 4096, 3)] 155 159 = true := by decide +kernel
theorem d_Mo_putBack_159 : decode prog_7_method_31_code 159 = .ok (.if_icmp .ge 47, 3) := by decide +kernel
theorem d_Mo_putBack_206 : decode prog_7_method_31_code 206 = .ok (.return_, 1) := by decide +kernel
theorem b_Mo_putBack_162_163 : decs prog_7_method_31_code [(.aload_n 0, 1)] 162 163 = true := by decide +kernel
theorem d_Mo_putBack_163 : decode prog_7_method_31_code 163 = .ok (.getfield 75, 3) := by decide +kernel
theorem b_Mo_putBack_166_168 : decs prog_7_method_31_code [(.iload_n 1, 1), (.aload_n 0, 1)] 166 168 = true := by decide +kernel
theorem d_Mo_putBack_168 : decode prog_7_method_31_code 168 = .ok (.getfield 81, 3) := by decide +kernel
theorem b_Mo_putBack_171_172 : decs prog_7_method_31_code [(.iload_n 1, 1)] 171 172 = true := by decide +kernel
theorem d_Mo_putBack_172 : decode prog_7_method_31_code 172 = .ok (.baload, 1) := by decide +kernel
theorem d_Mo_putBack_173 : decode prog_7_method_31_code 173 = .ok (.bastore, 1) := by decide +kernel
theorem d_Mo_putBack_197 : decode prog_7_method_31_code 197 = .ok (.putfield 116, 3) := by decide +kernel
theorem b_Mo_putBack_200_203 : decs prog_7_method_31_code [(.iinc 1 1, 3)] 200 203 = true := by decide +kernel
theorem d_Mo_putBack_203 : decode prog_7_method_31_code 203 = .ok (.goto (-48), 3) := by decide +kernel
theorem b_Mo_putBack_174_176 : decs prog_7_method_31_code [(.aload_n 0, 1), (.aload_n 0, 1)] 174 176 = true := by decide +kernel
theorem d_Mo_putBack_176 : decode prog_7_method_31_code 176 = .ok (.getfield 75, 3) := by decide +kernel
theorem b_Mo_putBack_179_180 : decs prog_7_method_31_code [(.iload_n 1, 1)] 179 180 = true := by decide +kernel
theorem d_Mo_putBack_180 : decode prog_7_method_31_code 180 = .ok (.baload, 1) := by decide +kernel
theorem d_Mo_putBack_181 : decode prog_7_method_31_code 181 = .ok (.ifCond .eq 12, 3) := by decide +kernel
theorem b_Mo_putBack_193_194 : decs prog_7_method_31_code [(.aload_n 0, 1)] 193 194 = true := by decide +kernel
theorem d_Mo_putBack_194 : decode prog_7_method_31_code 194 = .ok (.getfield 116, 3) := by decide +kernel
theorem b_Mo_putBack_184_185 : decs prog_7_method_31_code [(.aload_n 0, 1)] 184 185 = true := by decide +kernel
theorem d_Mo_putBack_185 : decode prog_7_method_31_code 185 = .ok (.getfield 116, 3) := by decide +kernel
theorem b_Mo_putBack_188_190 : decs prog_7_method_31_code [(.iconst 1, 1), (.iadd, 1)] 188 190 = true := by decide +kernel
theorem d_Mo_putBack_190 : decode prog_7_method_31_code 190 = .ok (.goto 7, 3) := by decide +kernel
theorem d_Mo_putBack_137 : decode prog_7_method_31_code 137 = .ok (.if_icmp .ne 7, 3) := by decide +kernel
theorem b_Mo_putBack_144_145 : decs prog_7_method_31_code [(.iconst 0, 1)] 144 145 = true := by decide +kernel
theorem b_Mo_putBack_140_141 : decs prog_7_method_31_code [(.iconst 1, 1)] 140 141 = true := by decide +kernel
theorem d_Mo_putBack_141 : decode prog_7_method_31_code 141 = .ok (.goto 4, 3) := by decide +kernel
set_option maxRecDepth 100000 in
set_option maxHeartbeats 4000000 in
theorem c_Mo_putBack (l : Launch) (G : GG) (A : Nat → Prop) (ad : Nat → Nat) (w0 : WF) (sc : Nat → Int32) (ar : Nat → Nat → Int32) (sc0 : Nat → Int32) (ar0 : Nat → Nat → Int32) (h8 : sc0 8 = 0 ∨ sc0 8 = 1) (hz : Z01 (ar0 17)) : Met l y_Mo_putBack (Cond.code y_Mo_putBack prog_7_method_31_code 2 none :: wt) { frames := 0, cells := 0, slots := 0, locals := 0 } (Pre G A (mW G ad w0 sc (va_up (va_up ar 18 (svN sc0 ar0)) 19 (ar0 17))) (fun _ => True) [.ref (ad 20)]) (Qw A none G (mW G ad w0 (bkS sc sc0 ar0) (bkA (va_up (va_up ar 18 (svN sc0 ar0)) 19 (ar0 17)) ar0))) 0 0 A := by
  refine mt_of (by decide) (Nat.le_of_ble_eq_true rfl) ?_
  intro p e s m below meth c ls C hH hA hE hr hmn hl
  have hl : lv_has ls 2 [(0, .ref (ad 20))] := hl
  refine x_sx C b_Mo_putBack_0_4 hl (L' := [(1, .int 0), (0, .ref (ad 20))]) (st' := [.int 3, .int 0]) rfl (fun ls hl => ?_)
  refine lv_icmp_ge (tgt := 84) C.1 C.2.1 d_Mo_putBack_4 (by decide) (fun h1 => ?_) (fun h1 => ?_)
  · exact absurd h1 (by decide)
  refine x_sx C b_Mo_putBack_7_8 hl (L' := [(1, .int 0), (0, .ref (ad 20))]) (st' := [.ref (ad 20)]) rfl (fun ls hl => ?_)
  refine x_get C hH.1 1000 mW_o 19 (v := .ref (ad 12)) rfl rfl (by decide) t_661 (fun _ z => z) d_Mo_putBack_8 ?_
  refine x_sx C b_Mo_putBack_11_13 hl (L' := [(1, .int 0), (0, .ref (ad 20))]) (st' := [.ref (ad 20), .int 0, .ref (ad 12)]) rfl (fun ls hl => ?_)
  refine x_get C hH.1 1000 mW_o 31 (v := .ref (ad 18)) rfl rfl (by decide) t_673 (fun _ z => z) d_Mo_putBack_13 ?_
  refine x_sx C b_Mo_putBack_16_17 hl (L' := [(1, .int 0), (0, .ref (ad 20))]) (st' := [.int 0, .ref (ad 18), .int 0, .ref (ad 12)]) rfl (fun ls hl => ?_)
  refine x_ald C hH.1 (1001 + 18) (mW_i 18 (by decide) (by decide) rfl rfl rfl) (N := 20) (f := (svN sc0 ar0)) (j := 0) rfl (by decide) (by decide) d_Mo_putBack_17 ?_
  refine m_ast C hH 12 (by decide) (by decide) rfl (N := 3) rfl (f := (ar 12)) rfl (j := 0) rfl (by decide) d_Mo_putBack_18 (fun H locs hH => ?_)
  refine x_sx C b_Mo_putBack_19_20 hl (L' := [(1, .int 0), (0, .ref (ad 20))]) (st' := [.ref (ad 20)]) rfl (fun ls hl => ?_)
  refine x_get C hH.1 1000 mW_o 20 (v := .ref (ad 13)) rfl rfl (by decide) t_662 (fun _ z => z) d_Mo_putBack_20 ?_
  refine x_sx C b_Mo_putBack_23_25 hl (L' := [(1, .int 0), (0, .ref (ad 20))]) (st' := [.ref (ad 20), .int 0, .ref (ad 13)]) rfl (fun ls hl => ?_)
  refine x_get C hH.1 1000 mW_o 31 (v := .ref (ad 18)) rfl rfl (by decide) t_673 (fun _ z => z) d_Mo_putBack_25 ?_
  refine x_sx C b_Mo_putBack_28_31 hl (L' := [(1, .int 0), (0, .ref (ad 20))]) (st' := [.int (3 + 0), .ref (ad 18), .int 0, .ref (ad 13)]) rfl (fun ls hl => ?_)
  refine x_ald C hH.1 (1001 + 18) (mW_i 18 (by decide) (by decide) rfl rfl rfl) (N := 20) (f := (svN sc0 ar0)) (j := 3) (by decide) (by decide) (by decide) d_Mo_putBack_31 ?_
  refine m_ast C hH 13 (by decide) (by decide) rfl (N := 3) rfl (f := (ar 13)) rfl (j := 0) rfl (by decide) d_Mo_putBack_32 (fun H locs hH => ?_)
  refine x_sx C b_Mo_putBack_33_34 hl (L' := [(1, .int 0), (0, .ref (ad 20))]) (st' := [.ref (ad 20)]) rfl (fun ls hl => ?_)
  refine x_get C hH.1 1000 mW_o 21 (v := .ref (ad 14)) rfl rfl (by decide) t_663 (fun _ z => z) d_Mo_putBack_34 ?_
  refine x_sx C b_Mo_putBack_37_39 hl (L' := [(1, .int 0), (0, .ref (ad 20))]) (st' := [.ref (ad 20), .int 0, .ref (ad 14)]) rfl (fun ls hl => ?_)
  refine x_get C hH.1 1000 mW_o 31 (v := .ref (ad 18)) rfl rfl (by decide) t_673 (fun _ z => z) d_Mo_putBack_39 ?_
  refine x_sx C b_Mo_putBack_42_46 hl (L' := [(1, .int 0), (0, .ref (ad 20))]) (st' := [.int (6 + 0), .ref (ad 18), .int 0, .ref (ad 14)]) rfl (fun ls hl => ?_)
  refine x_ald C hH.1 (1001 + 18) (mW_i 18 (by decide) (by decide) rfl rfl rfl) (N := 20) (f := (svN sc0 ar0)) (j := 6) (by decide) (by decide) (by decide) d_Mo_putBack_46 ?_
  refine m_ast C hH 14 (by decide) (by decide) rfl (N := 3) rfl (f := (ar 14)) rfl (j := 0) rfl (by decide) d_Mo_putBack_47 (fun H locs hH => ?_)
  refine x_sx C b_Mo_putBack_48_49 hl (L' := [(1, .int 0), (0, .ref (ad 20))]) (st' := [.ref (ad 20)]) rfl (fun ls hl => ?_)
  refine x_get C hH.1 1000 mW_o 22 (v := .ref (ad 15)) rfl rfl (by decide) t_664 (fun _ z => z) d_Mo_putBack_49 ?_
  refine x_sx C b_Mo_putBack_52_54 hl (L' := [(1, .int 0), (0, .ref (ad 20))]) (st' := [.ref (ad 20), .int 0, .ref (ad 15)]) rfl (fun ls hl => ?_)
  refine x_get C hH.1 1000 mW_o 31 (v := .ref (ad 18)) rfl rfl (by decide) t_673 (fun _ z => z) d_Mo_putBack_54 ?_
  refine x_sx C b_Mo_putBack_57_61 hl (L' := [(1, .int 0), (0, .ref (ad 20))]) (st' := [.int (9 + 0), .ref (ad 18), .int 0, .ref (ad 15)]) rfl (fun ls hl => ?_)
  refine x_ald C hH.1 (1001 + 18) (mW_i 18 (by decide) (by decide) rfl rfl rfl) (N := 20) (f := (svN sc0 ar0)) (j := 9) (by decide) (by decide) (by decide) d_Mo_putBack_61 ?_
  refine m_ast C hH 15 (by decide) (by decide) rfl (N := 3) rfl (f := (ar 15)) rfl (j := 0) rfl (by decide) d_Mo_putBack_62 (fun H locs hH => ?_)
  refine x_sx C b_Mo_putBack_63_64 hl (L' := [(1, .int 0), (0, .ref (ad 20))]) (st' := [.ref (ad 20)]) rfl (fun ls hl => ?_)
  refine x_get C hH.1 1000 mW_o 23 (v := .ref (ad 16)) rfl rfl (by decide) t_665 (fun _ z => z) d_Mo_putBack_64 ?_
  refine x_sx C b_Mo_putBack_67_69 hl (L' := [(1, .int 0), (0, .ref (ad 20))]) (st' := [.ref (ad 20), .int 0, .ref (ad 16)]) rfl (fun ls hl => ?_)
  refine x_get C hH.1 1000 mW_o 31 (v := .ref (ad 18)) rfl rfl (by decide) t_673 (fun _ z => z) d_Mo_putBack_69 ?_
  refine x_sx C b_Mo_putBack_72_76 hl (L' := [(1, .int 0), (0, .ref (ad 20))]) (st' := [.int (12 + 0), .ref (ad 18), .int 0, .ref (ad 16)]) rfl (fun ls hl => ?_)
  refine x_ald C hH.1 (1001 + 18) (mW_i 18 (by decide) (by decide) rfl rfl rfl) (N := 20) (f := (svN sc0 ar0)) (j := 12) (by decide) (by decide) (by decide) d_Mo_putBack_76 ?_
  refine m_ast C hH 16 (by decide) (by decide) rfl (N := 3) rfl (f := (ar 16)) rfl (j := 0) rfl (by decide) d_Mo_putBack_77 (fun H locs hH => ?_)
  refine x_sx C b_Mo_putBack_78_81 hl (L' := [(1, .int (0 + 1)), (0, .ref (ad 20))]) (st' := []) rfl (fun ls hl => ?_)
  refine x_goto (tgt := 2) C d_Mo_putBack_81 (by decide) ?_
  refine x_sx C b_Mo_putBack_2_4 hl (L' := [(1, .int (0 + 1)), (0, .ref (ad 20))]) (st' := [.int 3, .int (0 + 1)]) rfl (fun ls hl => ?_)
  refine lv_icmp_ge (tgt := 84) C.1 C.2.1 d_Mo_putBack_4 (by decide) (fun h2 => ?_) (fun h2 => ?_)
  · exact absurd h2 (by decide)
  refine x_sx C b_Mo_putBack_7_8 hl (L' := [(1, .int (0 + 1)), (0, .ref (ad 20))]) (st' := [.ref (ad 20)]) rfl (fun ls hl => ?_)
  refine x_get C hH.1 1000 mW_o 19 (v := .ref (ad 12)) rfl rfl (by decide) t_661 (fun _ z => z) d_Mo_putBack_8 ?_
  refine x_sx C b_Mo_putBack_11_13 hl (L' := [(1, .int (0 + 1)), (0, .ref (ad 20))]) (st' := [.ref (ad 20), .int (0 + 1), .ref (ad 12)]) rfl (fun ls hl => ?_)
  refine x_get C hH.1 1000 mW_o 31 (v := .ref (ad 18)) rfl rfl (by decide) t_673 (fun _ z => z) d_Mo_putBack_13 ?_
  refine x_sx C b_Mo_putBack_16_17 hl (L' := [(1, .int (0 + 1)), (0, .ref (ad 20))]) (st' := [.int (0 + 1), .ref (ad 18), .int (0 + 1), .ref (ad 12)]) rfl (fun ls hl => ?_)
  refine x_ald C hH.1 (1001 + 18) (mW_i 18 (by decide) (by decide) rfl rfl rfl) (N := 20) (f := (svN sc0 ar0)) (j := 1) (by decide) (by decide) (by decide) d_Mo_putBack_17 ?_
  refine m_ast C hH 12 (by decide) (by decide) rfl (N := 3) rfl (f := (upd (ar 12) 0 ((svN sc0 ar0) 0))) rfl (j := 1) (by decide) (by decide) d_Mo_putBack_18 (fun H locs hH => ?_)
  refine x_sx C b_Mo_putBack_19_20 hl (L' := [(1, .int (0 + 1)), (0, .ref (ad 20))]) (st' := [.ref (ad 20)]) rfl (fun ls hl => ?_)
  refine x_get C hH.1 1000 mW_o 20 (v := .ref (ad 13)) rfl rfl (by decide) t_662 (fun _ z => z) d_Mo_putBack_20 ?_
  refine x_sx C b_Mo_putBack_23_25 hl (L' := [(1, .int (0 + 1)), (0, .ref (ad 20))]) (st' := [.ref (ad 20), .int (0 + 1), .ref (ad 13)]) rfl (fun ls hl => ?_)
  refine x_get C hH.1 1000 mW_o 31 (v := .ref (ad 18)) rfl rfl (by decide) t_673 (fun _ z => z) d_Mo_putBack_25 ?_
  refine x_sx C b_Mo_putBack_28_31 hl (L' := [(1, .int (0 + 1)), (0, .ref (ad 20))]) (st' := [.int (3 + (0 + 1)), .ref (ad 18), .int (0 + 1), .ref (ad 13)]) rfl (fun ls hl => ?_)
  refine x_ald C hH.1 (1001 + 18) (mW_i 18 (by decide) (by decide) rfl rfl rfl) (N := 20) (f := (svN sc0 ar0)) (j := 4) (by decide) (by decide) (by decide) d_Mo_putBack_31 ?_
  refine m_ast C hH 13 (by decide) (by decide) rfl (N := 3) rfl (f := (upd (ar 13) 0 ((svN sc0 ar0) 3))) rfl (j := 1) (by decide) (by decide) d_Mo_putBack_32 (fun H locs hH => ?_)
  refine x_sx C b_Mo_putBack_33_34 hl (L' := [(1, .int (0 + 1)), (0, .ref (ad 20))]) (st' := [.ref (ad 20)]) rfl (fun ls hl => ?_)
  refine x_get C hH.1 1000 mW_o 21 (v := .ref (ad 14)) rfl rfl (by decide) t_663 (fun _ z => z) d_Mo_putBack_34 ?_
  refine x_sx C b_Mo_putBack_37_39 hl (L' := [(1, .int (0 + 1)), (0, .ref (ad 20))]) (st' := [.ref (ad 20), .int (0 + 1), .ref (ad 14)]) rfl (fun ls hl => ?_)
  refine x_get C hH.1 1000 mW_o 31 (v := .ref (ad 18)) rfl rfl (by decide) t_673 (fun _ z => z) d_Mo_putBack_39 ?_
  refine x_sx C b_Mo_putBack_42_46 hl (L' := [(1, .int (0 + 1)), (0, .ref (ad 20))]) (st' := [.int (6 + (0 + 1)), .ref (ad 18), .int (0 + 1), .ref (ad 14)]) rfl (fun ls hl => ?_)
  refine x_ald C hH.1 (1001 + 18) (mW_i 18 (by decide) (by decide) rfl rfl rfl) (N := 20) (f := (svN sc0 ar0)) (j := 7) (by decide) (by decide) (by decide) d_Mo_putBack_46 ?_
  refine m_ast C hH 14 (by decide) (by decide) rfl (N := 3) rfl (f := (upd (ar 14) 0 ((svN sc0 ar0) 6))) rfl (j := 1) (by decide) (by decide) d_Mo_putBack_47 (fun H locs hH => ?_)
  refine x_sx C b_Mo_putBack_48_49 hl (L' := [(1, .int (0 + 1)), (0, .ref (ad 20))]) (st' := [.ref (ad 20)]) rfl (fun ls hl => ?_)
  refine x_get C hH.1 1000 mW_o 22 (v := .ref (ad 15)) rfl rfl (by decide) t_664 (fun _ z => z) d_Mo_putBack_49 ?_
  refine x_sx C b_Mo_putBack_52_54 hl (L' := [(1, .int (0 + 1)), (0, .ref (ad 20))]) (st' := [.ref (ad 20), .int (0 + 1), .ref (ad 15)]) rfl (fun ls hl => ?_)
  refine x_get C hH.1 1000 mW_o 31 (v := .ref (ad 18)) rfl rfl (by decide) t_673 (fun _ z => z) d_Mo_putBack_54 ?_
  refine x_sx C b_Mo_putBack_57_61 hl (L' := [(1, .int (0 + 1)), (0, .ref (ad 20))]) (st' := [.int (9 + (0 + 1)), .ref (ad 18), .int (0 + 1), .ref (ad 15)]) rfl (fun ls hl => ?_)
  refine x_ald C hH.1 (1001 + 18) (mW_i 18 (by decide) (by decide) rfl rfl rfl) (N := 20) (f := (svN sc0 ar0)) (j := 10) (by decide) (by decide) (by decide) d_Mo_putBack_61 ?_
  refine m_ast C hH 15 (by decide) (by decide) rfl (N := 3) rfl (f := (upd (ar 15) 0 ((svN sc0 ar0) 9))) rfl (j := 1) (by decide) (by decide) d_Mo_putBack_62 (fun H locs hH => ?_)
  refine x_sx C b_Mo_putBack_63_64 hl (L' := [(1, .int (0 + 1)), (0, .ref (ad 20))]) (st' := [.ref (ad 20)]) rfl (fun ls hl => ?_)
  refine x_get C hH.1 1000 mW_o 23 (v := .ref (ad 16)) rfl rfl (by decide) t_665 (fun _ z => z) d_Mo_putBack_64 ?_
  refine x_sx C b_Mo_putBack_67_69 hl (L' := [(1, .int (0 + 1)), (0, .ref (ad 20))]) (st' := [.ref (ad 20), .int (0 + 1), .ref (ad 16)]) rfl (fun ls hl => ?_)
  refine x_get C hH.1 1000 mW_o 31 (v := .ref (ad 18)) rfl rfl (by decide) t_673 (fun _ z => z) d_Mo_putBack_69 ?_
  refine x_sx C b_Mo_putBack_72_76 hl (L' := [(1, .int (0 + 1)), (0, .ref (ad 20))]) (st' := [.int (12 + (0 + 1)), .ref (ad 18), .int (0 + 1), .ref (ad 16)]) rfl (fun ls hl => ?_)
  refine x_ald C hH.1 (1001 + 18) (mW_i 18 (by decide) (by decide) rfl rfl rfl) (N := 20) (f := (svN sc0 ar0)) (j := 13) (by decide) (by decide) (by decide) d_Mo_putBack_76 ?_
  refine m_ast C hH 16 (by decide) (by decide) rfl (N := 3) rfl (f := (upd (ar 16) 0 ((svN sc0 ar0) 12))) rfl (j := 1) (by decide) (by decide) d_Mo_putBack_77 (fun H locs hH => ?_)
  refine x_sx C b_Mo_putBack_78_81 hl (L' := [(1, .int ((0 + 1) + 1)), (0, .ref (ad 20))]) (st' := []) rfl (fun ls hl => ?_)
  refine x_goto (tgt := 2) C d_Mo_putBack_81 (by decide) ?_
  refine x_sx C b_Mo_putBack_2_4 hl (L' := [(1, .int ((0 + 1) + 1)), (0, .ref (ad 20))]) (st' := [.int 3, .int ((0 + 1) + 1)]) rfl (fun ls hl => ?_)
  refine lv_icmp_ge (tgt := 84) C.1 C.2.1 d_Mo_putBack_4 (by decide) (fun h3 => ?_) (fun h3 => ?_)
  · exact absurd h3 (by decide)
  refine x_sx C b_Mo_putBack_7_8 hl (L' := [(1, .int ((0 + 1) + 1)), (0, .ref (ad 20))]) (st' := [.ref (ad 20)]) rfl (fun ls hl => ?_)
  refine x_get C hH.1 1000 mW_o 19 (v := .ref (ad 12)) rfl rfl (by decide) t_661 (fun _ z => z) d_Mo_putBack_8 ?_
  refine x_sx C b_Mo_putBack_11_13 hl (L' := [(1, .int ((0 + 1) + 1)), (0, .ref (ad 20))]) (st' := [.ref (ad 20), .int ((0 + 1) + 1), .ref (ad 12)]) rfl (fun ls hl => ?_)
  refine x_get C hH.1 1000 mW_o 31 (v := .ref (ad 18)) rfl rfl (by decide) t_673 (fun _ z => z) d_Mo_putBack_13 ?_
  refine x_sx C b_Mo_putBack_16_17 hl (L' := [(1, .int ((0 + 1) + 1)), (0, .ref (ad 20))]) (st' := [.int ((0 + 1) + 1), .ref (ad 18), .int ((0 + 1) + 1), .ref (ad 12)]) rfl (fun ls hl => ?_)
  refine x_ald C hH.1 (1001 + 18) (mW_i 18 (by decide) (by decide) rfl rfl rfl) (N := 20) (f := (svN sc0 ar0)) (j := 2) (by decide) (by decide) (by decide) d_Mo_putBack_17 ?_
  refine m_ast C hH 12 (by decide) (by decide) rfl (N := 3) rfl (f := (upd (upd (ar 12) 0 ((svN sc0 ar0) 0)) 1 ((svN sc0 ar0) 1))) rfl (j := 2) (by decide) (by decide) d_Mo_putBack_18 (fun H locs hH => ?_)
  refine x_sx C b_Mo_putBack_19_20 hl (L' := [(1, .int ((0 + 1) + 1)), (0, .ref (ad 20))]) (st' := [.ref (ad 20)]) rfl (fun ls hl => ?_)
  refine x_get C hH.1 1000 mW_o 20 (v := .ref (ad 13)) rfl rfl (by decide) t_662 (fun _ z => z) d_Mo_putBack_20 ?_
  refine x_sx C b_Mo_putBack_23_25 hl (L' := [(1, .int ((0 + 1) + 1)), (0, .ref (ad 20))]) (st' := [.ref (ad 20), .int ((0 + 1) + 1), .ref (ad 13)]) rfl (fun ls hl => ?_)
  refine x_get C hH.1 1000 mW_o 31 (v := .ref (ad 18)) rfl rfl (by decide) t_673 (fun _ z => z) d_Mo_putBack_25 ?_
  refine x_sx C b_Mo_putBack_28_31 hl (L' := [(1, .int ((0 + 1) + 1)), (0, .ref (ad 20))]) (st' := [.int (3 + ((0 + 1) + 1)), .ref (ad 18), .int ((0 + 1) + 1), .ref (ad 13)]) rfl (fun ls hl => ?_)
  refine x_ald C hH.1 (1001 + 18) (mW_i 18 (by decide) (by decide) rfl rfl rfl) (N := 20) (f := (svN sc0 ar0)) (j := 5) (by decide) (by decide) (by decide) d_Mo_putBack_31 ?_
  refine m_ast C hH 13 (by decide) (by decide) rfl (N := 3) rfl (f := (upd (upd (ar 13) 0 ((svN sc0 ar0) 3)) 1 ((svN sc0 ar0) 4))) rfl (j := 2) (by decide) (by decide) d_Mo_putBack_32 (fun H locs hH => ?_)
  refine x_sx C b_Mo_putBack_33_34 hl (L' := [(1, .int ((0 + 1) + 1)), (0, .ref (ad 20))]) (st' := [.ref (ad 20)]) rfl (fun ls hl => ?_)
  refine x_get C hH.1 1000 mW_o 21 (v := .ref (ad 14)) rfl rfl (by decide) t_663 (fun _ z => z) d_Mo_putBack_34 ?_
  refine x_sx C b_Mo_putBack_37_39 hl (L' := [(1, .int ((0 + 1) + 1)), (0, .ref (ad 20))]) (st' := [.ref (ad 20), .int ((0 + 1) + 1), .ref (ad 14)]) rfl (fun ls hl => ?_)
  refine x_get C hH.1 1000 mW_o 31 (v := .ref (ad 18)) rfl rfl (by decide) t_673 (fun _ z => z) d_Mo_putBack_39 ?_
  refine x_sx C b_Mo_putBack_42_46 hl (L' := [(1, .int ((0 + 1) + 1)), (0, .ref (ad 20))]) (st' := [.int (6 + ((0 + 1) + 1)), .ref (ad 18), .int ((0 + 1) + 1), .ref (ad 14)]) rfl (fun ls hl => ?_)
  refine x_ald C hH.1 (1001 + 18) (mW_i 18 (by decide) (by decide) rfl rfl rfl) (N := 20) (f := (svN sc0 ar0)) (j := 8) (by decide) (by decide) (by decide) d_Mo_putBack_46 ?_
  refine m_ast C hH 14 (by decide) (by decide) rfl (N := 3) rfl (f := (upd (upd (ar 14) 0 ((svN sc0 ar0) 6)) 1 ((svN sc0 ar0) 7))) rfl (j := 2) (by decide) (by decide) d_Mo_putBack_47 (fun H locs hH => ?_)
  refine x_sx C b_Mo_putBack_48_49 hl (L' := [(1, .int ((0 + 1) + 1)), (0, .ref (ad 20))]) (st' := [.ref (ad 20)]) rfl (fun ls hl => ?_)
  refine x_get C hH.1 1000 mW_o 22 (v := .ref (ad 15)) rfl rfl (by decide) t_664 (fun _ z => z) d_Mo_putBack_49 ?_
  refine x_sx C b_Mo_putBack_52_54 hl (L' := [(1, .int ((0 + 1) + 1)), (0, .ref (ad 20))]) (st' := [.ref (ad 20), .int ((0 + 1) + 1), .ref (ad 15)]) rfl (fun ls hl => ?_)
  refine x_get C hH.1 1000 mW_o 31 (v := .ref (ad 18)) rfl rfl (by decide) t_673 (fun _ z => z) d_Mo_putBack_54 ?_
  refine x_sx C b_Mo_putBack_57_61 hl (L' := [(1, .int ((0 + 1) + 1)), (0, .ref (ad 20))]) (st' := [.int (9 + ((0 + 1) + 1)), .ref (ad 18), .int ((0 + 1) + 1), .ref (ad 15)]) rfl (fun ls hl => ?_)
  refine x_ald C hH.1 (1001 + 18) (mW_i 18 (by decide) (by decide) rfl rfl rfl) (N := 20) (f := (svN sc0 ar0)) (j := 11) (by decide) (by decide) (by decide) d_Mo_putBack_61 ?_
  refine m_ast C hH 15 (by decide) (by decide) rfl (N := 3) rfl (f := (upd (upd (ar 15) 0 ((svN sc0 ar0) 9)) 1 ((svN sc0 ar0) 10))) rfl (j := 2) (by decide) (by decide) d_Mo_putBack_62 (fun H locs hH => ?_)
  refine x_sx C b_Mo_putBack_63_64 hl (L' := [(1, .int ((0 + 1) + 1)), (0, .ref (ad 20))]) (st' := [.ref (ad 20)]) rfl (fun ls hl => ?_)
  refine x_get C hH.1 1000 mW_o 23 (v := .ref (ad 16)) rfl rfl (by decide) t_665 (fun _ z => z) d_Mo_putBack_64 ?_
  refine x_sx C b_Mo_putBack_67_69 hl (L' := [(1, .int ((0 + 1) + 1)), (0, .ref (ad 20))]) (st' := [.ref (ad 20), .int ((0 + 1) + 1), .ref (ad 16)]) rfl (fun ls hl => ?_)
  refine x_get C hH.1 1000 mW_o 31 (v := .ref (ad 18)) rfl rfl (by decide) t_673 (fun _ z => z) d_Mo_putBack_69 ?_
  refine x_sx C b_Mo_putBack_72_76 hl (L' := [(1, .int ((0 + 1) + 1)), (0, .ref (ad 20))]) (st' := [.int (12 + ((0 + 1) + 1)), .ref (ad 18), .int ((0 + 1) + 1), .ref (ad 16)]) rfl (fun ls hl => ?_)
  refine x_ald C hH.1 (1001 + 18) (mW_i 18 (by decide) (by decide) rfl rfl rfl) (N := 20) (f := (svN sc0 ar0)) (j := 14) (by decide) (by decide) (by decide) d_Mo_putBack_76 ?_
  refine m_ast C hH 16 (by decide) (by decide) rfl (N := 3) rfl (f := (upd (upd (ar 16) 0 ((svN sc0 ar0) 12)) 1 ((svN sc0 ar0) 13))) rfl (j := 2) (by decide) (by decide) d_Mo_putBack_77 (fun H locs hH => ?_)
  refine x_sx C b_Mo_putBack_78_81 hl (L' := [(1, .int (((0 + 1) + 1) + 1)), (0, .ref (ad 20))]) (st' := []) rfl (fun ls hl => ?_)
  refine x_goto (tgt := 2) C d_Mo_putBack_81 (by decide) ?_
  refine x_sx C b_Mo_putBack_2_4 hl (L' := [(1, .int (((0 + 1) + 1) + 1)), (0, .ref (ad 20))]) (st' := [.int 3, .int (((0 + 1) + 1) + 1)]) rfl (fun ls hl => ?_)
  refine lv_icmp_ge (tgt := 84) C.1 C.2.1 d_Mo_putBack_4 (by decide) (fun h4 => ?_) (fun h4 => ?_)
  rotate_left
  · exact absurd (by decide) h4
  refine x_sx C b_Mo_putBack_84_86 hl (L' := [(1, .int (((0 + 1) + 1) + 1)), (0, .ref (ad 20))]) (st' := [.ref (ad 20), .ref (ad 20)]) rfl (fun ls hl => ?_)
  refine x_get C hH.1 1000 mW_o 31 (v := .ref (ad 18)) rfl rfl (by decide) t_673 (fun _ z => z) d_Mo_putBack_86 ?_
  refine x_sx C b_Mo_putBack_89_91 hl (L' := [(1, .int (((0 + 1) + 1) + 1)), (0, .ref (ad 20))]) (st' := [.int 15, .ref (ad 18), .ref (ad 20)]) rfl (fun ls hl => ?_)
  refine x_ald C hH.1 (1001 + 18) (mW_i 18 (by decide) (by decide) rfl rfl rfl) (N := 20) (f := (svN sc0 ar0)) (j := 15) rfl (by decide) (by decide) d_Mo_putBack_91 ?_
  refine m_put C hH 24 7 rfl (by decide) t_666 rfl rfl rfl rfl d_Mo_putBack_92 (fun H locs hH => ?_)
  refine x_sx C b_Mo_putBack_95_97 hl (L' := [(1, .int (((0 + 1) + 1) + 1)), (0, .ref (ad 20))]) (st' := [.ref (ad 20), .ref (ad 20)]) rfl (fun ls hl => ?_)
  refine x_get C hH.1 1000 mW_o 31 (v := .ref (ad 18)) rfl rfl (by decide) t_673 (fun _ z => z) d_Mo_putBack_97 ?_
  refine x_sx C b_Mo_putBack_100_102 hl (L' := [(1, .int (((0 + 1) + 1) + 1)), (0, .ref (ad 20))]) (st' := [.int 16, .ref (ad 18), .ref (ad 20)]) rfl (fun ls hl => ?_)
  refine x_ald C hH.1 (1001 + 18) (mW_i 18 (by decide) (by decide) rfl rfl rfl) (N := 20) (f := (svN sc0 ar0)) (j := 16) rfl (by decide) (by decide) d_Mo_putBack_102 ?_
  refine m_put C hH 26 9 rfl (by decide) t_668 rfl rfl rfl rfl d_Mo_putBack_103 (fun H locs hH => ?_)
  refine x_sx C b_Mo_putBack_106_108 hl (L' := [(1, .int (((0 + 1) + 1) + 1)), (0, .ref (ad 20))]) (st' := [.ref (ad 20), .ref (ad 20)]) rfl (fun ls hl => ?_)
  refine x_get C hH.1 1000 mW_o 31 (v := .ref (ad 18)) rfl rfl (by decide) t_673 (fun _ z => z) d_Mo_putBack_108 ?_
  refine x_sx C b_Mo_putBack_111_113 hl (L' := [(1, .int (((0 + 1) + 1) + 1)), (0, .ref (ad 20))]) (st' := [.int 17, .ref (ad 18), .ref (ad 20)]) rfl (fun ls hl => ?_)
  refine x_ald C hH.1 (1001 + 18) (mW_i 18 (by decide) (by decide) rfl rfl rfl) (N := 20) (f := (svN sc0 ar0)) (j := 17) rfl (by decide) (by decide) d_Mo_putBack_113 ?_
  refine m_put C hH 27 10 rfl (by decide) t_669 rfl rfl rfl rfl d_Mo_putBack_114 (fun H locs hH => ?_)
  refine x_sx C b_Mo_putBack_117_119 hl (L' := [(1, .int (((0 + 1) + 1) + 1)), (0, .ref (ad 20))]) (st' := [.ref (ad 20), .ref (ad 20)]) rfl (fun ls hl => ?_)
  refine x_get C hH.1 1000 mW_o 31 (v := .ref (ad 18)) rfl rfl (by decide) t_673 (fun _ z => z) d_Mo_putBack_119 ?_
  refine x_sx C b_Mo_putBack_122_124 hl (L' := [(1, .int (((0 + 1) + 1) + 1)), (0, .ref (ad 20))]) (st' := [.int 18, .ref (ad 18), .ref (ad 20)]) rfl (fun ls hl => ?_)
  refine x_ald C hH.1 (1001 + 18) (mW_i 18 (by decide) (by decide) rfl rfl rfl) (N := 20) (f := (svN sc0 ar0)) (j := 18) rfl (by decide) (by decide) d_Mo_putBack_124 ?_
  refine m_put C hH 28 11 rfl (by decide) t_670 rfl rfl rfl rfl d_Mo_putBack_125 (fun H locs hH => ?_)
  refine x_sx C b_Mo_putBack_128_130 hl (L' := [(1, .int (((0 + 1) + 1) + 1)), (0, .ref (ad 20))]) (st' := [.ref (ad 20), .ref (ad 20)]) rfl (fun ls hl => ?_)
  refine x_get C hH.1 1000 mW_o 31 (v := .ref (ad 18)) rfl rfl (by decide) t_673 (fun _ z => z) d_Mo_putBack_130 ?_
  refine x_sx C b_Mo_putBack_133_135 hl (L' := [(1, .int (((0 + 1) + 1) + 1)), (0, .ref (ad 20))]) (st' := [.int 19, .ref (ad 18), .ref (ad 20)]) rfl (fun ls hl => ?_)
  refine x_ald C hH.1 (1001 + 18) (mW_i 18 (by decide) (by decide) rfl rfl rfl) (N := 20) (f := (svN sc0 ar0)) (j := 19) rfl (by decide) (by decide) d_Mo_putBack_135 ?_
  refine x_sx C b_Mo_putBack_136_137 hl (L' := [(1, .int (((0 + 1) + 1) + 1)), (0, .ref (ad 20))]) (st' := [.int 1, .int ((svN sc0 ar0) 19), .ref (ad 20)]) rfl (fun ls hl => ?_)
  have hH : Hw G A s (mW G ad w0 (va_up (va_up (va_up (va_up sc 7 ((svN sc0 ar0) 15)) 9 ((svN sc0 ar0) 16)) 10 ((svN sc0 ar0) 17)) 11 ((svN sc0 ar0) 18)) (va_up (va_up (va_up (va_up (va_up (va_up (va_up ar 18 (svN sc0 ar0)) 19 (ar0 17)) 12 (ar0 12)) 13 (ar0 13)) 14 (ar0 14)) 15 (ar0 15)) 16 (ar0 16))) H locs := by
    refine hH.mcongr (fun i h0 h1 j hj => ?_)
    rcases (show i = 12 ∨ i = 13 ∨ i = 14 ∨ i = 15 ∨ i = 16 ∨ (i ≠ 12 ∧ i ≠ 13 ∧ i ≠ 14 ∧ i ≠ 15 ∧ i ≠ 16) by omega) with rfl | rfl | rfl | rfl | rfl | ⟨q1, q2, q3, q4, q5⟩
    · have hj : j < 3 := hj
      rcases (show j = 0 ∨ j = 1 ∨ j = 2 by omega) with rfl | rfl | rfl <;> rfl
    · have hj : j < 3 := hj
      rcases (show j = 0 ∨ j = 1 ∨ j = 2 by omega) with rfl | rfl | rfl <;> rfl
    · have hj : j < 3 := hj
      rcases (show j = 0 ∨ j = 1 ∨ j = 2 by omega) with rfl | rfl | rfl <;> rfl
    · have hj : j < 3 := hj
      rcases (show j = 0 ∨ j = 1 ∨ j = 2 by omega) with rfl | rfl | rfl <;> rfl
    · have hj : j < 3 := hj
      rcases (show j = 0 ∨ j = 1 ∨ j = 2 by omega) with rfl | rfl | rfl <;> rfl
    · simp only [va_up, q1, q2, q3, q4, q5, if_false]
  refine x_join (X := Unit) (nL := 2) (fun _ => True) (fun _ => [(1, .int (((0 + 1) + 1) + 1)), (0, .ref (ad 20))]) (fun _ => [.int (sc0 8), .ref (ad 20)]) 145 (fun ls _ hl _ => ?_) (fun J6 => ?_)
  · have hl : lv_has ls 2 [(1, .int (((0 + 1) + 1) + 1)), (0, .ref (ad 20))] := hl
    refine m_put C hH 25 8 rfl (by decide) t_667 rfl rfl (by rcases h8 with z | z <;> rw [z] <;> rfl) (by rcases h8 with z | z <;> rw [z] <;> rfl) d_Mo_putBack_145 (fun H locs hH => ?_)
    have hH : Hw G A s (mW G ad w0 (va_up (va_up (va_up (va_up (va_up sc 7 (sc0 7)) 9 (sc0 9)) 10 (sc0 10)) 11 (sc0 11)) 8 (sc0 8)) (va_up (va_up (va_up (va_up (va_up (va_up (va_up ar 18 (svN sc0 ar0)) 19 (ar0 17)) 12 (ar0 12)) 13 (ar0 13)) 14 (ar0 14)) 15 (ar0 15)) 16 (ar0 16))) H locs := hH
    refine x_sx C b_Mo_putBack_148_150 hl (L' := [(1, .int (((0 + 1) + 1) + 1)), (0, .ref (ad 20))]) (st' := [.int 0, .ref (ad 20)]) rfl (fun ls hl => ?_)
    refine m_put C hH 29 12 rfl (by decide) t_671 rfl rfl rfl rfl d_Mo_putBack_150 (fun H locs hH => ?_)
    refine x_sx C b_Mo_putBack_153_155 hl (L' := [(1, .int 0), (0, .ref (ad 20))]) (st' := []) rfl (fun ls hl => ?_)
    have hH : Hw G A s (mW G ad w0 (va_up (va_up (va_up (va_up (va_up (va_up sc 7 (sc0 7)) 9 (sc0 9)) 10 (sc0 10)) 11 (sc0 11)) 8 (sc0 8)) 12 (nI (cntN (ar0 17) 0))) (va_up (va_up (va_up (va_up (va_up (va_up (va_up (va_up ar 18 (svN sc0 ar0)) 19 (ar0 17)) 12 (ar0 12)) 13 (ar0 13)) 14 (ar0 14)) 15 (ar0 15)) 16 (ar0 16)) 17 (ar 17))) H locs := by rw [cntN_z, show va_up (va_up (va_up (va_up (va_up (va_up (va_up (va_up ar 18 (svN sc0 ar0)) 19 (ar0 17)) 12 (ar0 12)) 13 (ar0 13)) 14 (ar0 14)) 15 (ar0 15)) 16 (ar0 16)) 17 (ar 17) = (va_up (va_up (va_up (va_up (va_up (va_up (va_up ar 18 (svN sc0 ar0)) 19 (ar0 17)) 12 (ar0 12)) 13 (ar0 13)) 14 (ar0 14)) 15 (ar0 15)) 16 (ar0 16)) from up_id _ 17 _ rfl]; exact hH
    refine x_loop (X := Nat × (Nat → Int32)) (fun x => 4096 - x.1) (fun x H locs => x.1 ≤ 4096 ∧ (∀ j, j < x.1 → x.2 j = ar0 17 j) ∧ Hw G A s (mW G ad w0 (va_up (va_up (va_up (va_up (va_up (va_up sc 7 (sc0 7)) 9 (sc0 9)) 10 (sc0 10)) 11 (sc0 11)) 8 (sc0 8)) 12 (nI (cntN (ar0 17) x.1))) (va_up (va_up (va_up (va_up (va_up (va_up (va_up (va_up ar 18 (svN sc0 ar0)) 19 (ar0 17)) 12 (ar0 12)) 13 (ar0 13)) 14 (ar0 14)) 15 (ar0 15)) 16 (ar0 16)) 17 x.2)) H locs) (fun x => [(0, .ref (ad 20)), (1, .int (nI x.1))]) 155 ?_ (0, ar 17) _ _ _ ⟨Nat.zero_le _, fun j hj => absurd hj (Nat.not_lt_zero j), hH⟩ (lv_sub hl [1, 0] rfl)
    intro x H locs ls hI hl IH1
    obtain ⟨k, f⟩ := x
    obtain ⟨hk, hf, hH⟩ := hI
    dsimp only at hk hf hH IH1
    have hl : lv_has ls 2 [(0, .ref (ad 20)), (1, .int (nI k))] := hl
    refine x_sx C b_Mo_putBack_155_159 hl (L' := [(0, .ref (ad 20)), (1, .int (nI k))]) (st' := [.int 4096, .int (nI k)]) rfl (fun ls hl => ?_)
    refine lv_icmp_ge (tgt := 206) C.1 C.2.1 d_Mo_putBack_159 (by decide) (fun hb => ?_) (fun hb => ?_)
    · have e1 : k = 4096 := by rw [show (4096 : Int32) = nI 4096 from rfl, nI_leI (by omega) (by omega)] at hb; omega
      have hH : Hw G A s (mW G ad w0 (bkS sc sc0 ar0) (bkA (va_up (va_up ar 18 (svN sc0 ar0)) 19 (ar0 17)) ar0)) H locs := by
        rw [e1] at hH
        have h2 : Hw G A s (mW G ad w0 (bkS sc sc0 ar0) (va_up (va_up (va_up (va_up (va_up (va_up (va_up (va_up ar 18 (svN sc0 ar0)) 19 (ar0 17)) 12 (ar0 12)) 13 (ar0 13)) 14 (ar0 14)) 15 (ar0 15)) 16 (ar0 16)) 17 f)) H locs := hH
        refine h2.mcongr (fun i h0 h1 j hj => ?_)
        unfold bkA
        by_cases e : i = 17
        · subst e; rw [up_s, up_s]; exact hf j (by rw [e1]; exact hj)
        · rw [up_n _ _ e, up_n _ _ e]
      exact x_vrt C hr hH.2.2 ⟨rfl, hH.1, hH.2.1⟩ (Nat.le_refl _) (Nat.le_refl _) d_Mo_putBack_206
    · have hk4 : k < 4096 := by rw [show (4096 : Int32) = nI 4096 from rfl, nI_leI (by omega) (by omega)] at hb; omega
      refine x_sx C b_Mo_putBack_162_163 hl (L' := [(0, .ref (ad 20)), (1, .int (nI k))]) (st' := [.ref (ad 20)]) rfl (fun ls hl => ?_)
      refine x_get C hH.1 1000 mW_o 30 (v := .ref (ad 17)) rfl rfl (by decide) t_672 (fun _ z => z) d_Mo_putBack_163 ?_
      refine x_sx C b_Mo_putBack_166_168 hl (L' := [(0, .ref (ad 20)), (1, .int (nI k))]) (st' := [.ref (ad 20), .int (nI k), .ref (ad 17)]) rfl (fun ls hl => ?_)
      refine x_get C hH.1 1000 mW_o 32 (v := .ref (ad 19)) rfl rfl (by decide) t_674 (fun _ z => z) d_Mo_putBack_168 ?_
      refine x_sx C b_Mo_putBack_171_172 hl (L' := [(0, .ref (ad 20)), (1, .int (nI k))]) (st' := [.int (nI k), .ref (ad 19), .int (nI k), .ref (ad 17)]) rfl (fun ls hl => ?_)
      refine x_zld C hH.1 (1001 + 19) (mW_z 19 (by decide) (by decide) rfl rfl rfl) (N := 4096) (f := ar0 17) (j := k) rfl hk4 (by decide) d_Mo_putBack_172 ?_
      refine m_zst C hH 17 (by decide) (by decide) rfl (N := 4096) rfl (f := f) rfl (j := k) rfl hk4 (by rcases hz k hk4 with z | z <;> rw [z] <;> rfl) d_Mo_putBack_173 (fun H locs hH => ?_)
      rw [bx_uu] at hH
      refine x_join (X := Unit) (nL := 2) (fun _ => True) (fun _ => [(0, .ref (ad 20)), (1, .int (nI k))]) (fun _ => [.int (nI (cntN (ar0 17) (k + 1))), .ref (ad 20)]) 197 (fun ls _ hl _ => ?_) (fun J7 => ?_)
      · have hl : lv_has ls 2 [(0, .ref (ad 20)), (1, .int (nI k))] := hl
        refine m_put C hH 29 12 rfl (by decide) t_671 rfl rfl rfl rfl d_Mo_putBack_197 (fun H locs hH => ?_)
        rw [bx_uu] at hH
        refine x_sx C b_Mo_putBack_200_203 hl (L' := [(1, .int ((nI k) + 1)), (0, .ref (ad 20))]) (st' := []) rfl (fun ls hl => ?_)
        refine x_goto (tgt := 155) C d_Mo_putBack_203 (by decide) ?_
        exact IH1 (k + 1, upd f k (ar0 17 k)) _ _ _ (by show 4096 - (k + 1) < 4096 - k; omega) ⟨by show k + 1 ≤ 4096; omega, fun j hj => (by show upd f k (ar0 17 k) j = ar0 17 j; unfold upd; split; (rename_i e; rw [e]); exact hf j (by have : j < k + 1 := hj; omega)), hH⟩ (by rw [← nI_1]; exact (lv_sub hl [1, 0] rfl))
      · refine x_sx C b_Mo_putBack_174_176 hl (L' := [(0, .ref (ad 20)), (1, .int (nI k))]) (st' := [.ref (ad 20), .ref (ad 20)]) rfl (fun ls hl => ?_)
        refine x_get C hH.1 1000 mW_o 30 (v := .ref (ad 17)) rfl rfl (by decide) t_672 (fun _ z => z) d_Mo_putBack_176 ?_
        refine x_sx C b_Mo_putBack_179_180 hl (L' := [(0, .ref (ad 20)), (1, .int (nI k))]) (st' := [.int (nI k), .ref (ad 17), .ref (ad 20)]) rfl (fun ls hl => ?_)
        refine x_zld C hH.1 (1001 + 17) (mW_z 17 (by decide) (by decide) rfl rfl rfl) (N := 4096) (f := upd f k (ar0 17 k)) (j := k) rfl hk4 (by decide) d_Mo_putBack_180 ?_
        rw [pk_us]
        refine lv_if_eq (tgt := 193) C.1 C.2.1 d_Mo_putBack_181 (by decide) (fun hq => ?_) (fun hq => ?_)
        · refine x_sx C b_Mo_putBack_193_194 hl (L' := [(0, .ref (ad 20)), (1, .int (nI k))]) (st' := [.ref (ad 20), .ref (ad 20)]) rfl (fun ls hl => ?_)
          refine x_get C hH.1 1000 mW_o 29 (v := .int (nI (cntN (ar0 17) k))) rfl rfl (by decide) t_671 (fun _ z => z) d_Mo_putBack_194 ?_
          have q := J7 ls () hl trivial
          try dsimp only at q
          rw [cntN_s, hq, if_neg (by decide), Nat.add_zero] at q
          exact q
        · refine x_sx C b_Mo_putBack_184_185 hl (L' := [(0, .ref (ad 20)), (1, .int (nI k))]) (st' := [.ref (ad 20), .ref (ad 20)]) rfl (fun ls hl => ?_)
          refine x_get C hH.1 1000 mW_o 29 (v := .int (nI (cntN (ar0 17) k))) rfl rfl (by decide) t_671 (fun _ z => z) d_Mo_putBack_185 ?_
          refine x_sx C b_Mo_putBack_188_190 hl (L' := [(0, .ref (ad 20)), (1, .int (nI k))]) (st' := [.int ((nI (cntN (ar0 17) k)) + 1), .ref (ad 20)]) rfl (fun ls hl => ?_)
          refine x_goto (tgt := 197) C d_Mo_putBack_190 (by decide) ?_
          have q := J7 ls () hl trivial
          try dsimp only at q
          rw [cntN_s, if_pos ((hz k hk4).resolve_left hq), ← nI_1] at q
          exact q
  · refine lv_icmp_ne (tgt := 144) C.1 C.2.1 d_Mo_putBack_137 (by decide) (fun hq => ?_) (fun hq => ?_)
    · have e8 : sc0 8 = 0 := by rcases h8 with z | z; exact z; exact absurd (by show (if sc0 8 = 0 then (0 : Int32) else 1) = 1; rw [z]; rfl) hq
      refine x_sx C b_Mo_putBack_144_145 hl (L' := [(1, .int (((0 + 1) + 1) + 1)), (0, .ref (ad 20))]) (st' := [.int 0, .ref (ad 20)]) rfl (fun ls hl => ?_)
      have q := J6 ls () hl trivial
      try dsimp only at q
      rw [e8] at q
      exact q
    · have e8 : sc0 8 = 1 := by rcases h8 with z | z; exact absurd (show (if sc0 8 = 0 then (0 : Int32) else 1) = 1 from hq) (by rw [if_pos z]; decide); exact z
      refine x_sx C b_Mo_putBack_140_141 hl (L' := [(1, .int (((0 + 1) + 1) + 1)), (0, .ref (ad 20))]) (st' := [.int 1, .ref (ad 20)]) rfl (fun ls hl => ?_)
      refine x_goto (tgt := 145) C d_Mo_putBack_141 (by decide) ?_
      have q := J6 ls () hl trivial
      try dsimp only at q
      rw [e8] at q
      exact q
theorem hd_Mo_putBack : hdP y_Mo_putBack 0 := ⟨by decide +kernel, by decide +kernel, by decide +kernel⟩
