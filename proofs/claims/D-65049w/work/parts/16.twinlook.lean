theorem b_Mo_hang_0_1 : decs prog_7_method_8_code [(.aload_n 0, 1)] 0 1 = true := by decide +kernel
theorem d_Mo_hang_1 : decode prog_7_method_8_code 1 = .ok (.getfield 57, 3) := by decide +kernel
theorem b_Mo_hang_4_7 : decs prog_7_method_8_code [(.iload_n 1, 1), (.iconst 1, 1), (.isub, 1)] 4 7 = true := by decide +kernel
theorem d_Mo_hang_7 : decode prog_7_method_8_code 7 = .ok (.iaload, 1) := by decide +kernel
theorem b_Mo_hang_8_10 : decs prog_7_method_8_code [(.istore_n 2, 1), (.aload_n 0, 1)] 8 10 = true := by decide +kernel
theorem d_Mo_hang_10 : decode prog_7_method_8_code 10 = .ok (.getfield 51, 3) := by decide +kernel
theorem b_Mo_hang_13_15 : decs prog_7_method_8_code [(.iload_n 1, 1), (.aload_n 0, 1)] 13 15 = true := by decide +kernel
theorem d_Mo_hang_15 : decode prog_7_method_8_code 15 = .ok (.getfield 51, 3) := by decide +kernel
theorem b_Mo_hang_18_21 : decs prog_7_method_8_code [(.iload_n 1, 1), (.iconst 1, 1), (.isub, 1)] 18 21 = true := by decide +kernel
theorem d_Mo_hang_21 : decode prog_7_method_8_code 21 = .ok (.iaload, 1) := by decide +kernel
theorem b_Mo_hang_22_23 : decs prog_7_method_8_code [(.aload_n 0, 1)] 22 23 = true := by decide +kernel
theorem d_Mo_hang_23 : decode prog_7_method_8_code 23 = .ok (.getfield 16, 3) := by decide +kernel
theorem b_Mo_hang_26_29 : decs prog_7_method_8_code [(.iload_n 1, 1), (.iconst 1, 1), (.isub, 1)] 26 29 = true := by decide +kernel
theorem d_Mo_hang_29 : decode prog_7_method_8_code 29 = .ok (.iaload, 1) := by decide +kernel
theorem b_Mo_hang_30_32 : decs prog_7_method_8_code [(.aload_n 0, 1), (.iload_n 2, 1)] 30 32 = true := by decide +kernel
theorem d_Mo_hang_32 : decode prog_7_method_8_code 32 = .ok (.invokevirtual 90, 3) := by decide +kernel
theorem b_Mo_hang_35_38 : decs prog_7_method_8_code [(.imul, 1), (.isub, 1), (.aload_n 0, 1)] 35 38 = true := by decide +kernel
theorem d_Mo_hang_38 : decode prog_7_method_8_code 38 = .ok (.getfield 13, 3) := by decide +kernel
theorem b_Mo_hang_41_42 : decs prog_7_method_8_code [(.iload_n 1, 1)] 41 42 = true := by decide +kernel
theorem d_Mo_hang_42 : decode prog_7_method_8_code 42 = .ok (.iaload, 1) := by decide +kernel
theorem b_Mo_hang_43_45 : decs prog_7_method_8_code [(.aload_n 0, 1), (.aload_n 0, 1)] 43 45 = true := by decide +kernel
theorem d_Mo_hang_45 : decode prog_7_method_8_code 45 = .ok (.getfield 57, 3) := by decide +kernel
theorem b_Mo_hang_48_49 : decs prog_7_method_8_code [(.iload_n 1, 1)] 48 49 = true := by decide +kernel
theorem d_Mo_hang_49 : decode prog_7_method_8_code 49 = .ok (.iaload, 1) := by decide +kernel
theorem d_Mo_hang_50 : decode prog_7_method_8_code 50 = .ok (.invokevirtual 90, 3) := by decide +kernel
theorem b_Mo_hang_53_55 : decs prog_7_method_8_code [(.imul, 1), (.isub, 1)] 53 55 = true := by decide +kernel
theorem d_Mo_hang_55 : decode prog_7_method_8_code 55 = .ok (.iastore, 1) := by decide +kernel
theorem b_Mo_hang_56_57 : decs prog_7_method_8_code [(.aload_n 0, 1)] 56 57 = true := by decide +kernel
theorem d_Mo_hang_57 : decode prog_7_method_8_code 57 = .ok (.getfield 54, 3) := by decide +kernel
theorem b_Mo_hang_60_62 : decs prog_7_method_8_code [(.iload_n 1, 1), (.aload_n 0, 1)] 60 62 = true := by decide +kernel
theorem d_Mo_hang_62 : decode prog_7_method_8_code 62 = .ok (.getfield 54, 3) := by decide +kernel
theorem b_Mo_hang_65_68 : decs prog_7_method_8_code [(.iload_n 1, 1), (.iconst 1, 1), (.isub, 1)] 65 68 = true := by decide +kernel
theorem d_Mo_hang_68 : decode prog_7_method_8_code 68 = .ok (.iaload, 1) := by decide +kernel
theorem b_Mo_hang_69_70 : decs prog_7_method_8_code [(.aload_n 0, 1)] 69 70 = true := by decide +kernel
theorem d_Mo_hang_70 : decode prog_7_method_8_code 70 = .ok (.getfield 16, 3) := by decide +kernel
theorem b_Mo_hang_73_76 : decs prog_7_method_8_code [(.iload_n 1, 1), (.iconst 1, 1), (.isub, 1)] 73 76 = true := by decide +kernel
theorem d_Mo_hang_76 : decode prog_7_method_8_code 76 = .ok (.iaload, 1) := by decide +kernel
theorem b_Mo_hang_77_79 : decs prog_7_method_8_code [(.aload_n 0, 1), (.iload_n 2, 1)] 77 79 = true := by decide +kernel
theorem d_Mo_hang_79 : decode prog_7_method_8_code 79 = .ok (.invokevirtual 97, 3) := by decide +kernel
theorem b_Mo_hang_82_85 : decs prog_7_method_8_code [(.imul, 1), (.isub, 1), (.aload_n 0, 1)] 82 85 = true := by decide +kernel
theorem d_Mo_hang_85 : decode prog_7_method_8_code 85 = .ok (.getfield 13, 3) := by decide +kernel
theorem b_Mo_hang_88_89 : decs prog_7_method_8_code [(.iload_n 1, 1)] 88 89 = true := by decide +kernel
theorem d_Mo_hang_89 : decode prog_7_method_8_code 89 = .ok (.iaload, 1) := by decide +kernel
theorem b_Mo_hang_90_92 : decs prog_7_method_8_code [(.aload_n 0, 1), (.aload_n 0, 1)] 90 92 = true := by decide +kernel
theorem d_Mo_hang_92 : decode prog_7_method_8_code 92 = .ok (.getfield 57, 3) := by decide +kernel
theorem b_Mo_hang_95_96 : decs prog_7_method_8_code [(.iload_n 1, 1)] 95 96 = true := by decide +kernel
theorem d_Mo_hang_96 : decode prog_7_method_8_code 96 = .ok (.iaload, 1) := by decide +kernel
theorem d_Mo_hang_97 : decode prog_7_method_8_code 97 = .ok (.invokevirtual 97, 3) := by decide +kernel
theorem b_Mo_hang_100_102 : decs prog_7_method_8_code [(.imul, 1), (.isub, 1)] 100 102 = true := by decide +kernel
theorem d_Mo_hang_102 : decode prog_7_method_8_code 102 = .ok (.iastore, 1) := by decide +kernel
theorem d_Mo_hang_103 : decode prog_7_method_8_code 103 = .ok (.return_, 1) := by decide +kernel
set_option maxRecDepth 100000 in
set_option maxHeartbeats 4000000 in
theorem c_Mo_hang (l : Launch) (G : GG) (A : Nat → Prop) (ad : Nat → Nat) (w0 : WF) (sc : Nat → Int32) (ar : Nat → Nat → Int32) (k : Nat) (h1 : 1 ≤ k) (hk : k < 3) : Met l y_Mo_hang (Cond.code y_Mo_hang prog_7_method_8_code 3 none :: wt) { frames := 2, cells := 0, slots := 0, locals := 43 } (Pre G A (mW G ad w0 sc ar) (fun _ => True) [.ref (ad 20), .int (nI k)]) (Qw A none G (mW G ad w0 sc (fHang ar k))) 0 0 A := by
  refine mt_of (by decide) (Nat.le_of_ble_eq_true rfl) ?_
  intro p e s m below meth c ls C hH hA hE hr hmn hl
  have hl : lv_has ls 3 [(0, .ref (ad 20)), (1, .int (nI k))] := hl
  refine x_sx C b_Mo_hang_0_1 hl (L' := [(0, .ref (ad 20)), (1, .int (nI k))]) (st' := [.ref (ad 20)]) rfl (fun ls hl => ?_)
  refine x_get C hH.1 1000 mW_o 21 (v := .ref (ad 14)) rfl rfl (by decide) t_663 (fun _ z => z) d_Mo_hang_1 ?_
  refine x_sx C b_Mo_hang_4_7 hl (L' := [(0, .ref (ad 20)), (1, .int (nI k))]) (st' := [.int ((nI k) - 1), .ref (ad 14)]) rfl (fun ls hl => ?_)
  refine x_ald C hH.1 (1001 + 14) (mW_i 14 (by decide) (by decide) rfl rfl rfl) (N := 3) (f := (ar 14)) (j := (k - 1)) (pk_sub (a := k) (b := 1) h1) (by omega) (by decide) d_Mo_hang_7 ?_
  refine x_sx C b_Mo_hang_8_10 hl (L' := [(2, .int (ar 14 (k - 1))), (0, .ref (ad 20)), (1, .int (nI k))]) (st' := [.ref (ad 20)]) rfl (fun ls hl => ?_)
  refine x_get C hH.1 1000 mW_o 19 (v := .ref (ad 12)) rfl rfl (by decide) t_661 (fun _ z => z) d_Mo_hang_10 ?_
  refine x_sx C b_Mo_hang_13_15 hl (L' := [(2, .int (ar 14 (k - 1))), (0, .ref (ad 20)), (1, .int (nI k))]) (st' := [.ref (ad 20), .int (nI k), .ref (ad 12)]) rfl (fun ls hl => ?_)
  refine x_get C hH.1 1000 mW_o 19 (v := .ref (ad 12)) rfl rfl (by decide) t_661 (fun _ z => z) d_Mo_hang_15 ?_
  refine x_sx C b_Mo_hang_18_21 hl (L' := [(2, .int (ar 14 (k - 1))), (0, .ref (ad 20)), (1, .int (nI k))]) (st' := [.int ((nI k) - 1), .ref (ad 12), .int (nI k), .ref (ad 12)]) rfl (fun ls hl => ?_)
  refine x_ald C hH.1 (1001 + 12) (mW_i 12 (by decide) (by decide) rfl rfl rfl) (N := 3) (f := (ar 12)) (j := (k - 1)) (pk_sub (a := k) (b := 1) h1) (by omega) (by decide) d_Mo_hang_21 ?_
  refine x_sx C b_Mo_hang_22_23 hl (L' := [(2, .int (ar 14 (k - 1))), (0, .ref (ad 20)), (1, .int (nI k))]) (st' := [.ref (ad 20), .int (ar 12 (k - 1)), .int (nI k), .ref (ad 12)]) rfl (fun ls hl => ?_)
  refine x_get C hH.1 1000 mW_o 4 (v := .ref (ad 2)) rfl rfl (by decide) t_646 (fun _ z => z) d_Mo_hang_23 ?_
  refine x_sx C b_Mo_hang_26_29 hl (L' := [(2, .int (ar 14 (k - 1))), (0, .ref (ad 20)), (1, .int (nI k))]) (st' := [.int ((nI k) - 1), .ref (ad 2), .int (ar 12 (k - 1)), .int (nI k), .ref (ad 12)]) rfl (fun ls hl => ?_)
  refine x_ald C hH.1 (1001 + 2) (mW_i 2 (by decide) (by decide) rfl rfl rfl) (N := 3) (f := (ar 2)) (j := (k - 1)) (pk_sub (a := k) (b := 1) h1) (by omega) (by decide) d_Mo_hang_29 ?_
  refine x_sx C b_Mo_hang_30_32 hl (L' := [(2, .int (ar 14 (k - 1))), (0, .ref (ad 20)), (1, .int (nI k))]) (st' := [.int (ar 14 (k - 1)), .ref (ad 20), .int (ar 2 (k - 1)), .int (ar 12 (k - 1)), .int (nI k), .ref (ad 12)]) rfl (fun ls hl => ?_)
  refine x_ro (x_cV C hH.1 mW_o rfl (c_Mo_dx l G ad w0 sc ar (ar 14 (k - 1))) t_765 t_14 t_762 t_764 ts_16 hd_Mo_dx blind_Pro (pre_ro C hH.1 hH.2.2) (As := [.int (ar 14 (k - 1))]) (rest := [.int (ar 2 (k - 1)), .int (ar 12 (k - 1)), .int (nI k), .ref (ad 12)]) rfl hl.1 rfl rfl rfl ⟨Nat.le_of_ble_eq_true rfl, Nat.le_of_ble_eq_true rfl⟩ (Nat.le_of_ble_eq_true rfl) ⟨Nat.zero_le _, Nat.zero_le _⟩ d_Mo_hang_32) ?_
  refine x_sx C b_Mo_hang_35_38 hl (L' := [(2, .int (ar 14 (k - 1))), (0, .ref (ad 20)), (1, .int (nI k))]) (st' := [.ref (ad 20), .int ((ar 12 (k - 1)) - ((ar 2 (k - 1)) * (p_dx (ar 14 (k - 1))))), .int (nI k), .ref (ad 12)]) rfl (fun ls hl => ?_)
  refine x_get C hH.1 1000 mW_o 3 (v := .ref (ad 1)) rfl rfl (by decide) t_645 (fun _ z => z) d_Mo_hang_38 ?_
  refine x_sx C b_Mo_hang_41_42 hl (L' := [(2, .int (ar 14 (k - 1))), (0, .ref (ad 20)), (1, .int (nI k))]) (st' := [.int (nI k), .ref (ad 1), .int ((ar 12 (k - 1)) - ((ar 2 (k - 1)) * (p_dx (ar 14 (k - 1))))), .int (nI k), .ref (ad 12)]) rfl (fun ls hl => ?_)
  refine x_ald C hH.1 (1001 + 1) (mW_i 1 (by decide) (by decide) rfl rfl rfl) (N := 3) (f := (ar 1)) (j := k) rfl hk (by decide) d_Mo_hang_42 ?_
  refine x_sx C b_Mo_hang_43_45 hl (L' := [(2, .int (ar 14 (k - 1))), (0, .ref (ad 20)), (1, .int (nI k))]) (st' := [.ref (ad 20), .ref (ad 20), .int (ar 1 k), .int ((ar 12 (k - 1)) - ((ar 2 (k - 1)) * (p_dx (ar 14 (k - 1))))), .int (nI k), .ref (ad 12)]) rfl (fun ls hl => ?_)
  refine x_get C hH.1 1000 mW_o 21 (v := .ref (ad 14)) rfl rfl (by decide) t_663 (fun _ z => z) d_Mo_hang_45 ?_
  refine x_sx C b_Mo_hang_48_49 hl (L' := [(2, .int (ar 14 (k - 1))), (0, .ref (ad 20)), (1, .int (nI k))]) (st' := [.int (nI k), .ref (ad 14), .ref (ad 20), .int (ar 1 k), .int ((ar 12 (k - 1)) - ((ar 2 (k - 1)) * (p_dx (ar 14 (k - 1))))), .int (nI k), .ref (ad 12)]) rfl (fun ls hl => ?_)
  refine x_ald C hH.1 (1001 + 14) (mW_i 14 (by decide) (by decide) rfl rfl rfl) (N := 3) (f := (ar 14)) (j := k) rfl hk (by decide) d_Mo_hang_49 ?_
  refine x_ro (x_cV C hH.1 mW_o rfl (c_Mo_dx l G ad w0 sc ar (ar 14 k)) t_765 t_14 t_762 t_764 ts_16 hd_Mo_dx blind_Pro (pre_ro C hH.1 hH.2.2) (As := [.int (ar 14 k)]) (rest := [.int (ar 1 k), .int ((ar 12 (k - 1)) - ((ar 2 (k - 1)) * (p_dx (ar 14 (k - 1))))), .int (nI k), .ref (ad 12)]) rfl hl.1 rfl rfl rfl ⟨Nat.le_of_ble_eq_true rfl, Nat.le_of_ble_eq_true rfl⟩ (Nat.le_of_ble_eq_true rfl) ⟨Nat.zero_le _, Nat.zero_le _⟩ d_Mo_hang_50) ?_
  refine x_sx C b_Mo_hang_53_55 hl (L' := [(2, .int (ar 14 (k - 1))), (0, .ref (ad 20)), (1, .int (nI k))]) (st' := [.int (((ar 12 (k - 1)) - ((ar 2 (k - 1)) * (p_dx (ar 14 (k - 1))))) - ((ar 1 k) * (p_dx (ar 14 k)))), .int (nI k), .ref (ad 12)]) rfl (fun ls hl => ?_)
  refine m_ast C hH 12 (by decide) (by decide) rfl (N := 3) rfl (f := (ar 12)) rfl (j := k) rfl hk d_Mo_hang_55 (fun H locs hH => ?_)
  refine x_sx C b_Mo_hang_56_57 hl (L' := [(2, .int (ar 14 (k - 1))), (0, .ref (ad 20)), (1, .int (nI k))]) (st' := [.ref (ad 20)]) rfl (fun ls hl => ?_)
  refine x_get C hH.1 1000 mW_o 20 (v := .ref (ad 13)) rfl rfl (by decide) t_662 (fun _ z => z) d_Mo_hang_57 ?_
  refine x_sx C b_Mo_hang_60_62 hl (L' := [(2, .int (ar 14 (k - 1))), (0, .ref (ad 20)), (1, .int (nI k))]) (st' := [.ref (ad 20), .int (nI k), .ref (ad 13)]) rfl (fun ls hl => ?_)
  refine x_get C hH.1 1000 mW_o 20 (v := .ref (ad 13)) rfl rfl (by decide) t_662 (fun _ z => z) d_Mo_hang_62 ?_
  refine x_sx C b_Mo_hang_65_68 hl (L' := [(2, .int (ar 14 (k - 1))), (0, .ref (ad 20)), (1, .int (nI k))]) (st' := [.int ((nI k) - 1), .ref (ad 13), .int (nI k), .ref (ad 13)]) rfl (fun ls hl => ?_)
  refine x_ald C hH.1 (1001 + 13) (mW_i 13 (by decide) (by decide) rfl rfl rfl) (N := 3) (f := (ar 13)) (j := (k - 1)) (pk_sub (a := k) (b := 1) h1) (by omega) (by decide) d_Mo_hang_68 ?_
  refine x_sx C b_Mo_hang_69_70 hl (L' := [(2, .int (ar 14 (k - 1))), (0, .ref (ad 20)), (1, .int (nI k))]) (st' := [.ref (ad 20), .int (ar 13 (k - 1)), .int (nI k), .ref (ad 13)]) rfl (fun ls hl => ?_)
  refine x_get C hH.1 1000 mW_o 4 (v := .ref (ad 2)) rfl rfl (by decide) t_646 (fun _ z => z) d_Mo_hang_70 ?_
  refine x_sx C b_Mo_hang_73_76 hl (L' := [(2, .int (ar 14 (k - 1))), (0, .ref (ad 20)), (1, .int (nI k))]) (st' := [.int ((nI k) - 1), .ref (ad 2), .int (ar 13 (k - 1)), .int (nI k), .ref (ad 13)]) rfl (fun ls hl => ?_)
  refine x_ald C hH.1 (1001 + 2) (mW_i 2 (by decide) (by decide) rfl rfl rfl) (N := 3) (f := (ar 2)) (j := (k - 1)) (pk_sub (a := k) (b := 1) h1) (by omega) (by decide) d_Mo_hang_76 ?_
  refine x_sx C b_Mo_hang_77_79 hl (L' := [(2, .int (ar 14 (k - 1))), (0, .ref (ad 20)), (1, .int (nI k))]) (st' := [.int (ar 14 (k - 1)), .ref (ad 20), .int (ar 2 (k - 1)), .int (ar 13 (k - 1)), .int (nI k), .ref (ad 13)]) rfl (fun ls hl => ?_)
  refine x_ro (x_cV C hH.1 mW_o rfl (c_Mo_dy l G ad w0 sc (va_up ar 12 (upd (ar 12) k (((ar 12 (k - 1)) - ((ar 2 (k - 1)) * (p_dx (ar 14 (k - 1))))) - ((ar 1 k) * (p_dx (ar 14 k)))))) (ar 14 (k - 1))) t_769 t_14 t_766 t_768 ts_17 hd_Mo_dy blind_Pro (pre_ro C hH.1 hH.2.2) (As := [.int (ar 14 (k - 1))]) (rest := [.int (ar 2 (k - 1)), .int (ar 13 (k - 1)), .int (nI k), .ref (ad 13)]) rfl hl.1 rfl rfl rfl ⟨Nat.le_of_ble_eq_true rfl, Nat.le_of_ble_eq_true rfl⟩ (Nat.le_of_ble_eq_true rfl) ⟨Nat.zero_le _, Nat.zero_le _⟩ d_Mo_hang_79) ?_
  refine x_sx C b_Mo_hang_82_85 hl (L' := [(2, .int (ar 14 (k - 1))), (0, .ref (ad 20)), (1, .int (nI k))]) (st' := [.ref (ad 20), .int ((ar 13 (k - 1)) - ((ar 2 (k - 1)) * (p_dy (ar 14 (k - 1))))), .int (nI k), .ref (ad 13)]) rfl (fun ls hl => ?_)
  refine x_get C hH.1 1000 mW_o 3 (v := .ref (ad 1)) rfl rfl (by decide) t_645 (fun _ z => z) d_Mo_hang_85 ?_
  refine x_sx C b_Mo_hang_88_89 hl (L' := [(2, .int (ar 14 (k - 1))), (0, .ref (ad 20)), (1, .int (nI k))]) (st' := [.int (nI k), .ref (ad 1), .int ((ar 13 (k - 1)) - ((ar 2 (k - 1)) * (p_dy (ar 14 (k - 1))))), .int (nI k), .ref (ad 13)]) rfl (fun ls hl => ?_)
  refine x_ald C hH.1 (1001 + 1) (mW_i 1 (by decide) (by decide) rfl rfl rfl) (N := 3) (f := (ar 1)) (j := k) rfl hk (by decide) d_Mo_hang_89 ?_
  refine x_sx C b_Mo_hang_90_92 hl (L' := [(2, .int (ar 14 (k - 1))), (0, .ref (ad 20)), (1, .int (nI k))]) (st' := [.ref (ad 20), .ref (ad 20), .int (ar 1 k), .int ((ar 13 (k - 1)) - ((ar 2 (k - 1)) * (p_dy (ar 14 (k - 1))))), .int (nI k), .ref (ad 13)]) rfl (fun ls hl => ?_)
  refine x_get C hH.1 1000 mW_o 21 (v := .ref (ad 14)) rfl rfl (by decide) t_663 (fun _ z => z) d_Mo_hang_92 ?_
  refine x_sx C b_Mo_hang_95_96 hl (L' := [(2, .int (ar 14 (k - 1))), (0, .ref (ad 20)), (1, .int (nI k))]) (st' := [.int (nI k), .ref (ad 14), .ref (ad 20), .int (ar 1 k), .int ((ar 13 (k - 1)) - ((ar 2 (k - 1)) * (p_dy (ar 14 (k - 1))))), .int (nI k), .ref (ad 13)]) rfl (fun ls hl => ?_)
  refine x_ald C hH.1 (1001 + 14) (mW_i 14 (by decide) (by decide) rfl rfl rfl) (N := 3) (f := (ar 14)) (j := k) rfl hk (by decide) d_Mo_hang_96 ?_
  refine x_ro (x_cV C hH.1 mW_o rfl (c_Mo_dy l G ad w0 sc (va_up ar 12 (upd (ar 12) k (((ar 12 (k - 1)) - ((ar 2 (k - 1)) * (p_dx (ar 14 (k - 1))))) - ((ar 1 k) * (p_dx (ar 14 k)))))) (ar 14 k)) t_769 t_14 t_766 t_768 ts_17 hd_Mo_dy blind_Pro (pre_ro C hH.1 hH.2.2) (As := [.int (ar 14 k)]) (rest := [.int (ar 1 k), .int ((ar 13 (k - 1)) - ((ar 2 (k - 1)) * (p_dy (ar 14 (k - 1))))), .int (nI k), .ref (ad 13)]) rfl hl.1 rfl rfl rfl ⟨Nat.le_of_ble_eq_true rfl, Nat.le_of_ble_eq_true rfl⟩ (Nat.le_of_ble_eq_true rfl) ⟨Nat.zero_le _, Nat.zero_le _⟩ d_Mo_hang_97) ?_
  refine x_sx C b_Mo_hang_100_102 hl (L' := [(2, .int (ar 14 (k - 1))), (0, .ref (ad 20)), (1, .int (nI k))]) (st' := [.int (((ar 13 (k - 1)) - ((ar 2 (k - 1)) * (p_dy (ar 14 (k - 1))))) - ((ar 1 k) * (p_dy (ar 14 k)))), .int (nI k), .ref (ad 13)]) rfl (fun ls hl => ?_)
  refine m_ast C hH 13 (by decide) (by decide) rfl (N := 3) rfl (f := (ar 13)) rfl (j := k) rfl hk d_Mo_hang_102 (fun H locs hH => ?_)
  exact x_vrt C hr hH.2.2 ⟨rfl, hH.1, hH.2.1⟩ (Nat.le_refl _) (Nat.le_refl _) d_Mo_hang_103
theorem hd_Mo_hang : hdP y_Mo_hang 1 := ⟨by decide +kernel, by decide +kernel, by decide +kernel⟩
theorem b_Mo_look_0_2 : decs prog_7_method_13_code [(.iconst 0, 1), (.istore_n 1, 1)] 0 2 = true := by decide +kernel
theorem b_Mo_look_2_4 : decs prog_7_method_13_code [(.iload_n 1, 1), (.aload_n 0, 1)] 2 4 = true := by decide +kernel
theorem d_Mo_look_4 : decode prog_7_method_13_code 4 = .ok (.getfield 84, 3) := by decide +kernel
theorem d_Mo_look_7 : decode prog_7_method_13_code 7 = .ok (.if_icmp .ge 256, 3) := by decide +kernel
theorem d_Mo_look_263 : decode prog_7_method_13_code 263 = .ok (.return_, 1) := by decide +kernel
theorem b_Mo_look_10_11 : decs prog_7_method_13_code [(.aload_n 0, 1)] 10 11 = true := by decide +kernel
theorem d_Mo_look_11 : decode prog_7_method_13_code 11 = .ok (.getfield 51, 3) := by decide +kernel
theorem b_Mo_look_14_15 : decs prog_7_method_13_code [(.iload_n 1, 1)] 14 15 = true := by decide +kernel
theorem d_Mo_look_15 : decode prog_7_method_13_code 15 = .ok (.iaload, 1) := by decide +kernel
theorem d_Mo_look_16 : decode prog_7_method_13_code 16 = .ok (.invokestatic 106, 3) := by decide +kernel
theorem b_Mo_look_19_22 : decs prog_7_method_13_code [(.bipush 10, 2), (.isub, 1)] 19 22 = true := by decide +kernel
theorem d_Mo_look_22 : decode prog_7_method_13_code 22 = .ok (.invokestatic 109, 3) := by decide +kernel
theorem b_Mo_look_25_27 : decs prog_7_method_13_code [(.istore_n 2, 1), (.aload_n 0, 1)] 25 27 = true := by decide +kernel
theorem d_Mo_look_27 : decode prog_7_method_13_code 27 = .ok (.getfield 51, 3) := by decide +kernel
theorem b_Mo_look_30_31 : decs prog_7_method_13_code [(.iload_n 1, 1)] 30 31 = true := by decide +kernel
theorem d_Mo_look_31 : decode prog_7_method_13_code 31 = .ok (.iaload, 1) := by decide +kernel
theorem d_Mo_look_32 : decode prog_7_method_13_code 32 = .ok (.invokestatic 106, 3) := by decide +kernel
theorem b_Mo_look_35_38 : decs prog_7_method_13_code [(.bipush 10, 2), (.iadd, 1)] 35 38 = true := by decide +kernel
theorem d_Mo_look_38 : decode prog_7_method_13_code 38 = .ok (.invokestatic 109, 3) := by decide +kernel
theorem b_Mo_look_41_43 : decs prog_7_method_13_code [(.istore_n 3, 1), (.aload_n 0, 1)] 41 43 = true := by decide +kernel
theorem d_Mo_look_43 : decode prog_7_method_13_code 43 = .ok (.getfield 54, 3) := by decide +kernel
theorem b_Mo_look_46_47 : decs prog_7_method_13_code [(.iload_n 1, 1)] 46 47 = true := by decide +kernel
theorem d_Mo_look_47 : decode prog_7_method_13_code 47 = .ok (.iaload, 1) := by decide +kernel
theorem d_Mo_look_48 : decode prog_7_method_13_code 48 = .ok (.invokestatic 106, 3) := by decide +kernel
theorem b_Mo_look_51_54 : decs prog_7_method_13_code [(.bipush 10, 2), (.isub, 1)] 51 54 = true := by decide +kernel
theorem d_Mo_look_54 : decode prog_7_method_13_code 54 = .ok (.invokestatic 109, 3) := by decide +kernel
theorem b_Mo_look_57_60 : decs prog_7_method_13_code [(.istore 4, 2), (.aload_n 0, 1)] 57 60 = true := by decide +kernel
theorem d_Mo_look_60 : decode prog_7_method_13_code 60 = .ok (.getfield 54, 3) := by decide +kernel
theorem b_Mo_look_63_64 : decs prog_7_method_13_code [(.iload_n 1, 1)] 63 64 = true := by decide +kernel
theorem d_Mo_look_64 : decode prog_7_method_13_code 64 = .ok (.iaload, 1) := by decide +kernel
theorem d_Mo_look_65 : decode prog_7_method_13_code 65 = .ok (.invokestatic 106, 3) := by decide +kernel
theorem b_Mo_look_68_71 : decs prog_7_method_13_code [(.bipush 10, 2), (.iadd, 1)] 68 71 = true := by decide +kernel
theorem d_Mo_look_71 : decode prog_7_method_13_code 71 = .ok (.invokestatic 109, 3) := by decide +kernel
theorem b_Mo_look_74_79 : decs prog_7_method_13_code [(.istore 5, 2), (.iload_n 2, 1), (.istore 6, 2)] 74 79 = true := by decide +kernel
theorem b_Mo_look_79_82 : decs prog_7_method_13_code [(.iload 6, 2), (.iload_n 3, 1)] 79 82 = true := by decide +kernel
theorem d_Mo_look_82 : decode prog_7_method_13_code 82 = .ok (.if_icmp .gt 100, 3) := by decide +kernel
theorem b_Mo_look_182_185 : decs prog_7_method_13_code [(.iconst 0, 1), (.istore 6, 2)] 182 185 = true := by decide +kernel
theorem b_Mo_look_185_188 : decs prog_7_method_13_code [(.iload 6, 2), (.aload_n 0, 1)] 185 188 = true := by decide +kernel
theorem d_Mo_look_188 : decode prog_7_method_13_code 188 = .ok (.getfield 119, 3) := by decide +kernel
theorem d_Mo_look_191 : decode prog_7_method_13_code 191 = .ok (.if_icmp .ge 66, 3) := by decide +kernel
theorem b_Mo_look_257_260 : decs prog_7_method_13_code [(.iinc 1 1, 3)] 257 260 = true := by decide +kernel
theorem d_Mo_look_260 : decode prog_7_method_13_code 260 = .ok (.goto (-258), 3) := by decide +kernel
theorem b_Mo_look_194_195 : decs prog_7_method_13_code [(.aload_n 0, 1)] 194 195 = true := by decide +kernel
theorem d_Mo_look_195 : decode prog_7_method_13_code 195 = .ok (.getfield 66, 3) := by decide +kernel
theorem b_Mo_look_198_199 : decs prog_7_method_13_code [(.iconst (-1), 1)] 198 199 = true := by decide +kernel
theorem d_Mo_look_199 : decode prog_7_method_13_code 199 = .ok (.if_icmp .ne 58, 3) := by decide +kernel
theorem b_Mo_look_202_208 : decs prog_7_method_13_code [(.aload_n 0, 1), (.iload_n 1, 1), (.sipush 4096, 3), (.aload_n 0, 1)] 202 208 = true := by decide +kernel
theorem d_Mo_look_208 : decode prog_7_method_13_code 208 = .ok (.getfield 32, 3) := by decide +kernel
theorem b_Mo_look_211_213 : decs prog_7_method_13_code [(.iload 6, 2)] 211 213 = true := by decide +kernel
theorem d_Mo_look_213 : decode prog_7_method_13_code 213 = .ok (.iaload, 1) := by decide +kernel
theorem b_Mo_look_214_219 : decs prog_7_method_13_code [(.imul, 1), (.sipush 4096, 3), (.aload_n 0, 1)] 214 219 = true := by decide +kernel
theorem d_Mo_look_219 : decode prog_7_method_13_code 219 = .ok (.getfield 35, 3) := by decide +kernel
theorem b_Mo_look_222_224 : decs prog_7_method_13_code [(.iload 6, 2)] 222 224 = true := by decide +kernel
theorem d_Mo_look_224 : decode prog_7_method_13_code 224 = .ok (.iaload, 1) := by decide +kernel
theorem b_Mo_look_225_226 : decs prog_7_method_13_code [(.imul, 1)] 225 226 = true := by decide +kernel
theorem d_Mo_look_226 : decode prog_7_method_13_code 226 = .ok (.invokevirtual 112, 3) := by decide +kernel
theorem d_Mo_look_229 : decode prog_7_method_13_code 229 = .ok (.ifCond .eq 22, 3) := by decide +kernel
theorem b_Mo_look_251_254 : decs prog_7_method_13_code [(.iinc 6 1, 3)] 251 254 = true := by decide +kernel
theorem d_Mo_look_254 : decode prog_7_method_13_code 254 = .ok (.goto (-69), 3) := by decide +kernel
theorem b_Mo_look_232_234 : decs prog_7_method_13_code [(.aload_n 0, 1), (.aload_n 0, 1)] 232 234 = true := by decide +kernel
theorem d_Mo_look_234 : decode prog_7_method_13_code 234 = .ok (.getfield 122, 3) := by decide +kernel
theorem d_Mo_look_237 : decode prog_7_method_13_code 237 = .ok (.putfield 66, 3) := by decide +kernel
theorem b_Mo_look_240_242 : decs prog_7_method_13_code [(.aload_n 0, 1), (.iload_n 1, 1)] 240 242 = true := by decide +kernel
theorem d_Mo_look_242 : decode prog_7_method_13_code 242 = .ok (.putfield 69, 3) := by decide +kernel
theorem b_Mo_look_245_248 : decs prog_7_method_13_code [(.aload_n 0, 1), (.iload 6, 2)] 245 248 = true := by decide +kernel
theorem d_Mo_look_248 : decode prog_7_method_13_code 248 = .ok (.putfield 72, 3) := by decide +kernel
theorem b_Mo_look_85_89 : decs prog_7_method_13_code [(.iload 4, 2), (.istore 7, 2)] 85 89 = true := by decide +kernel
theorem b_Mo_look_89_93 : decs prog_7_method_13_code [(.iload 7, 2), (.iload 5, 2)] 89 93 = true := by decide +kernel
theorem d_Mo_look_93 : decode prog_7_method_13_code 93 = .ok (.if_icmp .gt 83, 3) := by decide +kernel
theorem b_Mo_look_176_179 : decs prog_7_method_13_code [(.iinc 6 1, 3)] 176 179 = true := by decide +kernel
theorem d_Mo_look_179 : decode prog_7_method_13_code 179 = .ok (.goto (-100), 3) := by decide +kernel
theorem b_Mo_look_96_112 : decs prog_7_method_13_code [(.bipush 64, 2), (.iload 6, 2), (.bipush 32, 2), (.iadd, 1), (.imul, 1), (.iload 7, 2), (.iadd, 1), (.bipush 32, 2), (.iadd, 1), (.istore 8, 2)] 96 112 = true := by decide +kernel
theorem b_Mo_look_112_113 : decs prog_7_method_13_code [(.aload_n 0, 1)] 112 113 = true := by decide +kernel
theorem d_Mo_look_113 : decode prog_7_method_13_code 113 = .ok (.getfield 75, 3) := by decide +kernel
theorem b_Mo_look_116_118 : decs prog_7_method_13_code [(.iload 8, 2)] 116 118 = true := by decide +kernel
theorem d_Mo_look_118 : decode prog_7_method_13_code 118 = .ok (.baload, 1) := by decide +kernel
theorem d_Mo_look_119 : decode prog_7_method_13_code 119 = .ok (.ifCond .ne 51, 3) := by decide +kernel
theorem b_Mo_look_170_173 : decs prog_7_method_13_code [(.iinc 7 1, 3)] 170 173 = true := by decide +kernel
theorem d_Mo_look_173 : decode prog_7_method_13_code 173 = .ok (.goto (-84), 3) := by decide +kernel
theorem b_Mo_look_122_146 : decs prog_7_method_13_code [(.aload_n 0, 1), (.iload_n 1, 1), (.sipush 4096, 3), (.bipush 8, 2), (.iload 6, 2), (.imul, 1), (.iconst 4, 1), (.iadd, 1), (.imul, 1), (.sipush 4096, 3), (.bipush 8, 2), (.iload 7, 2), (.imul, 1), (.iconst 4, 1), (.iadd, 1), (.imul, 1)] 122 146 = true := by decide +kernel
theorem d_Mo_look_146 : decode prog_7_method_13_code 146 = .ok (.invokevirtual 112, 3) := by decide +kernel
theorem d_Mo_look_149 : decode prog_7_method_13_code 149 = .ok (.ifCond .eq 21, 3) := by decide +kernel
theorem b_Mo_look_152_153 : decs prog_7_method_13_code [(.aload_n 0, 1)] 152 153 = true := by decide +kernel
theorem d_Mo_look_153 : decode prog_7_method_13_code 153 = .ok (.getfield 75, 3) := by decide +kernel
theorem b_Mo_look_156_159 : decs prog_7_method_13_code [(.iload 8, 2), (.iconst 1, 1)] 156 159 = true := by decide +kernel
theorem d_Mo_look_159 : decode prog_7_method_13_code 159 = .ok (.bastore, 1) := by decide +kernel
theorem b_Mo_look_160_162 : decs prog_7_method_13_code [(.aload_n 0, 1), (.dup, 1)] 160 162 = true := by decide +kernel
theorem d_Mo_look_162 : decode prog_7_method_13_code 162 = .ok (.getfield 116, 3) := by decide +kernel
theorem b_Mo_look_165_167 : decs prog_7_method_13_code [(.iconst 1, 1), (.iadd, 1)] 165 167 = true := by decide +kernel
theorem d_Mo_look_167 : decode prog_7_method_13_code 167 = .ok (.putfield 116, 3) := by decide +kernel
theorem cov_1 {x0 y0 h fr re ha px py : Int32} (hv : ¬ p_cov x0 y0 h fr re ha px py = 0) : p_cov x0 y0 h fr re ha px py = 1 := by
  unfold p_cov at hv ⊢
  split
  · rfl
  · rename_i q; rw [if_neg q] at hv; exact absurd rfl hv
set_option maxRecDepth 100000 in
set_option maxHeartbeats 4000000 in
theorem c_Mo_look (l : Launch) (G : GG) (A : Nat → Prop) (ad : Nat → Nat) (w0 : WF) (sc : Nat → Int32) (ar : Nat → Nat → Int32) (n np : Nat) (h1 : sc 1 = nI n) (hn : n ≤ 3) (h6 : sc 6 = nI np) (hnp : np ≤ 20) (h7 : ¬ sc 7 = -1) (hz : Z01 (ar 17)) (hc : sc 12 = nI (cnt (ar 17))) (hg : ∀ k, k < n → rgT ar k) : Met l y_Mo_look (Cond.code y_Mo_look prog_7_method_13_code 9 none :: wt) { frames := 3, cells := 0, slots := 0, locals := 78 } (Pre G A (mW G ad w0 sc ar) (fun _ => True) [.ref (ad 20)]) (Qw A none G (mW G ad w0 (lookI (sc, ar) n).1 (lookI (sc, ar) n).2)) 0 0 A := by
  refine mt_of (by decide) (Nat.le_of_ble_eq_true rfl) ?_
  intro p e s m below meth c ls C hH hA hE hr hmn hl
  have hl : lv_has ls 9 [(0, .ref (ad 20))] := hl
  refine x_sx C b_Mo_look_0_2 hl (L' := [(1, .int 0), (0, .ref (ad 20))]) (st' := []) rfl (fun ls hl => ?_)
  refine x_loop (X := Nat) (fun k => n - k) (fun k H locs => k ≤ n ∧ Hw G A s (mW G ad w0 (lookI (sc, ar) k).1 (lookI (sc, ar) k).2) H locs) (fun k => [(0, .ref (ad 20)), (1, .int (nI k))]) 2 ?_ 0 _ _ _ ⟨Nat.zero_le _, hH⟩ (lv_sub hl [1, 0] rfl)
  intro k H locs ls hI hl IH
  obtain ⟨hkn, hH⟩ := hI
  have hl : lv_has ls 9 [(0, .ref (ad 20)), (1, .int (nI k))] := hl
  have f1 : (lookI (sc, ar) k).1 1 = nI n := (lookI_sc (sc, ar) k (by decide) (by decide) (by decide) (by decide)).trans h1
  have f6 : (lookI (sc, ar) k).1 6 = nI np := (lookI_sc (sc, ar) k (by decide) (by decide) (by decide) (by decide)).trans h6
  have f7 : ¬ (lookI (sc, ar) k).1 7 = -1 := fun z => h7 ((lookI_sc (sc, ar) k (by decide) (by decide) (by decide) (by decide)).symm.trans z)
  have fz := lookI_01 (sc, ar) k hz
  have fc := lookI_cnt (sc, ar) k hc
  have fa : ∀ i, i ≠ 17 → (lookI (sc, ar) k).2 i = ar i := fun i hi => lookI_ar (sc, ar) k hi
  have fn := lookI_s (sc, ar) k
  generalize fk : lookI (sc, ar) k = stk at hH f1 f6 f7 fz fc fa fn ⊢
  obtain ⟨sck, ark⟩ := stk
  dsimp only at hH f1 f6 f7 fz fc fa fn
  refine x_sx C b_Mo_look_2_4 hl (L' := [(0, .ref (ad 20)), (1, .int (nI k))]) (st' := [.ref (ad 20), .int (nI k)]) rfl (fun ls hl => ?_)
  refine x_get C hH.1 1000 mW_o 2 (v := .int (sck 1)) rfl rfl (by decide) t_644 (fun _ z => z) d_Mo_look_4 ?_
  refine lv_icmp_ge (tgt := 263) C.1 C.2.1 d_Mo_look_7 (by decide) (fun hb => ?_) (fun hb => ?_)
  · have e1 : k = n := by rw [f1, nI_leI (by omega) (by omega)] at hb; omega
    subst e1
    exact x_vrt C hr hH.2.2 ⟨rfl, by rw [fk]; exact hH.1, by rw [fk]; exact hH.2.1⟩ (Nat.le_refl _) (Nat.le_refl _) d_Mo_look_263
  · have hkn : k < n := by rw [f1, nI_leI (by omega) (by omega)] at hb; omega
    clear hb
    have hk : k < 3 := by omega
    have hrg := hg k hkn
    have g1 : ark 12 = ar 12 := fa 12 (by decide)
    have g2 : ark 13 = ar 13 := fa 13 (by decide)
    have g3 : ∀ px py, cvB ark k px py = cvB ar k px py := fun px py => by unfold cvB; rw [fa 12 (by decide), fa 13 (by decide), fa 14 (by decide), fa 3 (by decide), fa 4 (by decide), fa 5 (by decide)]
    obtain ⟨aF, haF, eaF⟩ := wi_nat (p_co (ark 12 k) - 10)
    obtain ⟨aT, haT, eaT⟩ := wi_nat (p_co (ark 12 k) + 10)
    obtain ⟨bF, hbF, ebF⟩ := wi_nat (p_co (ark 13 k) - 10)
    obtain ⟨bT, hbT, ebT⟩ := wi_nat (p_co (ark 13 k) + 10)
    have hrg2 : ∀ t, t < 4096 → cvB ark k (cX t) (cY t) = 1 → swR aF aT bF bT t := by
      intro t ht hv
      obtain ⟨q1, q2, q3, q4⟩ := hrg t ht (by rw [← g3]; exact hv)
      rw [← g1, eaF, zs_le (by omega) (by omega)] at q1
      rw [← g1, eaT, zs_le (by omega) (by omega)] at q2
      rw [← g2, ebF, zs_le (by omega) (by omega)] at q3
      rw [← g2, ebT, zs_le (by omega) (by omega)] at q4
      exact ⟨q1, q2, q3, q4⟩
    refine x_sx C b_Mo_look_10_11 hl (L' := [(0, .ref (ad 20)), (1, .int (nI k))]) (st' := [.ref (ad 20)]) rfl (fun ls hl => ?_)
    refine x_get C hH.1 1000 mW_o 19 (v := .ref (ad 12)) rfl rfl (by decide) t_661 (fun _ z => z) d_Mo_look_11 ?_
    refine x_sx C b_Mo_look_14_15 hl (L' := [(0, .ref (ad 20)), (1, .int (nI k))]) (st' := [.int (nI k), .ref (ad 12)]) rfl (fun ls hl => ?_)
    refine x_ald C hH.1 (1001 + 12) (mW_i 12 (by decide) (by decide) rfl rfl rfl) (N := 3) (f := (ark 12)) (j := k) rfl hk (by decide) d_Mo_look_15 ?_
    refine x_ro (x_cS C (c_Mo_cellOf l G _ (ark 12 k)) t_776 t_14 t_774 t_775 hd_Mo_cellOf blind_Pro (pre_ro C hH.1 hH.2.2) (As := [.int (ark 12 k)]) (rest := []) rfl hl.1 rfl rfl rfl ⟨Nat.le_of_ble_eq_true rfl, Nat.le_of_ble_eq_true rfl⟩ (Nat.le_of_ble_eq_true rfl) ⟨Nat.zero_le _, Nat.zero_le _⟩ d_Mo_look_16) ?_
    refine x_sx C b_Mo_look_19_22 hl (L' := [(0, .ref (ad 20)), (1, .int (nI k))]) (st' := [.int ((p_co (ark 12 k)) - 10)]) rfl (fun ls hl => ?_)
    refine x_ro (x_cS C (c_Mo_within l G _ ((p_co (ark 12 k)) - 10)) t_782 t_14 t_780 t_781 hd_Mo_within blind_Pro (pre_ro C hH.1 hH.2.2) (As := [.int ((p_co (ark 12 k)) - 10)]) (rest := []) rfl hl.1 rfl rfl rfl ⟨Nat.le_of_ble_eq_true rfl, Nat.le_of_ble_eq_true rfl⟩ (Nat.le_of_ble_eq_true rfl) ⟨Nat.zero_le _, Nat.zero_le _⟩ d_Mo_look_22) ?_
    refine x_sx C b_Mo_look_25_27 hl (L' := [(2, .int (p_wi ((p_co (ark 12 k)) - 10))), (0, .ref (ad 20)), (1, .int (nI k))]) (st' := [.ref (ad 20)]) rfl (fun ls hl => ?_)
    refine x_get C hH.1 1000 mW_o 19 (v := .ref (ad 12)) rfl rfl (by decide) t_661 (fun _ z => z) d_Mo_look_27 ?_
    refine x_sx C b_Mo_look_30_31 hl (L' := [(2, .int (p_wi ((p_co (ark 12 k)) - 10))), (0, .ref (ad 20)), (1, .int (nI k))]) (st' := [.int (nI k), .ref (ad 12)]) rfl (fun ls hl => ?_)
    refine x_ald C hH.1 (1001 + 12) (mW_i 12 (by decide) (by decide) rfl rfl rfl) (N := 3) (f := (ark 12)) (j := k) rfl hk (by decide) d_Mo_look_31 ?_
    refine x_ro (x_cS C (c_Mo_cellOf l G _ (ark 12 k)) t_776 t_14 t_774 t_775 hd_Mo_cellOf blind_Pro (pre_ro C hH.1 hH.2.2) (As := [.int (ark 12 k)]) (rest := []) rfl hl.1 rfl rfl rfl ⟨Nat.le_of_ble_eq_true rfl, Nat.le_of_ble_eq_true rfl⟩ (Nat.le_of_ble_eq_true rfl) ⟨Nat.zero_le _, Nat.zero_le _⟩ d_Mo_look_32) ?_
    refine x_sx C b_Mo_look_35_38 hl (L' := [(2, .int (p_wi ((p_co (ark 12 k)) - 10))), (0, .ref (ad 20)), (1, .int (nI k))]) (st' := [.int ((p_co (ark 12 k)) + 10)]) rfl (fun ls hl => ?_)
    refine x_ro (x_cS C (c_Mo_within l G _ ((p_co (ark 12 k)) + 10)) t_782 t_14 t_780 t_781 hd_Mo_within blind_Pro (pre_ro C hH.1 hH.2.2) (As := [.int ((p_co (ark 12 k)) + 10)]) (rest := []) rfl hl.1 rfl rfl rfl ⟨Nat.le_of_ble_eq_true rfl, Nat.le_of_ble_eq_true rfl⟩ (Nat.le_of_ble_eq_true rfl) ⟨Nat.zero_le _, Nat.zero_le _⟩ d_Mo_look_38) ?_
    refine x_sx C b_Mo_look_41_43 hl (L' := [(3, .int (p_wi ((p_co (ark 12 k)) + 10))), (2, .int (p_wi ((p_co (ark 12 k)) - 10))), (0, .ref (ad 20)), (1, .int (nI k))]) (st' := [.ref (ad 20)]) rfl (fun ls hl => ?_)
    refine x_get C hH.1 1000 mW_o 20 (v := .ref (ad 13)) rfl rfl (by decide) t_662 (fun _ z => z) d_Mo_look_43 ?_
    refine x_sx C b_Mo_look_46_47 hl (L' := [(3, .int (p_wi ((p_co (ark 12 k)) + 10))), (2, .int (p_wi ((p_co (ark 12 k)) - 10))), (0, .ref (ad 20)), (1, .int (nI k))]) (st' := [.int (nI k), .ref (ad 13)]) rfl (fun ls hl => ?_)
    refine x_ald C hH.1 (1001 + 13) (mW_i 13 (by decide) (by decide) rfl rfl rfl) (N := 3) (f := (ark 13)) (j := k) rfl hk (by decide) d_Mo_look_47 ?_
    refine x_ro (x_cS C (c_Mo_cellOf l G _ (ark 13 k)) t_776 t_14 t_774 t_775 hd_Mo_cellOf blind_Pro (pre_ro C hH.1 hH.2.2) (As := [.int (ark 13 k)]) (rest := []) rfl hl.1 rfl rfl rfl ⟨Nat.le_of_ble_eq_true rfl, Nat.le_of_ble_eq_true rfl⟩ (Nat.le_of_ble_eq_true rfl) ⟨Nat.zero_le _, Nat.zero_le _⟩ d_Mo_look_48) ?_
    refine x_sx C b_Mo_look_51_54 hl (L' := [(3, .int (p_wi ((p_co (ark 12 k)) + 10))), (2, .int (p_wi ((p_co (ark 12 k)) - 10))), (0, .ref (ad 20)), (1, .int (nI k))]) (st' := [.int ((p_co (ark 13 k)) - 10)]) rfl (fun ls hl => ?_)
    refine x_ro (x_cS C (c_Mo_within l G _ ((p_co (ark 13 k)) - 10)) t_782 t_14 t_780 t_781 hd_Mo_within blind_Pro (pre_ro C hH.1 hH.2.2) (As := [.int ((p_co (ark 13 k)) - 10)]) (rest := []) rfl hl.1 rfl rfl rfl ⟨Nat.le_of_ble_eq_true rfl, Nat.le_of_ble_eq_true rfl⟩ (Nat.le_of_ble_eq_true rfl) ⟨Nat.zero_le _, Nat.zero_le _⟩ d_Mo_look_54) ?_
    refine x_sx C b_Mo_look_57_60 hl (L' := [(4, .int (p_wi ((p_co (ark 13 k)) - 10))), (3, .int (p_wi ((p_co (ark 12 k)) + 10))), (2, .int (p_wi ((p_co (ark 12 k)) - 10))), (0, .ref (ad 20)), (1, .int (nI k))]) (st' := [.ref (ad 20)]) rfl (fun ls hl => ?_)
    refine x_get C hH.1 1000 mW_o 20 (v := .ref (ad 13)) rfl rfl (by decide) t_662 (fun _ z => z) d_Mo_look_60 ?_
    refine x_sx C b_Mo_look_63_64 hl (L' := [(4, .int (p_wi ((p_co (ark 13 k)) - 10))), (3, .int (p_wi ((p_co (ark 12 k)) + 10))), (2, .int (p_wi ((p_co (ark 12 k)) - 10))), (0, .ref (ad 20)), (1, .int (nI k))]) (st' := [.int (nI k), .ref (ad 13)]) rfl (fun ls hl => ?_)
    refine x_ald C hH.1 (1001 + 13) (mW_i 13 (by decide) (by decide) rfl rfl rfl) (N := 3) (f := (ark 13)) (j := k) rfl hk (by decide) d_Mo_look_64 ?_
    refine x_ro (x_cS C (c_Mo_cellOf l G _ (ark 13 k)) t_776 t_14 t_774 t_775 hd_Mo_cellOf blind_Pro (pre_ro C hH.1 hH.2.2) (As := [.int (ark 13 k)]) (rest := []) rfl hl.1 rfl rfl rfl ⟨Nat.le_of_ble_eq_true rfl, Nat.le_of_ble_eq_true rfl⟩ (Nat.le_of_ble_eq_true rfl) ⟨Nat.zero_le _, Nat.zero_le _⟩ d_Mo_look_65) ?_
    refine x_sx C b_Mo_look_68_71 hl (L' := [(4, .int (p_wi ((p_co (ark 13 k)) - 10))), (3, .int (p_wi ((p_co (ark 12 k)) + 10))), (2, .int (p_wi ((p_co (ark 12 k)) - 10))), (0, .ref (ad 20)), (1, .int (nI k))]) (st' := [.int ((p_co (ark 13 k)) + 10)]) rfl (fun ls hl => ?_)
    refine x_ro (x_cS C (c_Mo_within l G _ ((p_co (ark 13 k)) + 10)) t_782 t_14 t_780 t_781 hd_Mo_within blind_Pro (pre_ro C hH.1 hH.2.2) (As := [.int ((p_co (ark 13 k)) + 10)]) (rest := []) rfl hl.1 rfl rfl rfl ⟨Nat.le_of_ble_eq_true rfl, Nat.le_of_ble_eq_true rfl⟩ (Nat.le_of_ble_eq_true rfl) ⟨Nat.zero_le _, Nat.zero_le _⟩ d_Mo_look_71) ?_
    refine x_sx C b_Mo_look_74_79 hl (L' := [(6, .int (p_wi ((p_co (ark 12 k)) - 10))), (5, .int (p_wi ((p_co (ark 13 k)) + 10))), (4, .int (p_wi ((p_co (ark 13 k)) - 10))), (3, .int (p_wi ((p_co (ark 12 k)) + 10))), (2, .int (p_wi ((p_co (ark 12 k)) - 10))), (0, .ref (ad 20)), (1, .int (nI k))]) (st' := []) rfl (fun ls hl => ?_)
    have hl : lv_has ls 9 [(6, .int (zs aF)), (5, .int (zs bT)), (4, .int (zs bF)), (3, .int (zs aT)), (2, .int (zs aF)), (0, .ref (ad 20)), (1, .int (nI k))] := by rw [← eaF, ← eaT, ← ebF, ← ebT]; exact hl
    have hw0 : Hw G A s (mW G ad w0 (va_up sck 12 (nI (cnt (ark 17)))) (va_up ark 17 (ark 17))) H locs := by rw [up_id sck 12 _ fc, up_id ark 17 _ rfl]; exact hH
    refine x_loop (X := Nat × (Nat → Int32)) (fun x => 64 - x.1) (fun x H locs => x.1 ≤ 64 ∧ SWI (fun t => cvB ark k (cX t) (cY t) = 1) aF aT bF bT (ark 17) x.2 (64 * x.1 + bF) ∧ aF ≤ x.1 ∧ Hw G A s (mW G ad w0 (va_up sck 12 (nI (cnt x.2))) (va_up ark 17 x.2)) H locs) (fun x => [(0, .ref (ad 20)), (1, .int (nI k)), (3, .int (zs aT)), (4, .int (zs bF)), (5, .int (zs bT)), (6, .int (zs x.1))]) 79 ?_ (aF, ark 17) _ _ _ ⟨by omega, SWI.start, Nat.le_refl _, hw0⟩ (lv_sub hl [5, 6, 3, 2, 1, 0] rfl)
    intro x H locs ls hI hl IH1
    obtain ⟨a, f⟩ := x
    obtain ⟨ha64, hsw, haF2, hH⟩ := hI
    dsimp only at ha64 hsw haF2 hH IH1
    have hl : lv_has ls 9 [(0, .ref (ad 20)), (1, .int (nI k)), (3, .int (zs aT)), (4, .int (zs bF)), (5, .int (zs bT)), (6, .int (zs a))] := hl
    refine x_sx C b_Mo_look_79_82 hl (L' := [(0, .ref (ad 20)), (1, .int (nI k)), (3, .int (zs aT)), (4, .int (zs bF)), (5, .int (zs bT)), (6, .int (zs a))]) (st' := [.int (zs aT), .int (zs a)]) rfl (fun ls hl => ?_)
    refine lv_icmp_gt (tgt := 182) C.1 C.2.1 d_Mo_look_82 (by decide) (fun hb => ?_) (fun hb => ?_)
    · have haT2 : aT < a := by rw [zs_lt (by omega) (by omega)] at hb; omega
      clear hb
      have hf := hsw.end haT2 hrg2
      have hf2 : ∀ t, t < 4096 → f t = fSw ark k t := by
        intro t ht
        unfold fSw
        split
        · exact (hf t ht).1 (by assumption)
        · exact (hf t ht).2 (by assumption)
      have hcf : cnt f = cnt (fSw ark k) := cntN_congr 4096 hf2
      rw [hcf] at hH
      have hH : Hw G A s (mW G ad w0 (va_up sck 12 (nI (cnt (fSw ark k)))) (va_up ark 17 (fSw ark k))) H locs := by
        refine hH.mcongr (fun i h0 h1 j hj => ?_)
        by_cases e : i = 17
        · subst e; rw [up_s, up_s]; exact hf2 j hj
        · rw [up_n _ _ e, up_n _ _ e]
      clear hsw hf hf2 hcf
      refine x_sx C b_Mo_look_182_185 hl (L' := [(6, .int 0), (0, .ref (ad 20)), (1, .int (nI k)), (3, .int (zs aT)), (4, .int (zs bF)), (5, .int (zs bT))]) (st' := []) rfl (fun ls hl => ?_)
      have fn2 : lookI (sc, ar) (k + 1) = (fClN (va_up sck 12 (nI (cnt (fSw ark k)))) (va_up ark 17 (fSw ark k)) k 0 np, va_up ark 17 (fSw ark k)) := by rw [fn]; unfold lookB fCl; dsimp only; rw [up_n _ _ (by decide), f6, nI_clamp (by omega)]
      have k6 : va_up sck 12 (nI (cnt (fSw ark k))) 6 = nI np := (up_n _ _ (by decide)).trans f6
      have k7 : ¬ va_up sck 12 (nI (cnt (fSw ark k))) 7 = -1 := fun z => f7 ((up_n _ _ (by decide)).symm.trans z)
      have g4 : ∀ j, hitP (va_up ark 17 (fSw ark k)) k j = decide (cvB ark k (4096 * ark 6 j) (4096 * ark 7 j) = 1) := fun j => rfl
      generalize va_up sck 12 (nI (cnt (fSw ark k))) = scs at hH fn2 k6 k7
      generalize hars : va_up ark 17 (fSw ark k) = ars at hH fn2 g4
      have a6 : ars 6 = ark 6 := by rw [← hars]; exact up_n _ _ (by decide)
      have a7 : ars 7 = ark 7 := by rw [← hars]; exact up_n _ _ (by decide)
      have g5 : ∀ px py, cvB ars k px py = cvB ark k px py := fun px py => by rw [← hars]; rfl
      refine x_loop (X := Nat × (Nat → Int32)) (fun x => np + 1 - x.1) (fun x H locs => x.1 ≤ np ∧ x.2 6 = nI np ∧ ¬ x.2 7 = -1 ∧ fClN scs ars k 0 np = fClN x.2 ars k x.1 (np - x.1) ∧ Hw G A s (mW G ad w0 x.2 ars) H locs) (fun x => [(0, .ref (ad 20)), (1, .int (nI k)), (6, .int (nI x.1))]) 185 ?_ (0, scs) _ _ _ ⟨Nat.zero_le _, k6, k7, rfl, hH⟩ (lv_sub hl [1, 2, 0] rfl)
      intro x H locs ls hI hl IH3
      obtain ⟨j, scj⟩ := x
      obtain ⟨hjn, j6, j7, hcl, hH⟩ := hI
      dsimp only at hjn j6 j7 hcl hH IH3
      have hl : lv_has ls 9 [(0, .ref (ad 20)), (1, .int (nI k)), (6, .int (nI j))] := hl
      refine x_sx C b_Mo_look_185_188 hl (L' := [(0, .ref (ad 20)), (1, .int (nI k)), (6, .int (nI j))]) (st' := [.ref (ad 20), .int (nI j)]) rfl (fun ls hl => ?_)
      refine x_get C hH.1 1000 mW_o 12 (v := .int (scj 6)) rfl rfl (by decide) t_654 (fun _ z => z) d_Mo_look_188 ?_
      refine lv_icmp_ge (tgt := 257) C.1 C.2.1 d_Mo_look_191 (by decide) (fun hb => ?_) (fun hb => ?_)
      · have hst : fClN scj ars k j (np - j) = scj := by rw [j6, nI_leI (by omega) (by omega)] at hb; rw [show np - j = 0 by omega]; exact fClN_0
        refine x_sx C b_Mo_look_257_260 hl (L' := [(1, .int ((nI k) + 1)), (0, .ref (ad 20)), (6, .int (nI j))]) (st' := []) rfl (fun ls hl => ?_)
        refine x_goto (tgt := 2) C d_Mo_look_260 (by decide) ?_
        refine IH (k + 1) _ _ _ (by omega) ⟨by omega, ?_⟩ (by rw [← nI_1]; exact (lv_sub hl [1, 0] rfl))
        rw [fn2, hcl, hst]
        exact hH
      · have hj : j < np := by rw [j6, nI_leI (by omega) (by omega)] at hb; omega
        have hj20 : j < 20 := by omega
        refine x_sx C b_Mo_look_194_195 hl (L' := [(0, .ref (ad 20)), (1, .int (nI k)), (6, .int (nI j))]) (st' := [.ref (ad 20)]) rfl (fun ls hl => ?_)
        refine x_get C hH.1 1000 mW_o 26 (v := .int (scj 9)) rfl rfl (by decide) t_668 (fun _ z => z) d_Mo_look_195 ?_
        refine x_sx C b_Mo_look_198_199 hl (L' := [(0, .ref (ad 20)), (1, .int (nI k)), (6, .int (nI j))]) (st' := [.int (-1), .int (scj 9)]) rfl (fun ls hl => ?_)
        refine lv_icmp_ne (tgt := 257) C.1 C.2.1 d_Mo_look_199 (by decide) (fun h9 => ?_) (fun h9 => ?_)
        · have hst : fClN scj ars k j (np - j) = scj := fClN_stop h9
          refine x_sx C b_Mo_look_257_260 hl (L' := [(1, .int ((nI k) + 1)), (0, .ref (ad 20)), (6, .int (nI j))]) (st' := []) rfl (fun ls hl => ?_)
          refine x_goto (tgt := 2) C d_Mo_look_260 (by decide) ?_
          refine IH (k + 1) _ _ _ (by omega) ⟨by omega, ?_⟩ (by rw [← nI_1]; exact (lv_sub hl [1, 0] rfl))
          rw [fn2, hcl, hst]
          exact hH
        · have h9 : scj 9 = -1 := h9
          refine x_sx C b_Mo_look_202_208 hl (L' := [(0, .ref (ad 20)), (1, .int (nI k)), (6, .int (nI j))]) (st' := [.ref (ad 20), .int 4096, .int (nI k), .ref (ad 20)]) rfl (fun ls hl => ?_)
          refine x_get C hH.1 1000 mW_o 13 (v := .ref (ad 6)) rfl rfl (by decide) t_655 (fun _ z => z) d_Mo_look_208 ?_
          refine x_sx C b_Mo_look_211_213 hl (L' := [(0, .ref (ad 20)), (1, .int (nI k)), (6, .int (nI j))]) (st' := [.int (nI j), .ref (ad 6), .int 4096, .int (nI k), .ref (ad 20)]) rfl (fun ls hl => ?_)
          refine x_ald C hH.1 (1001 + 6) (mW_i 6 (by decide) (by decide) rfl rfl rfl) (N := 20) (f := (ars 6)) (j := j) rfl hj20 (by decide) d_Mo_look_213 ?_
          refine x_sx C b_Mo_look_214_219 hl (L' := [(0, .ref (ad 20)), (1, .int (nI k)), (6, .int (nI j))]) (st' := [.ref (ad 20), .int 4096, .int (4096 * (ars 6 j)), .int (nI k), .ref (ad 20)]) rfl (fun ls hl => ?_)
          refine x_get C hH.1 1000 mW_o 14 (v := .ref (ad 7)) rfl rfl (by decide) t_656 (fun _ z => z) d_Mo_look_219 ?_
          refine x_sx C b_Mo_look_222_224 hl (L' := [(0, .ref (ad 20)), (1, .int (nI k)), (6, .int (nI j))]) (st' := [.int (nI j), .ref (ad 7), .int 4096, .int (4096 * (ars 6 j)), .int (nI k), .ref (ad 20)]) rfl (fun ls hl => ?_)
          refine x_ald C hH.1 (1001 + 7) (mW_i 7 (by decide) (by decide) rfl rfl rfl) (N := 20) (f := (ars 7)) (j := j) rfl hj20 (by decide) d_Mo_look_224 ?_
          refine x_sx C b_Mo_look_225_226 hl (L' := [(0, .ref (ad 20)), (1, .int (nI k)), (6, .int (nI j))]) (st' := [.int (4096 * (ars 7 j)), .int (4096 * (ars 6 j)), .int (nI k), .ref (ad 20)]) rfl (fun ls hl => ?_)
          refine x_ro (x_cV C hH.1 mW_o rfl (c_Mo_covers l G ad w0 scj ars k (4096 * (ars 6 j)) (4096 * (ars 7 j)) hk) t_786 t_14 t_783 t_785 ts_19 hd_Mo_covers blind_Pro (pre_ro C hH.1 hH.2.2) (As := [.int (nI k), .int (4096 * (ars 6 j)), .int (4096 * (ars 7 j))]) (rest := []) rfl hl.1 rfl rfl rfl ⟨Nat.le_of_ble_eq_true rfl, Nat.le_of_ble_eq_true rfl⟩ (Nat.le_of_ble_eq_true rfl) ⟨Nat.zero_le _, Nat.zero_le _⟩ d_Mo_look_226) ?_
          refine lv_if_eq (tgt := 251) C.1 C.2.1 d_Mo_look_229 (by decide) (fun hv => ?_) (fun hv => ?_)
          · have hm : ¬ hitP ars k j = true := by rw [g4, decide_eq_true_iff]; intro z; rw [← g5, ← a6, ← a7] at z; exact absurd ((show p_cov _ _ _ _ _ _ _ _ = 0 from hv).symm.trans z) (by decide)
            refine x_sx C b_Mo_look_251_254 hl (L' := [(6, .int ((nI j) + 1)), (0, .ref (ad 20)), (1, .int (nI k))]) (st' := []) rfl (fun ls hl => ?_)
            refine x_goto (tgt := 185) C d_Mo_look_254 (by decide) ?_
            exact IH3 (j + 1, scj) _ _ _ (by show np + 1 - (j + 1) < np + 1 - j; omega) ⟨by show j + 1 ≤ np; omega, j6, j7, (by rw [hcl, show np - j = (np - (j + 1)) + 1 by omega]; exact fClN_miss hm), hH⟩ (by rw [← nI_1]; exact (lv_sub hl [1, 2, 0] rfl))
          · have hm : hitP ars k j = true := by rw [g4, decide_eq_true_iff, ← g5, ← a6, ← a7]; exact cov_1 hv
            refine x_sx C b_Mo_look_232_234 hl (L' := [(0, .ref (ad 20)), (1, .int (nI k)), (6, .int (nI j))]) (st' := [.ref (ad 20), .ref (ad 20)]) rfl (fun ls hl => ?_)
            refine x_get C hH.1 1000 mW_o 24 (v := .int (scj 7)) rfl rfl (by decide) t_666 (fun _ z => z) d_Mo_look_234 ?_
            refine m_put C hH 26 9 rfl (by decide) t_668 rfl rfl rfl rfl d_Mo_look_237 (fun H locs hH => ?_)
            refine x_sx C b_Mo_look_240_242 hl (L' := [(0, .ref (ad 20)), (1, .int (nI k)), (6, .int (nI j))]) (st' := [.int (nI k), .ref (ad 20)]) rfl (fun ls hl => ?_)
            refine m_put C hH 27 10 rfl (by decide) t_669 rfl rfl rfl rfl d_Mo_look_242 (fun H locs hH => ?_)
            refine x_sx C b_Mo_look_245_248 hl (L' := [(0, .ref (ad 20)), (1, .int (nI k)), (6, .int (nI j))]) (st' := [.int (nI j), .ref (ad 20)]) rfl (fun ls hl => ?_)
            refine m_put C hH 28 11 rfl (by decide) t_670 rfl rfl rfl rfl d_Mo_look_248 (fun H locs hH => ?_)
            have hH : Hw G A s (mW G ad w0 (va_up (va_up (va_up scj 9 (scj 7)) 10 (nI k)) 11 (nI j)) ars) H locs := hH
            refine x_sx C b_Mo_look_251_254 hl (L' := [(6, .int ((nI j) + 1)), (0, .ref (ad 20)), (1, .int (nI k))]) (st' := []) rfl (fun ls hl => ?_)
            refine x_goto (tgt := 185) C d_Mo_look_254 (by decide) ?_
            exact IH3 (j + 1, (va_up (va_up (va_up scj 9 (scj 7)) 10 (nI k)) 11 (nI j))) _ _ _ (by show np + 1 - (j + 1) < np + 1 - j; omega) ⟨by show j + 1 ≤ np; omega, j6, (fun z => j7 z), (by rw [hcl, show np - j = (np - (j + 1)) + 1 by omega, fClN_hit h9 hm]; exact (fClN_stop (fun z => j7 z)).symm), hH⟩ (by rw [← nI_1]; exact (lv_sub hl [1, 2, 0] rfl))
    · have haT2 : a ≤ aT := by rw [zs_lt (by omega) (by omega)] at hb; omega
      clear hb
      refine x_sx C b_Mo_look_85_89 hl (L' := [(7, .int (zs bF)), (0, .ref (ad 20)), (1, .int (nI k)), (3, .int (zs aT)), (4, .int (zs bF)), (5, .int (zs bT)), (6, .int (zs a))]) (st' := []) rfl (fun ls hl => ?_)
      refine x_loop (X := Nat × (Nat → Int32)) (fun x => 64 - x.1) (fun x H locs => x.1 ≤ 64 ∧ SWI (fun t => cvB ark k (cX t) (cY t) = 1) aF aT bF bT (ark 17) x.2 (64 * a + x.1) ∧ bF ≤ x.1 ∧ Hw G A s (mW G ad w0 (va_up sck 12 (nI (cnt x.2))) (va_up ark 17 x.2)) H locs) (fun x => [(0, .ref (ad 20)), (1, .int (nI k)), (3, .int (zs aT)), (4, .int (zs bF)), (5, .int (zs bT)), (6, .int (zs a)), (7, .int (zs x.1))]) 89 ?_ (bF, f) _ _ _ ⟨by omega, hsw, Nat.le_refl _, hH⟩ (lv_sub hl [1, 2, 3, 4, 5, 6, 0] rfl)
      intro x H locs ls hI hl IH2
      obtain ⟨b, f⟩ := x
      obtain ⟨hb64, hsw, hbF2, hH⟩ := hI
      dsimp only at hb64 hsw hbF2 hH IH2
      have hl : lv_has ls 9 [(0, .ref (ad 20)), (1, .int (nI k)), (3, .int (zs aT)), (4, .int (zs bF)), (5, .int (zs bT)), (6, .int (zs a)), (7, .int (zs b))] := hl
      refine x_sx C b_Mo_look_89_93 hl (L' := [(0, .ref (ad 20)), (1, .int (nI k)), (3, .int (zs aT)), (4, .int (zs bF)), (5, .int (zs bT)), (6, .int (zs a)), (7, .int (zs b))]) (st' := [.int (zs bT), .int (zs b)]) rfl (fun ls hl => ?_)
      refine lv_icmp_gt (tgt := 176) C.1 C.2.1 d_Mo_look_93 (by decide) (fun hb => ?_) (fun hb => ?_)
      · have hbT2 : bT < b := by rw [zs_lt (by omega) (by omega)] at hb; omega
        refine x_sx C b_Mo_look_176_179 hl (L' := [(6, .int ((zs a) + 1)), (0, .ref (ad 20)), (1, .int (nI k)), (3, .int (zs aT)), (4, .int (zs bF)), (5, .int (zs bT)), (7, .int (zs b))]) (st' := []) rfl (fun ls hl => ?_)
        refine x_goto (tgt := 79) C d_Mo_look_179 (by decide) ?_
        refine IH1 (a + 1, f) _ _ _ (by show 64 - (a + 1) < 64 - a; omega) ⟨by show a + 1 ≤ 64; omega, ?_, by show aF ≤ a + 1; omega, hH⟩ (by rw [← zs_inc]; exact (lv_sub hl [1, 2, 3, 4, 5, 0] rfl))
        refine hsw.skip (by omega) (fun t h1 h2 h3 h4 h5 => ?_)
        obtain ⟨r1, r2, r3, r4⟩ := h4
        omega
      · have hbT2 : b ≤ bT := by rw [zs_lt (by omega) (by omega)] at hb; omega
        clear hb
        have hR : swR aF aT bF bT (64 * a + b) := ⟨by omega, by omega, by omega, by omega⟩
        have ht : 64 * a + b < 4096 := by omega
        have hfa := hsw.at ht
        refine x_sx C b_Mo_look_96_112 hl (L' := [(8, .int (((64 * ((zs a) + 32)) + (zs b)) + 32)), (0, .ref (ad 20)), (1, .int (nI k)), (3, .int (zs aT)), (4, .int (zs bF)), (5, .int (zs bT)), (6, .int (zs a)), (7, .int (zs b))]) (st' := []) rfl (fun ls hl => ?_)
        have hl : lv_has ls 9 [(8, .int (nI (64 * a + b))), (0, .ref (ad 20)), (1, .int (nI k)), (3, .int (zs aT)), (4, .int (zs bF)), (5, .int (zs bT)), (6, .int (zs a)), (7, .int (zs b))] := by rw [← zs_at]; exact hl
        refine x_sx C b_Mo_look_112_113 hl (L' := [(8, .int (nI (64 * a + b))), (0, .ref (ad 20)), (1, .int (nI k)), (3, .int (zs aT)), (4, .int (zs bF)), (5, .int (zs bT)), (6, .int (zs a)), (7, .int (zs b))]) (st' := [.ref (ad 20)]) rfl (fun ls hl => ?_)
        refine x_get C hH.1 1000 mW_o 30 (v := .ref (ad 17)) rfl rfl (by decide) t_672 (fun _ z => z) d_Mo_look_113 ?_
        refine x_sx C b_Mo_look_116_118 hl (L' := [(8, .int (nI (64 * a + b))), (0, .ref (ad 20)), (1, .int (nI k)), (3, .int (zs aT)), (4, .int (zs bF)), (5, .int (zs bT)), (6, .int (zs a)), (7, .int (zs b))]) (st' := [.int (nI (64 * a + b)), .ref (ad 17)]) rfl (fun ls hl => ?_)
        refine x_zld C hH.1 (1001 + 17) (mW_z 17 (by decide) (by decide) rfl rfl rfl) (N := 4096) (f := f) (j := 64 * a + b) rfl ht (by decide) d_Mo_look_118 ?_
        refine lv_if_ne (tgt := 170) C.1 C.2.1 d_Mo_look_119 (by decide) (fun hs => ?_) (fun hs => ?_)
        · have hf1 : f (64 * a + b) = 1 := by rcases fz _ ht with z | z; exact absurd (hfa.trans z) hs; exact hfa.trans z
          refine x_sx C b_Mo_look_170_173 hl (L' := [(7, .int ((zs b) + 1)), (8, .int (nI (64 * a + b))), (0, .ref (ad 20)), (1, .int (nI k)), (3, .int (zs aT)), (4, .int (zs bF)), (5, .int (zs bT)), (6, .int (zs a))]) (st' := []) rfl (fun ls hl => ?_)
          refine x_goto (tgt := 89) C d_Mo_look_173 (by decide) ?_
          exact IH2 (b + 1, f) _ _ _ (by show 64 - (b + 1) < 64 - b; omega) ⟨by show b + 1 ≤ 64; omega, hsw.skip (by omega) (fun t h1 h2 h3 h4 h5 => by rw [show t = 64 * a + b by omega]; exact hf1), by show bF ≤ b + 1; omega, hH⟩ (by rw [← zs_inc]; exact (lv_sub hl [2, 3, 4, 5, 6, 7, 0] rfl))
        · refine x_sx C b_Mo_look_122_146 hl (L' := [(8, .int (nI (64 * a + b))), (0, .ref (ad 20)), (1, .int (nI k)), (3, .int (zs aT)), (4, .int (zs bF)), (5, .int (zs bT)), (6, .int (zs a)), (7, .int (zs b))]) (st' := [.int (4096 * ((8 * (zs b)) + 4)), .int (4096 * ((8 * (zs a)) + 4)), .int (nI k), .ref (ad 20)]) rfl (fun ls hl => ?_)
          refine x_ro (x_cV C hH.1 mW_o rfl (c_Mo_covers l G ad w0 (va_up sck 12 (nI (cnt f))) (va_up ark 17 f) k (4096 * ((8 * (zs a)) + 4)) (4096 * ((8 * (zs b)) + 4)) hk) t_786 t_14 t_783 t_785 ts_19 hd_Mo_covers blind_Pro (pre_ro C hH.1 hH.2.2) (As := [.int (nI k), .int (4096 * ((8 * (zs a)) + 4)), .int (4096 * ((8 * (zs b)) + 4))]) (rest := []) rfl hl.1 rfl rfl rfl ⟨Nat.le_of_ble_eq_true rfl, Nat.le_of_ble_eq_true rfl⟩ (Nat.le_of_ble_eq_true rfl) ⟨Nat.zero_le _, Nat.zero_le _⟩ d_Mo_look_146) ?_
          refine lv_if_eq (tgt := 170) C.1 C.2.1 d_Mo_look_149 (by decide) (fun hv => ?_) (fun hv => ?_)
          · have hv : cvB ark k (cX (64 * a + b)) (cY (64 * a + b)) = 0 := by rw [cX_at (by omega), cY_at (by omega)]; exact hv
            refine x_sx C b_Mo_look_170_173 hl (L' := [(7, .int ((zs b) + 1)), (8, .int (nI (64 * a + b))), (0, .ref (ad 20)), (1, .int (nI k)), (3, .int (zs aT)), (4, .int (zs bF)), (5, .int (zs bT)), (6, .int (zs a))]) (st' := []) rfl (fun ls hl => ?_)
            refine x_goto (tgt := 89) C d_Mo_look_173 (by decide) ?_
            exact IH2 (b + 1, f) _ _ _ (by show 64 - (b + 1) < 64 - b; omega) ⟨by show b + 1 ≤ 64; omega, hsw.skip (by omega) (fun t h1 h2 h3 h4 h5 => by rw [show t = 64 * a + b by omega, hv] at h5; exact absurd h5 (by decide)), by show bF ≤ b + 1; omega, hH⟩ (by rw [← zs_inc]; exact (lv_sub hl [2, 3, 4, 5, 6, 7, 0] rfl))
          · have hv1 : cvB ark k (cX (64 * a + b)) (cY (64 * a + b)) = 1 := by rw [cX_at (by omega), cY_at (by omega)]; exact cov_1 hv
            refine x_sx C b_Mo_look_152_153 hl (L' := [(8, .int (nI (64 * a + b))), (0, .ref (ad 20)), (1, .int (nI k)), (3, .int (zs aT)), (4, .int (zs bF)), (5, .int (zs bT)), (6, .int (zs a)), (7, .int (zs b))]) (st' := [.ref (ad 20)]) rfl (fun ls hl => ?_)
            refine x_get C hH.1 1000 mW_o 30 (v := .ref (ad 17)) rfl rfl (by decide) t_672 (fun _ z => z) d_Mo_look_153 ?_
            refine x_sx C b_Mo_look_156_159 hl (L' := [(8, .int (nI (64 * a + b))), (0, .ref (ad 20)), (1, .int (nI k)), (3, .int (zs aT)), (4, .int (zs bF)), (5, .int (zs bT)), (6, .int (zs a)), (7, .int (zs b))]) (st' := [.int 1, .int (nI (64 * a + b)), .ref (ad 17)]) rfl (fun ls hl => ?_)
            refine m_zst C hH 17 (by decide) (by decide) rfl (N := 4096) rfl (f := f) rfl (j := 64 * a + b) rfl ht rfl d_Mo_look_159 (fun H locs hH => ?_)
            rw [bx_uu] at hH
            refine x_sx C b_Mo_look_160_162 hl (L' := [(8, .int (nI (64 * a + b))), (0, .ref (ad 20)), (1, .int (nI k)), (3, .int (zs aT)), (4, .int (zs bF)), (5, .int (zs bT)), (6, .int (zs a)), (7, .int (zs b))]) (st' := [.ref (ad 20), .ref (ad 20)]) rfl (fun ls hl => ?_)
            refine x_get C hH.1 1000 mW_o 29 (v := .int (nI (cnt f))) rfl rfl (by decide) t_671 (fun _ z => z) d_Mo_look_162 ?_
            refine x_sx C b_Mo_look_165_167 hl (L' := [(8, .int (nI (64 * a + b))), (0, .ref (ad 20)), (1, .int (nI k)), (3, .int (zs aT)), (4, .int (zs bF)), (5, .int (zs bT)), (6, .int (zs a)), (7, .int (zs b))]) (st' := [.int ((nI (cnt f)) + 1), .ref (ad 20)]) rfl (fun ls hl => ?_)
            refine m_put C hH 29 12 rfl (by decide) t_671 rfl rfl rfl rfl d_Mo_look_167 (fun H locs hH => ?_)
            have hH : Hw G A s (mW G ad w0 (va_up sck 12 (nI (cnt (upd f (64 * a + b) 1)))) (va_up ark 17 (upd f (64 * a + b) 1))) H locs := by
              rw [bx_uu, nI_1] at hH
              rw [show cnt (upd f (64 * a + b) 1) = cnt f + 1 from cntN_set (by rw [hs]; decide) 4096 ht]
              exact hH
            refine x_sx C b_Mo_look_170_173 hl (L' := [(7, .int ((zs b) + 1)), (8, .int (nI (64 * a + b))), (0, .ref (ad 20)), (1, .int (nI k)), (3, .int (zs aT)), (4, .int (zs bF)), (5, .int (zs bT)), (6, .int (zs a))]) (st' := []) rfl (fun ls hl => ?_)
            refine x_goto (tgt := 89) C d_Mo_look_173 (by decide) ?_
            exact IH2 (b + 1, upd f (64 * a + b) 1) _ _ _ (by show 64 - (b + 1) < 64 - b; omega) ⟨by show b + 1 ≤ 64; omega, hsw.set hR hv1, by show bF ≤ b + 1; omega, hH⟩ (by rw [← zs_inc]; exact (lv_sub hl [2, 3, 4, 5, 6, 7, 0] rfl))
theorem hd_Mo_look : hdP y_Mo_look 0 := ⟨by decide +kernel, by decide +kernel, by decide +kernel⟩
