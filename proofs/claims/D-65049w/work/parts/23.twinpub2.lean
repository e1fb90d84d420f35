theorem b_Mo_told_0_4 : decs prog_7_method_22_code [(.aload_n 0, 1), (.iload_n 1, 1), (.iconst 0, 1), (.aload_n 0, 1)] 0 4 = true := by decide +kernel
theorem d_Mo_told_4 : decode prog_7_method_22_code 4 = .ok (.getfield 84, 3) := by decide +kernel
theorem b_Mo_told_7_9 : decs prog_7_method_22_code [(.iconst 1, 1), (.isub, 1)] 7 9 = true := by decide +kernel
theorem d_Mo_told_9 : decode prog_7_method_22_code 9 = .ok (.invokestatic 152, 3) := by decide +kernel
theorem d_Mo_told_12 : decode prog_7_method_22_code 12 = .ok (.ifCond .eq 16, 3) := by decide +kernel
theorem b_Mo_told_28_29 : decs prog_7_method_22_code [(.iconst 1, 1)] 28 29 = true := by decide +kernel
theorem d_Mo_told_29 : decode prog_7_method_22_code 29 = .ok (.putfield 87, 3) := by decide +kernel
theorem b_Mo_told_32_33 : decs prog_7_method_22_code [(.aload_n 0, 1)] 32 33 = true := by decide +kernel
theorem d_Mo_told_33 : decode prog_7_method_22_code 33 = .ok (.getfield 87, 3) := by decide +kernel
theorem d_Mo_told_36 : decode prog_7_method_22_code 36 = .ok (.ifCond .le 5, 3) := by decide +kernel
theorem b_Mo_told_39_40 : decs prog_7_method_22_code [(.iconst 0, 1)] 39 40 = true := by decide +kernel
theorem d_Mo_told_40 : decode prog_7_method_22_code 40 = .ok (.ireturn, 1) := by decide +kernel
theorem b_Mo_told_15_18 : decs prog_7_method_22_code [(.iload_n 2, 1), (.iconst 0, 1), (.iconst 4, 1)] 15 18 = true := by decide +kernel
theorem d_Mo_told_18 : decode prog_7_method_22_code 18 = .ok (.invokestatic 152, 3) := by decide +kernel
theorem d_Mo_told_21 : decode prog_7_method_22_code 21 = .ok (.ifCond .eq 7, 3) := by decide +kernel
set_option maxRecDepth 100000 in
set_option maxHeartbeats 4000000 in
theorem c_Mo_told_1 (l : Launch) (G : GG) (A : Nat → Prop) (ad : Nat → Nat) (w0 : WF) (sc : Nat → Int32) (ar : Nat → Nat → Int32) (a1 a2 : Int32) (hv : ¬ ((p_in a1 0 ((sc 1) - 1)) = 1 ∧ (p_in a2 0 4) = 1)) : Met l y_Mo_told (Cond.code y_Mo_told prog_7_method_22_code 3 (some FieldType.int) :: wt) { frames := 2, cells := 0, slots := 0, locals := 41 } (Pre G A (mW G ad w0 sc ar) (fun _ => True) [.ref (ad 20), .int a1, .int a2]) (Qw A (some (.int 0)) G (mW G ad w0 (va_up sc 0 1) ar)) 0 0 A := by
  refine mt_of (by decide) (Nat.le_of_ble_eq_true rfl) ?_
  intro p e s m below meth c ls C hH hA hE hr hmn hl
  have hl : lv_has ls 3 [(0, .ref (ad 20)), (1, .int a1), (2, .int a2)] := hl
  refine x_sx C b_Mo_told_0_4 hl (L' := [(0, .ref (ad 20)), (1, .int a1), (2, .int a2)]) (st' := [.ref (ad 20), .int 0, .int a1, .ref (ad 20)]) rfl (fun ls hl => ?_)
  refine x_get C hH.1 1000 mW_o 2 (v := .int (sc 1)) rfl rfl (by decide) t_644 (fun _ z => z) d_Mo_told_4 ?_
  refine x_sx C b_Mo_told_7_9 hl (L' := [(0, .ref (ad 20)), (1, .int a1), (2, .int a2)]) (st' := [.int ((sc 1) - 1), .int 0, .int a1, .ref (ad 20)]) rfl (fun ls hl => ?_)
  refine x_ro (x_cS C (c_Mo_in l G _ a1 0 ((sc 1) - 1)) t_753 t_14 t_751 t_752 hd_Mo_in blind_Pro (pre_ro C hH.1 hH.2.2) (As := [.int a1, .int 0, .int ((sc 1) - 1)]) (rest := [.ref (ad 20)]) rfl hl.1 rfl rfl rfl ⟨Nat.le_of_ble_eq_true rfl, Nat.le_of_ble_eq_true rfl⟩ (Nat.le_of_ble_eq_true rfl) ⟨Nat.zero_le _, Nat.zero_le _⟩ d_Mo_told_9) ?_
  refine lv_if_eq (tgt := 28) C.1 C.2.1 d_Mo_told_12 (by decide) (fun v0 => ?_) (fun v0 => ?_)
  · refine x_sx C b_Mo_told_28_29 hl (L' := [(0, .ref (ad 20)), (1, .int a1), (2, .int a2)]) (st' := [.int 1, .ref (ad 20)]) rfl (fun ls hl => ?_)
    refine m_put C hH 0 0 rfl (by decide) t_642 rfl rfl rfl rfl d_Mo_told_29 (fun H locs hH => ?_)
    refine x_sx C b_Mo_told_32_33 hl (L' := [(0, .ref (ad 20)), (1, .int a1), (2, .int a2)]) (st' := [.ref (ad 20)]) rfl (fun ls hl => ?_)
    refine x_get C hH.1 1000 mW_o 0 (v := .int 1) rfl rfl (by decide) t_642 (fun _ z => z) d_Mo_told_33 ?_
    refine lv_if_le (tgt := 41) C.1 C.2.1 d_Mo_told_36 (by decide) (fun h => absurd h (by decide)) (fun _ => ?_)
    refine x_sx C b_Mo_told_39_40 hl (L' := [(0, .ref (ad 20)), (1, .int a1), (2, .int a2)]) (st' := [.int 0]) rfl (fun ls hl => ?_)
    exact x_irt C hr hH.2.2 ⟨rfl, hH.1, hH.2.1⟩ (Nat.le_refl _) (Nat.le_refl _) d_Mo_told_40
  · refine x_sx C b_Mo_told_15_18 hl (L' := [(0, .ref (ad 20)), (1, .int a1), (2, .int a2)]) (st' := [.int 4, .int 0, .int a2, .ref (ad 20)]) rfl (fun ls hl => ?_)
    refine x_ro (x_cS C (c_Mo_in l G _ a2 0 4) t_753 t_14 t_751 t_752 hd_Mo_in blind_Pro (pre_ro C hH.1 hH.2.2) (As := [.int a2, .int 0, .int 4]) (rest := [.ref (ad 20)]) rfl hl.1 rfl rfl rfl ⟨Nat.le_of_ble_eq_true rfl, Nat.le_of_ble_eq_true rfl⟩ (Nat.le_of_ble_eq_true rfl) ⟨Nat.zero_le _, Nat.zero_le _⟩ d_Mo_told_18) ?_
    refine lv_if_eq (tgt := 28) C.1 C.2.1 d_Mo_told_21 (by decide) (fun v1 => ?_) (fun v1 => ?_)
    · refine x_sx C b_Mo_told_28_29 hl (L' := [(0, .ref (ad 20)), (1, .int a1), (2, .int a2)]) (st' := [.int 1, .ref (ad 20)]) rfl (fun ls hl => ?_)
      refine m_put C hH 0 0 rfl (by decide) t_642 rfl rfl rfl rfl d_Mo_told_29 (fun H locs hH => ?_)
      refine x_sx C b_Mo_told_32_33 hl (L' := [(0, .ref (ad 20)), (1, .int a1), (2, .int a2)]) (st' := [.ref (ad 20)]) rfl (fun ls hl => ?_)
      refine x_get C hH.1 1000 mW_o 0 (v := .int 1) rfl rfl (by decide) t_642 (fun _ z => z) d_Mo_told_33 ?_
      refine lv_if_le (tgt := 41) C.1 C.2.1 d_Mo_told_36 (by decide) (fun h => absurd h (by decide)) (fun _ => ?_)
      refine x_sx C b_Mo_told_39_40 hl (L' := [(0, .ref (ad 20)), (1, .int a1), (2, .int a2)]) (st' := [.int 0]) rfl (fun ls hl => ?_)
      exact x_irt C hr hH.2.2 ⟨rfl, hH.1, hH.2.1⟩ (Nat.le_refl _) (Nat.le_refl _) d_Mo_told_40
    · exact absurd ⟨p_in1 v0, p_in1 v1⟩ hv
theorem b_Mo_told_24_25 : decs prog_7_method_22_code [(.iconst 0, 1)] 24 25 = true := by decide +kernel
theorem d_Mo_told_25 : decode prog_7_method_22_code 25 = .ok (.goto 4, 3) := by decide +kernel
theorem b_Mo_told_41_43 : decs prog_7_method_22_code [(.iload_n 2, 1), (.iconst 2, 1)] 41 43 = true := by decide +kernel
theorem d_Mo_told_43 : decode prog_7_method_22_code 43 = .ok (.if_icmp .ge 23, 3) := by decide +kernel
theorem b_Mo_told_66_68 : decs prog_7_method_22_code [(.iload_n 2, 1), (.iconst 2, 1)] 66 68 = true := by decide +kernel
theorem d_Mo_told_68 : decode prog_7_method_22_code 68 = .ok (.if_icmp .ne 12, 3) := by decide +kernel
theorem b_Mo_told_80_82 : decs prog_7_method_22_code [(.iload_n 2, 1), (.iconst 3, 1)] 80 82 = true := by decide +kernel
theorem d_Mo_told_82 : decode prog_7_method_22_code 82 = .ok (.if_icmp .ne 11, 3) := by decide +kernel
theorem b_Mo_told_93_94 : decs prog_7_method_22_code [(.aload_n 0, 1)] 93 94 = true := by decide +kernel
theorem d_Mo_told_94 : decode prog_7_method_22_code 94 = .ok (.getfield 63, 3) := by decide +kernel
theorem b_Mo_told_97_98 : decs prog_7_method_22_code [(.iload_n 1, 1)] 97 98 = true := by decide +kernel
theorem d_Mo_told_98 : decode prog_7_method_22_code 98 = .ok (.iaload, 1) := by decide +kernel
theorem d_Mo_told_99 : decode prog_7_method_22_code 99 = .ok (.ireturn, 1) := by decide +kernel
theorem b_Mo_told_85_87 : decs prog_7_method_22_code [(.aload_n 0, 1), (.iload_n 1, 1)] 85 87 = true := by decide +kernel
theorem d_Mo_told_87 : decode prog_7_method_22_code 87 = .ok (.invokevirtual 145, 3) := by decide +kernel
theorem d_Mo_told_90 : decode prog_7_method_22_code 90 = .ok (.goto 9, 3) := by decide +kernel
theorem b_Mo_told_71_72 : decs prog_7_method_22_code [(.aload_n 0, 1)] 71 72 = true := by decide +kernel
theorem d_Mo_told_72 : decode prog_7_method_22_code 72 = .ok (.getfield 57, 3) := by decide +kernel
theorem b_Mo_told_75_76 : decs prog_7_method_22_code [(.iload_n 1, 1)] 75 76 = true := by decide +kernel
theorem d_Mo_told_76 : decode prog_7_method_22_code 76 = .ok (.iaload, 1) := by decide +kernel
theorem d_Mo_told_77 : decode prog_7_method_22_code 77 = .ok (.goto 22, 3) := by decide +kernel
theorem b_Mo_told_46_47 : decs prog_7_method_22_code [(.iload_n 2, 1)] 46 47 = true := by decide +kernel
theorem d_Mo_told_47 : decode prog_7_method_22_code 47 = .ok (.ifCond .ne 12, 3) := by decide +kernel
theorem b_Mo_told_59_60 : decs prog_7_method_22_code [(.aload_n 0, 1)] 59 60 = true := by decide +kernel
theorem d_Mo_told_60 : decode prog_7_method_22_code 60 = .ok (.getfield 54, 3) := by decide +kernel
theorem b_Mo_told_63_64 : decs prog_7_method_22_code [(.iload_n 1, 1)] 63 64 = true := by decide +kernel
theorem d_Mo_told_64 : decode prog_7_method_22_code 64 = .ok (.iaload, 1) := by decide +kernel
theorem d_Mo_told_65 : decode prog_7_method_22_code 65 = .ok (.ireturn, 1) := by decide +kernel
theorem b_Mo_told_50_51 : decs prog_7_method_22_code [(.aload_n 0, 1)] 50 51 = true := by decide +kernel
theorem d_Mo_told_51 : decode prog_7_method_22_code 51 = .ok (.getfield 51, 3) := by decide +kernel
theorem b_Mo_told_54_55 : decs prog_7_method_22_code [(.iload_n 1, 1)] 54 55 = true := by decide +kernel
theorem d_Mo_told_55 : decode prog_7_method_22_code 55 = .ok (.iaload, 1) := by decide +kernel
theorem d_Mo_told_56 : decode prog_7_method_22_code 56 = .ok (.goto 9, 3) := by decide +kernel
set_option maxRecDepth 100000 in
set_option maxHeartbeats 4000000 in
theorem c_Mo_told (l : Launch) (G : GG) (A : Nat → Prop) (ad : Nat → Nat) (w0 : WF) (sc : Nat → Int32) (ar : Nat → Nat → Int32) (k : Nat) (a2 : Int32) (hv : (p_in (nI k) 0 ((sc 1) - 1)) = 1 ∧ (p_in a2 0 4) = 1) (hk : k < 3) : Met l y_Mo_told (Cond.code y_Mo_told prog_7_method_22_code 3 (some FieldType.int) :: wt) { frames := 2, cells := 0, slots := 0, locals := 41 } (Pre G A (mW G ad w0 sc ar) (fun _ => True) [.ref (ad 20), .int (nI k), .int a2]) (Qw A (some (.int (fTold ar k a2))) G (mW G ad w0 (va_up sc 0 0) ar)) 0 0 A := by
  refine mt_of (by decide) (Nat.le_of_ble_eq_true rfl) ?_
  intro p e s m below meth c ls C hH hA hE hr hmn hl
  have hl : lv_has ls 3 [(0, .ref (ad 20)), (1, .int (nI k)), (2, .int a2)] := hl
  refine x_sx C b_Mo_told_0_4 hl (L' := [(0, .ref (ad 20)), (1, .int (nI k)), (2, .int a2)]) (st' := [.ref (ad 20), .int 0, .int (nI k), .ref (ad 20)]) rfl (fun ls hl => ?_)
  refine x_get C hH.1 1000 mW_o 2 (v := .int (sc 1)) rfl rfl (by decide) t_644 (fun _ z => z) d_Mo_told_4 ?_
  refine x_sx C b_Mo_told_7_9 hl (L' := [(0, .ref (ad 20)), (1, .int (nI k)), (2, .int a2)]) (st' := [.int ((sc 1) - 1), .int 0, .int (nI k), .ref (ad 20)]) rfl (fun ls hl => ?_)
  refine x_ro (x_cS C (c_Mo_in l G _ (nI k) 0 ((sc 1) - 1)) t_753 t_14 t_751 t_752 hd_Mo_in blind_Pro (pre_ro C hH.1 hH.2.2) (As := [.int (nI k), .int 0, .int ((sc 1) - 1)]) (rest := [.ref (ad 20)]) rfl hl.1 rfl rfl rfl ⟨Nat.le_of_ble_eq_true rfl, Nat.le_of_ble_eq_true rfl⟩ (Nat.le_of_ble_eq_true rfl) ⟨Nat.zero_le _, Nat.zero_le _⟩ d_Mo_told_9) ?_
  refine lv_if_eq (tgt := 28) C.1 C.2.1 d_Mo_told_12 (by decide) (fun h => absurd h (by rw [hv.1]; first | done | decide)) (fun _ => ?_)
  refine x_sx C b_Mo_told_15_18 hl (L' := [(0, .ref (ad 20)), (1, .int (nI k)), (2, .int a2)]) (st' := [.int 4, .int 0, .int a2, .ref (ad 20)]) rfl (fun ls hl => ?_)
  refine x_ro (x_cS C (c_Mo_in l G _ a2 0 4) t_753 t_14 t_751 t_752 hd_Mo_in blind_Pro (pre_ro C hH.1 hH.2.2) (As := [.int a2, .int 0, .int 4]) (rest := [.ref (ad 20)]) rfl hl.1 rfl rfl rfl ⟨Nat.le_of_ble_eq_true rfl, Nat.le_of_ble_eq_true rfl⟩ (Nat.le_of_ble_eq_true rfl) ⟨Nat.zero_le _, Nat.zero_le _⟩ d_Mo_told_18) ?_
  refine lv_if_eq (tgt := 28) C.1 C.2.1 d_Mo_told_21 (by decide) (fun h => absurd h (by rw [hv.2]; first | done | decide)) (fun _ => ?_)
  refine x_sx C b_Mo_told_24_25 hl (L' := [(0, .ref (ad 20)), (1, .int (nI k)), (2, .int a2)]) (st' := [.int 0, .ref (ad 20)]) rfl (fun ls hl => ?_)
  refine x_goto (tgt := 29) C d_Mo_told_25 (by decide) ?_
  refine m_put C hH 0 0 rfl (by decide) t_642 rfl rfl rfl rfl d_Mo_told_29 (fun H locs hH => ?_)
  refine x_sx C b_Mo_told_32_33 hl (L' := [(0, .ref (ad 20)), (1, .int (nI k)), (2, .int a2)]) (st' := [.ref (ad 20)]) rfl (fun ls hl => ?_)
  refine x_get C hH.1 1000 mW_o 0 (v := .int 0) rfl rfl (by decide) t_642 (fun _ z => z) d_Mo_told_33 ?_
  refine lv_if_le (tgt := 41) C.1 C.2.1 d_Mo_told_36 (by decide) (fun _ => ?_) (fun h => absurd (by decide) h)
  refine x_sx C b_Mo_told_41_43 hl (L' := [(0, .ref (ad 20)), (1, .int (nI k)), (2, .int a2)]) (st' := [.int 2, .int a2]) rfl (fun ls hl => ?_)
  refine lv_icmp_ge (tgt := 66) C.1 C.2.1 d_Mo_told_43 (by decide) (fun h1 => ?_) (fun h1 => ?_)
  · refine x_sx C b_Mo_told_66_68 hl (L' := [(0, .ref (ad 20)), (1, .int (nI k)), (2, .int a2)]) (st' := [.int 2, .int a2]) rfl (fun ls hl => ?_)
    refine lv_icmp_ne (tgt := 80) C.1 C.2.1 d_Mo_told_68 (by decide) (fun h2 => ?_) (fun h2 => ?_)
    · refine x_sx C b_Mo_told_80_82 hl (L' := [(0, .ref (ad 20)), (1, .int (nI k)), (2, .int a2)]) (st' := [.int 3, .int a2]) rfl (fun ls hl => ?_)
      refine lv_icmp_ne (tgt := 93) C.1 C.2.1 d_Mo_told_82 (by decide) (fun h3 => ?_) (fun h3 => ?_)
      · refine x_sx C b_Mo_told_93_94 hl (L' := [(0, .ref (ad 20)), (1, .int (nI k)), (2, .int a2)]) (st' := [.ref (ad 20)]) rfl (fun ls hl => ?_)
        refine x_get C hH.1 1000 mW_o 23 (v := .ref (ad 16)) rfl rfl (by decide) t_665 (fun _ z => z) d_Mo_told_94 ?_
        refine x_sx C b_Mo_told_97_98 hl (L' := [(0, .ref (ad 20)), (1, .int (nI k)), (2, .int a2)]) (st' := [.int (nI k), .ref (ad 16)]) rfl (fun ls hl => ?_)
        refine x_ald C hH.1 (1001 + 16) (mW_i 16 (by decide) (by decide) rfl rfl rfl) (N := 3) (f := (ar 16)) (j := k) rfl hk (by decide) d_Mo_told_98 ?_
        exact x_irt C hr hH.2.2 ⟨by unfold fTold; simp [h1, h2, h3], hH.1, hH.2.1⟩ (Nat.le_refl _) (Nat.le_refl _) d_Mo_told_99
      · refine x_sx C b_Mo_told_85_87 hl (L' := [(0, .ref (ad 20)), (1, .int (nI k)), (2, .int a2)]) (st' := [.int (nI k), .ref (ad 20)]) rfl (fun ls hl => ?_)
        refine x_ro (x_cV C hH.1 mW_o rfl (c_Mo_askewOf l G ad w0 (va_up sc 0 0) ar k hk) t_815 t_14 t_812 t_814 ts_22 hd_Mo_askewOf blind_Pro (pre_ro C hH.1 hH.2.2) (As := [.int (nI k)]) (rest := []) rfl hl.1 rfl rfl rfl ⟨Nat.le_of_ble_eq_true rfl, Nat.le_of_ble_eq_true rfl⟩ (Nat.le_of_ble_eq_true rfl) ⟨Nat.zero_le _, Nat.zero_le _⟩ d_Mo_told_87) ?_
        refine x_goto (tgt := 99) C d_Mo_told_90 (by decide) ?_
        exact x_irt C hr hH.2.2 ⟨by unfold fTold; simp [h1, h2, h3], hH.1, hH.2.1⟩ (Nat.le_refl _) (Nat.le_refl _) d_Mo_told_99
    · refine x_sx C b_Mo_told_71_72 hl (L' := [(0, .ref (ad 20)), (1, .int (nI k)), (2, .int a2)]) (st' := [.ref (ad 20)]) rfl (fun ls hl => ?_)
      refine x_get C hH.1 1000 mW_o 21 (v := .ref (ad 14)) rfl rfl (by decide) t_663 (fun _ z => z) d_Mo_told_72 ?_
      refine x_sx C b_Mo_told_75_76 hl (L' := [(0, .ref (ad 20)), (1, .int (nI k)), (2, .int a2)]) (st' := [.int (nI k), .ref (ad 14)]) rfl (fun ls hl => ?_)
      refine x_ald C hH.1 (1001 + 14) (mW_i 14 (by decide) (by decide) rfl rfl rfl) (N := 3) (f := (ar 14)) (j := k) rfl hk (by decide) d_Mo_told_76 ?_
      refine x_goto (tgt := 99) C d_Mo_told_77 (by decide) ?_
      exact x_irt C hr hH.2.2 ⟨by unfold fTold; simp [h1, h2], hH.1, hH.2.1⟩ (Nat.le_refl _) (Nat.le_refl _) d_Mo_told_99
  · refine x_sx C b_Mo_told_46_47 hl (L' := [(0, .ref (ad 20)), (1, .int (nI k)), (2, .int a2)]) (st' := [.int a2]) rfl (fun ls hl => ?_)
    refine lv_if_ne (tgt := 59) C.1 C.2.1 d_Mo_told_47 (by decide) (fun h4 => ?_) (fun h4 => ?_)
    · refine x_sx C b_Mo_told_59_60 hl (L' := [(0, .ref (ad 20)), (1, .int (nI k)), (2, .int a2)]) (st' := [.ref (ad 20)]) rfl (fun ls hl => ?_)
      refine x_get C hH.1 1000 mW_o 20 (v := .ref (ad 13)) rfl rfl (by decide) t_662 (fun _ z => z) d_Mo_told_60 ?_
      refine x_sx C b_Mo_told_63_64 hl (L' := [(0, .ref (ad 20)), (1, .int (nI k)), (2, .int a2)]) (st' := [.int (nI k), .ref (ad 13)]) rfl (fun ls hl => ?_)
      refine x_ald C hH.1 (1001 + 13) (mW_i 13 (by decide) (by decide) rfl rfl rfl) (N := 3) (f := (ar 13)) (j := k) rfl hk (by decide) d_Mo_told_64 ?_
      exact x_irt C hr hH.2.2 ⟨by unfold fTold; simp [h1, h4], hH.1, hH.2.1⟩ (Nat.le_refl _) (Nat.le_refl _) d_Mo_told_65
    · refine x_sx C b_Mo_told_50_51 hl (L' := [(0, .ref (ad 20)), (1, .int (nI k)), (2, .int a2)]) (st' := [.ref (ad 20)]) rfl (fun ls hl => ?_)
      refine x_get C hH.1 1000 mW_o 19 (v := .ref (ad 12)) rfl rfl (by decide) t_661 (fun _ z => z) d_Mo_told_51 ?_
      refine x_sx C b_Mo_told_54_55 hl (L' := [(0, .ref (ad 20)), (1, .int (nI k)), (2, .int a2)]) (st' := [.int (nI k), .ref (ad 12)]) rfl (fun ls hl => ?_)
      refine x_ald C hH.1 (1001 + 12) (mW_i 12 (by decide) (by decide) rfl rfl rfl) (N := 3) (f := (ar 12)) (j := k) rfl hk (by decide) d_Mo_told_55 ?_
      refine x_goto (tgt := 65) C d_Mo_told_56 (by decide) ?_
      exact x_irt C hr hH.2.2 ⟨by unfold fTold; simp [h1, h4], hH.1, hH.2.1⟩ (Nat.le_refl _) (Nat.le_refl _) d_Mo_told_65
theorem hd_Mo_told : hdP y_Mo_told 2 := ⟨by decide +kernel, by decide +kernel, by decide +kernel⟩
theorem b_Mo_corner_0_4 : decs prog_7_method_23_code [(.aload_n 0, 1), (.iload_n 1, 1), (.iconst 0, 1), (.aload_n 0, 1)] 0 4 = true := by decide +kernel
theorem d_Mo_corner_4 : decode prog_7_method_23_code 4 = .ok (.getfield 84, 3) := by decide +kernel
theorem b_Mo_corner_7_9 : decs prog_7_method_23_code [(.iconst 1, 1), (.isub, 1)] 7 9 = true := by decide +kernel
theorem d_Mo_corner_9 : decode prog_7_method_23_code 9 = .ok (.invokestatic 152, 3) := by decide +kernel
theorem d_Mo_corner_12 : decode prog_7_method_23_code 12 = .ok (.ifCond .eq 25, 3) := by decide +kernel
theorem b_Mo_corner_37_38 : decs prog_7_method_23_code [(.iconst 1, 1)] 37 38 = true := by decide +kernel
theorem d_Mo_corner_38 : decode prog_7_method_23_code 38 = .ok (.putfield 87, 3) := by decide +kernel
theorem b_Mo_corner_41_42 : decs prog_7_method_23_code [(.aload_n 0, 1)] 41 42 = true := by decide +kernel
theorem d_Mo_corner_42 : decode prog_7_method_23_code 42 = .ok (.getfield 87, 3) := by decide +kernel
theorem d_Mo_corner_45 : decode prog_7_method_23_code 45 = .ok (.ifCond .le 5, 3) := by decide +kernel
theorem b_Mo_corner_48_49 : decs prog_7_method_23_code [(.iconst 0, 1)] 48 49 = true := by decide +kernel
theorem d_Mo_corner_49 : decode prog_7_method_23_code 49 = .ok (.ireturn, 1) := by decide +kernel
theorem b_Mo_corner_15_18 : decs prog_7_method_23_code [(.iload_n 2, 1), (.iconst 0, 1), (.iconst 3, 1)] 15 18 = true := by decide +kernel
theorem d_Mo_corner_18 : decode prog_7_method_23_code 18 = .ok (.invokestatic 152, 3) := by decide +kernel
theorem d_Mo_corner_21 : decode prog_7_method_23_code 21 = .ok (.ifCond .eq 16, 3) := by decide +kernel
theorem b_Mo_corner_24_27 : decs prog_7_method_23_code [(.iload_n 3, 1), (.iconst 0, 1), (.iconst 1, 1)] 24 27 = true := by decide +kernel
theorem d_Mo_corner_27 : decode prog_7_method_23_code 27 = .ok (.invokestatic 152, 3) := by decide +kernel
theorem d_Mo_corner_30 : decode prog_7_method_23_code 30 = .ok (.ifCond .eq 7, 3) := by decide +kernel
set_option maxRecDepth 100000 in
set_option maxHeartbeats 4000000 in
theorem c_Mo_corner_1 (l : Launch) (G : GG) (A : Nat → Prop) (ad : Nat → Nat) (w0 : WF) (sc : Nat → Int32) (ar : Nat → Nat → Int32) (a1 a2 a3 : Int32) (hv : ¬ ((p_in a1 0 ((sc 1) - 1)) = 1 ∧ (p_in a2 0 3) = 1 ∧ (p_in a3 0 1) = 1)) : Met l y_Mo_corner (Cond.code y_Mo_corner prog_7_method_23_code 8 (some FieldType.int) :: wt) { frames := 2, cells := 0, slots := 0, locals := 43 } (Pre G A (mW G ad w0 sc ar) (fun _ => True) [.ref (ad 20), .int a1, .int a2, .int a3]) (Qw A (some (.int 0)) G (mW G ad w0 (va_up sc 0 1) ar)) 0 0 A := by
  refine mt_of (by decide) (Nat.le_of_ble_eq_true rfl) ?_
  intro p e s m below meth c ls C hH hA hE hr hmn hl
  have hl : lv_has ls 8 [(0, .ref (ad 20)), (1, .int a1), (2, .int a2), (3, .int a3)] := hl
  refine x_sx C b_Mo_corner_0_4 hl (L' := [(0, .ref (ad 20)), (1, .int a1), (2, .int a2), (3, .int a3)]) (st' := [.ref (ad 20), .int 0, .int a1, .ref (ad 20)]) rfl (fun ls hl => ?_)
  refine x_get C hH.1 1000 mW_o 2 (v := .int (sc 1)) rfl rfl (by decide) t_644 (fun _ z => z) d_Mo_corner_4 ?_
  refine x_sx C b_Mo_corner_7_9 hl (L' := [(0, .ref (ad 20)), (1, .int a1), (2, .int a2), (3, .int a3)]) (st' := [.int ((sc 1) - 1), .int 0, .int a1, .ref (ad 20)]) rfl (fun ls hl => ?_)
  refine x_ro (x_cS C (c_Mo_in l G _ a1 0 ((sc 1) - 1)) t_753 t_14 t_751 t_752 hd_Mo_in blind_Pro (pre_ro C hH.1 hH.2.2) (As := [.int a1, .int 0, .int ((sc 1) - 1)]) (rest := [.ref (ad 20)]) rfl hl.1 rfl rfl rfl ⟨Nat.le_of_ble_eq_true rfl, Nat.le_of_ble_eq_true rfl⟩ (Nat.le_of_ble_eq_true rfl) ⟨Nat.zero_le _, Nat.zero_le _⟩ d_Mo_corner_9) ?_
  refine lv_if_eq (tgt := 37) C.1 C.2.1 d_Mo_corner_12 (by decide) (fun v0 => ?_) (fun v0 => ?_)
  · refine x_sx C b_Mo_corner_37_38 hl (L' := [(0, .ref (ad 20)), (1, .int a1), (2, .int a2), (3, .int a3)]) (st' := [.int 1, .ref (ad 20)]) rfl (fun ls hl => ?_)
    refine m_put C hH 0 0 rfl (by decide) t_642 rfl rfl rfl rfl d_Mo_corner_38 (fun H locs hH => ?_)
    refine x_sx C b_Mo_corner_41_42 hl (L' := [(0, .ref (ad 20)), (1, .int a1), (2, .int a2), (3, .int a3)]) (st' := [.ref (ad 20)]) rfl (fun ls hl => ?_)
    refine x_get C hH.1 1000 mW_o 0 (v := .int 1) rfl rfl (by decide) t_642 (fun _ z => z) d_Mo_corner_42 ?_
    refine lv_if_le (tgt := 50) C.1 C.2.1 d_Mo_corner_45 (by decide) (fun h => absurd h (by decide)) (fun _ => ?_)
    refine x_sx C b_Mo_corner_48_49 hl (L' := [(0, .ref (ad 20)), (1, .int a1), (2, .int a2), (3, .int a3)]) (st' := [.int 0]) rfl (fun ls hl => ?_)
    exact x_irt C hr hH.2.2 ⟨rfl, hH.1, hH.2.1⟩ (Nat.le_refl _) (Nat.le_refl _) d_Mo_corner_49
  · refine x_sx C b_Mo_corner_15_18 hl (L' := [(0, .ref (ad 20)), (1, .int a1), (2, .int a2), (3, .int a3)]) (st' := [.int 3, .int 0, .int a2, .ref (ad 20)]) rfl (fun ls hl => ?_)
    refine x_ro (x_cS C (c_Mo_in l G _ a2 0 3) t_753 t_14 t_751 t_752 hd_Mo_in blind_Pro (pre_ro C hH.1 hH.2.2) (As := [.int a2, .int 0, .int 3]) (rest := [.ref (ad 20)]) rfl hl.1 rfl rfl rfl ⟨Nat.le_of_ble_eq_true rfl, Nat.le_of_ble_eq_true rfl⟩ (Nat.le_of_ble_eq_true rfl) ⟨Nat.zero_le _, Nat.zero_le _⟩ d_Mo_corner_18) ?_
    refine lv_if_eq (tgt := 37) C.1 C.2.1 d_Mo_corner_21 (by decide) (fun v1 => ?_) (fun v1 => ?_)
    · refine x_sx C b_Mo_corner_37_38 hl (L' := [(0, .ref (ad 20)), (1, .int a1), (2, .int a2), (3, .int a3)]) (st' := [.int 1, .ref (ad 20)]) rfl (fun ls hl => ?_)
      refine m_put C hH 0 0 rfl (by decide) t_642 rfl rfl rfl rfl d_Mo_corner_38 (fun H locs hH => ?_)
      refine x_sx C b_Mo_corner_41_42 hl (L' := [(0, .ref (ad 20)), (1, .int a1), (2, .int a2), (3, .int a3)]) (st' := [.ref (ad 20)]) rfl (fun ls hl => ?_)
      refine x_get C hH.1 1000 mW_o 0 (v := .int 1) rfl rfl (by decide) t_642 (fun _ z => z) d_Mo_corner_42 ?_
      refine lv_if_le (tgt := 50) C.1 C.2.1 d_Mo_corner_45 (by decide) (fun h => absurd h (by decide)) (fun _ => ?_)
      refine x_sx C b_Mo_corner_48_49 hl (L' := [(0, .ref (ad 20)), (1, .int a1), (2, .int a2), (3, .int a3)]) (st' := [.int 0]) rfl (fun ls hl => ?_)
      exact x_irt C hr hH.2.2 ⟨rfl, hH.1, hH.2.1⟩ (Nat.le_refl _) (Nat.le_refl _) d_Mo_corner_49
    · refine x_sx C b_Mo_corner_24_27 hl (L' := [(0, .ref (ad 20)), (1, .int a1), (2, .int a2), (3, .int a3)]) (st' := [.int 1, .int 0, .int a3, .ref (ad 20)]) rfl (fun ls hl => ?_)
      refine x_ro (x_cS C (c_Mo_in l G _ a3 0 1) t_753 t_14 t_751 t_752 hd_Mo_in blind_Pro (pre_ro C hH.1 hH.2.2) (As := [.int a3, .int 0, .int 1]) (rest := [.ref (ad 20)]) rfl hl.1 rfl rfl rfl ⟨Nat.le_of_ble_eq_true rfl, Nat.le_of_ble_eq_true rfl⟩ (Nat.le_of_ble_eq_true rfl) ⟨Nat.zero_le _, Nat.zero_le _⟩ d_Mo_corner_27) ?_
      refine lv_if_eq (tgt := 37) C.1 C.2.1 d_Mo_corner_30 (by decide) (fun v2 => ?_) (fun v2 => ?_)
      · refine x_sx C b_Mo_corner_37_38 hl (L' := [(0, .ref (ad 20)), (1, .int a1), (2, .int a2), (3, .int a3)]) (st' := [.int 1, .ref (ad 20)]) rfl (fun ls hl => ?_)
        refine m_put C hH 0 0 rfl (by decide) t_642 rfl rfl rfl rfl d_Mo_corner_38 (fun H locs hH => ?_)
        refine x_sx C b_Mo_corner_41_42 hl (L' := [(0, .ref (ad 20)), (1, .int a1), (2, .int a2), (3, .int a3)]) (st' := [.ref (ad 20)]) rfl (fun ls hl => ?_)
        refine x_get C hH.1 1000 mW_o 0 (v := .int 1) rfl rfl (by decide) t_642 (fun _ z => z) d_Mo_corner_42 ?_
        refine lv_if_le (tgt := 50) C.1 C.2.1 d_Mo_corner_45 (by decide) (fun h => absurd h (by decide)) (fun _ => ?_)
        refine x_sx C b_Mo_corner_48_49 hl (L' := [(0, .ref (ad 20)), (1, .int a1), (2, .int a2), (3, .int a3)]) (st' := [.int 0]) rfl (fun ls hl => ?_)
        exact x_irt C hr hH.2.2 ⟨rfl, hH.1, hH.2.1⟩ (Nat.le_refl _) (Nat.le_refl _) d_Mo_corner_49
      · exact absurd ⟨p_in1 v0, p_in1 v1, p_in1 v2⟩ hv
theorem b_Mo_corner_33_34 : decs prog_7_method_23_code [(.iconst 0, 1)] 33 34 = true := by decide +kernel
theorem d_Mo_corner_34 : decode prog_7_method_23_code 34 = .ok (.goto 4, 3) := by decide +kernel
theorem b_Mo_corner_50_52 : decs prog_7_method_23_code [(.iload_n 2, 1), (.iconst 2, 1)] 50 52 = true := by decide +kernel
theorem d_Mo_corner_52 : decode prog_7_method_23_code 52 = .ok (.if_icmp .ge 12, 3) := by decide +kernel
theorem b_Mo_corner_64_65 : decs prog_7_method_23_code [(.aload_n 0, 1)] 64 65 = true := by decide +kernel
theorem d_Mo_corner_65 : decode prog_7_method_23_code 65 = .ok (.getfield 22, 3) := by decide +kernel
theorem b_Mo_corner_68_69 : decs prog_7_method_23_code [(.iload_n 1, 1)] 68 69 = true := by decide +kernel
theorem d_Mo_corner_69 : decode prog_7_method_23_code 69 = .ok (.iaload, 1) := by decide +kernel
theorem b_Mo_corner_70_74 : decs prog_7_method_23_code [(.ineg, 1), (.istore 4, 2), (.iload_n 2, 1)] 70 74 = true := by decide +kernel
theorem d_Mo_corner_74 : decode prog_7_method_23_code 74 = .ok (.ifCond .eq 8, 3) := by decide +kernel
theorem b_Mo_corner_82_83 : decs prog_7_method_23_code [(.aload_n 0, 1)] 82 83 = true := by decide +kernel
theorem d_Mo_corner_83 : decode prog_7_method_23_code 83 = .ok (.getfield 25, 3) := by decide +kernel
theorem b_Mo_corner_86_87 : decs prog_7_method_23_code [(.iload_n 1, 1)] 86 87 = true := by decide +kernel
theorem d_Mo_corner_87 : decode prog_7_method_23_code 87 = .ok (.iaload, 1) := by decide +kernel
theorem d_Mo_corner_88 : decode prog_7_method_23_code 88 = .ok (.goto 10, 3) := by decide +kernel
theorem b_Mo_corner_98_102 : decs prog_7_method_23_code [(.istore 5, 2), (.aload_n 0, 1), (.aload_n 0, 1)] 98 102 = true := by decide +kernel
theorem d_Mo_corner_102 : decode prog_7_method_23_code 102 = .ok (.getfield 57, 3) := by decide +kernel
theorem b_Mo_corner_105_106 : decs prog_7_method_23_code [(.iload_n 1, 1)] 105 106 = true := by decide +kernel
theorem d_Mo_corner_106 : decode prog_7_method_23_code 106 = .ok (.iaload, 1) := by decide +kernel
theorem d_Mo_corner_107 : decode prog_7_method_23_code 107 = .ok (.invokevirtual 90, 3) := by decide +kernel
theorem b_Mo_corner_110_114 : decs prog_7_method_23_code [(.istore 6, 2), (.aload_n 0, 1), (.aload_n 0, 1)] 110 114 = true := by decide +kernel
theorem d_Mo_corner_114 : decode prog_7_method_23_code 114 = .ok (.getfield 57, 3) := by decide +kernel
theorem b_Mo_corner_117_118 : decs prog_7_method_23_code [(.iload_n 1, 1)] 117 118 = true := by decide +kernel
theorem d_Mo_corner_118 : decode prog_7_method_23_code 118 = .ok (.iaload, 1) := by decide +kernel
theorem d_Mo_corner_119 : decode prog_7_method_23_code 119 = .ok (.invokevirtual 97, 3) := by decide +kernel
theorem b_Mo_corner_122_125 : decs prog_7_method_23_code [(.istore 7, 2), (.iload_n 3, 1)] 122 125 = true := by decide +kernel
theorem d_Mo_corner_125 : decode prog_7_method_23_code 125 = .ok (.ifCond .ne 24, 3) := by decide +kernel
theorem b_Mo_corner_149_150 : decs prog_7_method_23_code [(.aload_n 0, 1)] 149 150 = true := by decide +kernel
theorem d_Mo_corner_150 : decode prog_7_method_23_code 150 = .ok (.getfield 54, 3) := by decide +kernel
theorem b_Mo_corner_153_154 : decs prog_7_method_23_code [(.iload_n 1, 1)] 153 154 = true := by decide +kernel
theorem d_Mo_corner_154 : decode prog_7_method_23_code 154 = .ok (.iaload, 1) := by decide +kernel
theorem b_Mo_corner_155_167 : decs prog_7_method_23_code [(.iload 4, 2), (.iload 7, 2), (.imul, 1), (.iadd, 1), (.iload 5, 2), (.iload 6, 2), (.imul, 1), (.iadd, 1)] 155 167 = true := by decide +kernel
theorem d_Mo_corner_167 : decode prog_7_method_23_code 167 = .ok (.ireturn, 1) := by decide +kernel
theorem b_Mo_corner_128_129 : decs prog_7_method_23_code [(.aload_n 0, 1)] 128 129 = true := by decide +kernel
theorem d_Mo_corner_129 : decode prog_7_method_23_code 129 = .ok (.getfield 51, 3) := by decide +kernel
theorem b_Mo_corner_132_133 : decs prog_7_method_23_code [(.iload_n 1, 1)] 132 133 = true := by decide +kernel
theorem d_Mo_corner_133 : decode prog_7_method_23_code 133 = .ok (.iaload, 1) := by decide +kernel
theorem b_Mo_corner_134_146 : decs prog_7_method_23_code [(.iload 4, 2), (.iload 6, 2), (.imul, 1), (.iadd, 1), (.iload 5, 2), (.iload 7, 2), (.imul, 1), (.isub, 1)] 134 146 = true := by decide +kernel
theorem d_Mo_corner_146 : decode prog_7_method_23_code 146 = .ok (.goto 21, 3) := by decide +kernel
theorem b_Mo_corner_77_79 : decs prog_7_method_23_code [(.iload_n 2, 1), (.iconst 3, 1)] 77 79 = true := by decide +kernel
theorem d_Mo_corner_79 : decode prog_7_method_23_code 79 = .ok (.if_icmp .ne 12, 3) := by decide +kernel
theorem b_Mo_corner_91_92 : decs prog_7_method_23_code [(.aload_n 0, 1)] 91 92 = true := by decide +kernel
theorem d_Mo_corner_92 : decode prog_7_method_23_code 92 = .ok (.getfield 25, 3) := by decide +kernel
theorem b_Mo_corner_95_96 : decs prog_7_method_23_code [(.iload_n 1, 1)] 95 96 = true := by decide +kernel
theorem d_Mo_corner_96 : decode prog_7_method_23_code 96 = .ok (.iaload, 1) := by decide +kernel
theorem b_Mo_corner_97_102 : decs prog_7_method_23_code [(.ineg, 1), (.istore 5, 2), (.aload_n 0, 1), (.aload_n 0, 1)] 97 102 = true := by decide +kernel
theorem b_Mo_corner_55_56 : decs prog_7_method_23_code [(.aload_n 0, 1)] 55 56 = true := by decide +kernel
theorem d_Mo_corner_56 : decode prog_7_method_23_code 56 = .ok (.getfield 19, 3) := by decide +kernel
theorem b_Mo_corner_59_60 : decs prog_7_method_23_code [(.iload_n 1, 1)] 59 60 = true := by decide +kernel
theorem d_Mo_corner_60 : decode prog_7_method_23_code 60 = .ok (.iaload, 1) := by decide +kernel
theorem d_Mo_corner_61 : decode prog_7_method_23_code 61 = .ok (.goto 10, 3) := by decide +kernel
theorem b_Mo_corner_71_74 : decs prog_7_method_23_code [(.istore 4, 2), (.iload_n 2, 1)] 71 74 = true := by decide +kernel
set_option maxRecDepth 100000 in
set_option maxHeartbeats 4000000 in
theorem c_Mo_corner (l : Launch) (G : GG) (A : Nat → Prop) (ad : Nat → Nat) (w0 : WF) (sc : Nat → Int32) (ar : Nat → Nat → Int32) (k : Nat) (a2 a3 : Int32) (hv : (p_in (nI k) 0 ((sc 1) - 1)) = 1 ∧ (p_in a2 0 3) = 1 ∧ (p_in a3 0 1) = 1) (hk : k < 3) : Met l y_Mo_corner (Cond.code y_Mo_corner prog_7_method_23_code 8 (some FieldType.int) :: wt) { frames := 2, cells := 0, slots := 0, locals := 43 } (Pre G A (mW G ad w0 sc ar) (fun _ => True) [.ref (ad 20), .int (nI k), .int a2, .int a3]) (Qw A (some (.int (fCorner ar k a2 a3))) G (mW G ad w0 (va_up sc 0 0) ar)) 0 0 A := by
  refine mt_of (by decide) (Nat.le_of_ble_eq_true rfl) ?_
  intro p e s m below meth c ls C hH hA hE hr hmn hl
  have hl : lv_has ls 8 [(0, .ref (ad 20)), (1, .int (nI k)), (2, .int a2), (3, .int a3)] := hl
  refine x_sx C b_Mo_corner_0_4 hl (L' := [(0, .ref (ad 20)), (1, .int (nI k)), (2, .int a2), (3, .int a3)]) (st' := [.ref (ad 20), .int 0, .int (nI k), .ref (ad 20)]) rfl (fun ls hl => ?_)
  refine x_get C hH.1 1000 mW_o 2 (v := .int (sc 1)) rfl rfl (by decide) t_644 (fun _ z => z) d_Mo_corner_4 ?_
  refine x_sx C b_Mo_corner_7_9 hl (L' := [(0, .ref (ad 20)), (1, .int (nI k)), (2, .int a2), (3, .int a3)]) (st' := [.int ((sc 1) - 1), .int 0, .int (nI k), .ref (ad 20)]) rfl (fun ls hl => ?_)
  refine x_ro (x_cS C (c_Mo_in l G _ (nI k) 0 ((sc 1) - 1)) t_753 t_14 t_751 t_752 hd_Mo_in blind_Pro (pre_ro C hH.1 hH.2.2) (As := [.int (nI k), .int 0, .int ((sc 1) - 1)]) (rest := [.ref (ad 20)]) rfl hl.1 rfl rfl rfl ⟨Nat.le_of_ble_eq_true rfl, Nat.le_of_ble_eq_true rfl⟩ (Nat.le_of_ble_eq_true rfl) ⟨Nat.zero_le _, Nat.zero_le _⟩ d_Mo_corner_9) ?_
  refine lv_if_eq (tgt := 37) C.1 C.2.1 d_Mo_corner_12 (by decide) (fun h => absurd h (by rw [hv.1]; first | done | decide)) (fun _ => ?_)
  refine x_sx C b_Mo_corner_15_18 hl (L' := [(0, .ref (ad 20)), (1, .int (nI k)), (2, .int a2), (3, .int a3)]) (st' := [.int 3, .int 0, .int a2, .ref (ad 20)]) rfl (fun ls hl => ?_)
  refine x_ro (x_cS C (c_Mo_in l G _ a2 0 3) t_753 t_14 t_751 t_752 hd_Mo_in blind_Pro (pre_ro C hH.1 hH.2.2) (As := [.int a2, .int 0, .int 3]) (rest := [.ref (ad 20)]) rfl hl.1 rfl rfl rfl ⟨Nat.le_of_ble_eq_true rfl, Nat.le_of_ble_eq_true rfl⟩ (Nat.le_of_ble_eq_true rfl) ⟨Nat.zero_le _, Nat.zero_le _⟩ d_Mo_corner_18) ?_
  refine lv_if_eq (tgt := 37) C.1 C.2.1 d_Mo_corner_21 (by decide) (fun h => absurd h (by rw [hv.2.1]; first | done | decide)) (fun _ => ?_)
  refine x_sx C b_Mo_corner_24_27 hl (L' := [(0, .ref (ad 20)), (1, .int (nI k)), (2, .int a2), (3, .int a3)]) (st' := [.int 1, .int 0, .int a3, .ref (ad 20)]) rfl (fun ls hl => ?_)
  refine x_ro (x_cS C (c_Mo_in l G _ a3 0 1) t_753 t_14 t_751 t_752 hd_Mo_in blind_Pro (pre_ro C hH.1 hH.2.2) (As := [.int a3, .int 0, .int 1]) (rest := [.ref (ad 20)]) rfl hl.1 rfl rfl rfl ⟨Nat.le_of_ble_eq_true rfl, Nat.le_of_ble_eq_true rfl⟩ (Nat.le_of_ble_eq_true rfl) ⟨Nat.zero_le _, Nat.zero_le _⟩ d_Mo_corner_27) ?_
  refine lv_if_eq (tgt := 37) C.1 C.2.1 d_Mo_corner_30 (by decide) (fun h => absurd h (by rw [hv.2.2]; first | done | decide)) (fun _ => ?_)
  refine x_sx C b_Mo_corner_33_34 hl (L' := [(0, .ref (ad 20)), (1, .int (nI k)), (2, .int a2), (3, .int a3)]) (st' := [.int 0, .ref (ad 20)]) rfl (fun ls hl => ?_)
  refine x_goto (tgt := 38) C d_Mo_corner_34 (by decide) ?_
  refine m_put C hH 0 0 rfl (by decide) t_642 rfl rfl rfl rfl d_Mo_corner_38 (fun H locs hH => ?_)
  refine x_sx C b_Mo_corner_41_42 hl (L' := [(0, .ref (ad 20)), (1, .int (nI k)), (2, .int a2), (3, .int a3)]) (st' := [.ref (ad 20)]) rfl (fun ls hl => ?_)
  refine x_get C hH.1 1000 mW_o 0 (v := .int 0) rfl rfl (by decide) t_642 (fun _ z => z) d_Mo_corner_42 ?_
  refine lv_if_le (tgt := 50) C.1 C.2.1 d_Mo_corner_45 (by decide) (fun _ => ?_) (fun h => absurd (by decide) h)
  refine x_sx C b_Mo_corner_50_52 hl (L' := [(0, .ref (ad 20)), (1, .int (nI k)), (2, .int a2), (3, .int a3)]) (st' := [.int 2, .int a2]) rfl (fun ls hl => ?_)
  refine lv_icmp_ge (tgt := 64) C.1 C.2.1 d_Mo_corner_52 (by decide) (fun h1 => ?_) (fun h1 => ?_)
  · refine x_sx C b_Mo_corner_64_65 hl (L' := [(0, .ref (ad 20)), (1, .int (nI k)), (2, .int a2), (3, .int a3)]) (st' := [.ref (ad 20)]) rfl (fun ls hl => ?_)
    refine x_get C hH.1 1000 mW_o 6 (v := .ref (ad 4)) rfl rfl (by decide) t_648 (fun _ z => z) d_Mo_corner_65 ?_
    refine x_sx C b_Mo_corner_68_69 hl (L' := [(0, .ref (ad 20)), (1, .int (nI k)), (2, .int a2), (3, .int a3)]) (st' := [.int (nI k), .ref (ad 4)]) rfl (fun ls hl => ?_)
    refine x_ald C hH.1 (1001 + 4) (mW_i 4 (by decide) (by decide) rfl rfl rfl) (N := 3) (f := (ar 4)) (j := k) rfl hk (by decide) d_Mo_corner_69 ?_
    refine x_sx C b_Mo_corner_70_74 hl (L' := [(4, .int (-(ar 4 k))), (0, .ref (ad 20)), (1, .int (nI k)), (2, .int a2), (3, .int a3)]) (st' := [.int a2]) rfl (fun ls hl => ?_)
    refine lv_if_eq (tgt := 82) C.1 C.2.1 d_Mo_corner_74 (by decide) (fun h2 => ?_) (fun h2 => ?_)
    · refine x_sx C b_Mo_corner_82_83 hl (L' := [(4, .int (-(ar 4 k))), (0, .ref (ad 20)), (1, .int (nI k)), (2, .int a2), (3, .int a3)]) (st' := [.ref (ad 20)]) rfl (fun ls hl => ?_)
      refine x_get C hH.1 1000 mW_o 7 (v := .ref (ad 5)) rfl rfl (by decide) t_649 (fun _ z => z) d_Mo_corner_83 ?_
      refine x_sx C b_Mo_corner_86_87 hl (L' := [(4, .int (-(ar 4 k))), (0, .ref (ad 20)), (1, .int (nI k)), (2, .int a2), (3, .int a3)]) (st' := [.int (nI k), .ref (ad 5)]) rfl (fun ls hl => ?_)
      refine x_ald C hH.1 (1001 + 5) (mW_i 5 (by decide) (by decide) rfl rfl rfl) (N := 3) (f := (ar 5)) (j := k) rfl hk (by decide) d_Mo_corner_87 ?_
      refine x_goto (tgt := 98) C d_Mo_corner_88 (by decide) ?_
      refine x_sx C b_Mo_corner_98_102 hl (L' := [(5, .int (ar 5 k)), (4, .int (-(ar 4 k))), (0, .ref (ad 20)), (1, .int (nI k)), (2, .int a2), (3, .int a3)]) (st' := [.ref (ad 20), .ref (ad 20)]) rfl (fun ls hl => ?_)
      refine x_get C hH.1 1000 mW_o 21 (v := .ref (ad 14)) rfl rfl (by decide) t_663 (fun _ z => z) d_Mo_corner_102 ?_
      refine x_sx C b_Mo_corner_105_106 hl (L' := [(5, .int (ar 5 k)), (4, .int (-(ar 4 k))), (0, .ref (ad 20)), (1, .int (nI k)), (2, .int a2), (3, .int a3)]) (st' := [.int (nI k), .ref (ad 14), .ref (ad 20)]) rfl (fun ls hl => ?_)
      refine x_ald C hH.1 (1001 + 14) (mW_i 14 (by decide) (by decide) rfl rfl rfl) (N := 3) (f := (ar 14)) (j := k) rfl hk (by decide) d_Mo_corner_106 ?_
      refine x_ro (x_cV C hH.1 mW_o rfl (c_Mo_dx l G ad w0 (va_up sc 0 0) ar (ar 14 k)) t_765 t_14 t_762 t_764 ts_16 hd_Mo_dx blind_Pro (pre_ro C hH.1 hH.2.2) (As := [.int (ar 14 k)]) (rest := []) rfl hl.1 rfl rfl rfl ⟨Nat.le_of_ble_eq_true rfl, Nat.le_of_ble_eq_true rfl⟩ (Nat.le_of_ble_eq_true rfl) ⟨Nat.zero_le _, Nat.zero_le _⟩ d_Mo_corner_107) ?_
      refine x_sx C b_Mo_corner_110_114 hl (L' := [(6, .int (p_dx (ar 14 k))), (5, .int (ar 5 k)), (4, .int (-(ar 4 k))), (0, .ref (ad 20)), (1, .int (nI k)), (2, .int a2), (3, .int a3)]) (st' := [.ref (ad 20), .ref (ad 20)]) rfl (fun ls hl => ?_)
      refine x_get C hH.1 1000 mW_o 21 (v := .ref (ad 14)) rfl rfl (by decide) t_663 (fun _ z => z) d_Mo_corner_114 ?_
      refine x_sx C b_Mo_corner_117_118 hl (L' := [(6, .int (p_dx (ar 14 k))), (5, .int (ar 5 k)), (4, .int (-(ar 4 k))), (0, .ref (ad 20)), (1, .int (nI k)), (2, .int a2), (3, .int a3)]) (st' := [.int (nI k), .ref (ad 14), .ref (ad 20)]) rfl (fun ls hl => ?_)
      refine x_ald C hH.1 (1001 + 14) (mW_i 14 (by decide) (by decide) rfl rfl rfl) (N := 3) (f := (ar 14)) (j := k) rfl hk (by decide) d_Mo_corner_118 ?_
      refine x_ro (x_cV C hH.1 mW_o rfl (c_Mo_dy l G ad w0 (va_up sc 0 0) ar (ar 14 k)) t_769 t_14 t_766 t_768 ts_17 hd_Mo_dy blind_Pro (pre_ro C hH.1 hH.2.2) (As := [.int (ar 14 k)]) (rest := []) rfl hl.1 rfl rfl rfl ⟨Nat.le_of_ble_eq_true rfl, Nat.le_of_ble_eq_true rfl⟩ (Nat.le_of_ble_eq_true rfl) ⟨Nat.zero_le _, Nat.zero_le _⟩ d_Mo_corner_119) ?_
      refine x_sx C b_Mo_corner_122_125 hl (L' := [(7, .int (p_dy (ar 14 k))), (6, .int (p_dx (ar 14 k))), (5, .int (ar 5 k)), (4, .int (-(ar 4 k))), (0, .ref (ad 20)), (1, .int (nI k)), (2, .int a2), (3, .int a3)]) (st' := [.int a3]) rfl (fun ls hl => ?_)
      refine lv_if_ne (tgt := 149) C.1 C.2.1 d_Mo_corner_125 (by decide) (fun h3 => ?_) (fun h3 => ?_)
      · refine x_sx C b_Mo_corner_149_150 hl (L' := [(7, .int (p_dy (ar 14 k))), (6, .int (p_dx (ar 14 k))), (5, .int (ar 5 k)), (4, .int (-(ar 4 k))), (0, .ref (ad 20)), (1, .int (nI k)), (2, .int a2), (3, .int a3)]) (st' := [.ref (ad 20)]) rfl (fun ls hl => ?_)
        refine x_get C hH.1 1000 mW_o 20 (v := .ref (ad 13)) rfl rfl (by decide) t_662 (fun _ z => z) d_Mo_corner_150 ?_
        refine x_sx C b_Mo_corner_153_154 hl (L' := [(7, .int (p_dy (ar 14 k))), (6, .int (p_dx (ar 14 k))), (5, .int (ar 5 k)), (4, .int (-(ar 4 k))), (0, .ref (ad 20)), (1, .int (nI k)), (2, .int a2), (3, .int a3)]) (st' := [.int (nI k), .ref (ad 13)]) rfl (fun ls hl => ?_)
        refine x_ald C hH.1 (1001 + 13) (mW_i 13 (by decide) (by decide) rfl rfl rfl) (N := 3) (f := (ar 13)) (j := k) rfl hk (by decide) d_Mo_corner_154 ?_
        refine x_sx C b_Mo_corner_155_167 hl (L' := [(7, .int (p_dy (ar 14 k))), (6, .int (p_dx (ar 14 k))), (5, .int (ar 5 k)), (4, .int (-(ar 4 k))), (0, .ref (ad 20)), (1, .int (nI k)), (2, .int a2), (3, .int a3)]) (st' := [.int (((ar 13 k) + ((-(ar 4 k)) * (p_dy (ar 14 k)))) + ((ar 5 k) * (p_dx (ar 14 k))))]) rfl (fun ls hl => ?_)
        exact x_irt C hr hH.2.2 ⟨by unfold fCorner; first | (simp [h1, h2, h3]; done) | (exfalso; rw [h1] at h2; revert h2; decide) | (exfalso; rw [h1] at h3; revert h3; decide) | (exfalso; rw [h2] at h1; revert h1; decide) | (exfalso; rw [h2] at h3; revert h3; decide) | (exfalso; rw [h3] at h1; revert h1; decide) | (exfalso; rw [h3] at h2; revert h2; decide), hH.1, hH.2.1⟩ (Nat.le_refl _) (Nat.le_refl _) d_Mo_corner_167
      · refine x_sx C b_Mo_corner_128_129 hl (L' := [(7, .int (p_dy (ar 14 k))), (6, .int (p_dx (ar 14 k))), (5, .int (ar 5 k)), (4, .int (-(ar 4 k))), (0, .ref (ad 20)), (1, .int (nI k)), (2, .int a2), (3, .int a3)]) (st' := [.ref (ad 20)]) rfl (fun ls hl => ?_)
        refine x_get C hH.1 1000 mW_o 19 (v := .ref (ad 12)) rfl rfl (by decide) t_661 (fun _ z => z) d_Mo_corner_129 ?_
        refine x_sx C b_Mo_corner_132_133 hl (L' := [(7, .int (p_dy (ar 14 k))), (6, .int (p_dx (ar 14 k))), (5, .int (ar 5 k)), (4, .int (-(ar 4 k))), (0, .ref (ad 20)), (1, .int (nI k)), (2, .int a2), (3, .int a3)]) (st' := [.int (nI k), .ref (ad 12)]) rfl (fun ls hl => ?_)
        refine x_ald C hH.1 (1001 + 12) (mW_i 12 (by decide) (by decide) rfl rfl rfl) (N := 3) (f := (ar 12)) (j := k) rfl hk (by decide) d_Mo_corner_133 ?_
        refine x_sx C b_Mo_corner_134_146 hl (L' := [(7, .int (p_dy (ar 14 k))), (6, .int (p_dx (ar 14 k))), (5, .int (ar 5 k)), (4, .int (-(ar 4 k))), (0, .ref (ad 20)), (1, .int (nI k)), (2, .int a2), (3, .int a3)]) (st' := [.int (((ar 12 k) + ((-(ar 4 k)) * (p_dx (ar 14 k)))) - ((ar 5 k) * (p_dy (ar 14 k))))]) rfl (fun ls hl => ?_)
        refine x_goto (tgt := 167) C d_Mo_corner_146 (by decide) ?_
        exact x_irt C hr hH.2.2 ⟨by unfold fCorner; first | (simp [h1, h2, h3]; done) | (exfalso; rw [h1] at h2; revert h2; decide) | (exfalso; rw [h1] at h3; revert h3; decide) | (exfalso; rw [h2] at h1; revert h1; decide) | (exfalso; rw [h2] at h3; revert h3; decide) | (exfalso; rw [h3] at h1; revert h1; decide) | (exfalso; rw [h3] at h2; revert h2; decide), hH.1, hH.2.1⟩ (Nat.le_refl _) (Nat.le_refl _) d_Mo_corner_167
    · refine x_sx C b_Mo_corner_77_79 hl (L' := [(4, .int (-(ar 4 k))), (0, .ref (ad 20)), (1, .int (nI k)), (2, .int a2), (3, .int a3)]) (st' := [.int 3, .int a2]) rfl (fun ls hl => ?_)
      refine lv_icmp_ne (tgt := 91) C.1 C.2.1 d_Mo_corner_79 (by decide) (fun h4 => ?_) (fun h4 => ?_)
      · refine x_sx C b_Mo_corner_91_92 hl (L' := [(4, .int (-(ar 4 k))), (0, .ref (ad 20)), (1, .int (nI k)), (2, .int a2), (3, .int a3)]) (st' := [.ref (ad 20)]) rfl (fun ls hl => ?_)
        refine x_get C hH.1 1000 mW_o 7 (v := .ref (ad 5)) rfl rfl (by decide) t_649 (fun _ z => z) d_Mo_corner_92 ?_
        refine x_sx C b_Mo_corner_95_96 hl (L' := [(4, .int (-(ar 4 k))), (0, .ref (ad 20)), (1, .int (nI k)), (2, .int a2), (3, .int a3)]) (st' := [.int (nI k), .ref (ad 5)]) rfl (fun ls hl => ?_)
        refine x_ald C hH.1 (1001 + 5) (mW_i 5 (by decide) (by decide) rfl rfl rfl) (N := 3) (f := (ar 5)) (j := k) rfl hk (by decide) d_Mo_corner_96 ?_
        refine x_sx C b_Mo_corner_97_102 hl (L' := [(5, .int (-(ar 5 k))), (4, .int (-(ar 4 k))), (0, .ref (ad 20)), (1, .int (nI k)), (2, .int a2), (3, .int a3)]) (st' := [.ref (ad 20), .ref (ad 20)]) rfl (fun ls hl => ?_)
        refine x_get C hH.1 1000 mW_o 21 (v := .ref (ad 14)) rfl rfl (by decide) t_663 (fun _ z => z) d_Mo_corner_102 ?_
        refine x_sx C b_Mo_corner_105_106 hl (L' := [(5, .int (-(ar 5 k))), (4, .int (-(ar 4 k))), (0, .ref (ad 20)), (1, .int (nI k)), (2, .int a2), (3, .int a3)]) (st' := [.int (nI k), .ref (ad 14), .ref (ad 20)]) rfl (fun ls hl => ?_)
        refine x_ald C hH.1 (1001 + 14) (mW_i 14 (by decide) (by decide) rfl rfl rfl) (N := 3) (f := (ar 14)) (j := k) rfl hk (by decide) d_Mo_corner_106 ?_
        refine x_ro (x_cV C hH.1 mW_o rfl (c_Mo_dx l G ad w0 (va_up sc 0 0) ar (ar 14 k)) t_765 t_14 t_762 t_764 ts_16 hd_Mo_dx blind_Pro (pre_ro C hH.1 hH.2.2) (As := [.int (ar 14 k)]) (rest := []) rfl hl.1 rfl rfl rfl ⟨Nat.le_of_ble_eq_true rfl, Nat.le_of_ble_eq_true rfl⟩ (Nat.le_of_ble_eq_true rfl) ⟨Nat.zero_le _, Nat.zero_le _⟩ d_Mo_corner_107) ?_
        refine x_sx C b_Mo_corner_110_114 hl (L' := [(6, .int (p_dx (ar 14 k))), (5, .int (-(ar 5 k))), (4, .int (-(ar 4 k))), (0, .ref (ad 20)), (1, .int (nI k)), (2, .int a2), (3, .int a3)]) (st' := [.ref (ad 20), .ref (ad 20)]) rfl (fun ls hl => ?_)
        refine x_get C hH.1 1000 mW_o 21 (v := .ref (ad 14)) rfl rfl (by decide) t_663 (fun _ z => z) d_Mo_corner_114 ?_
        refine x_sx C b_Mo_corner_117_118 hl (L' := [(6, .int (p_dx (ar 14 k))), (5, .int (-(ar 5 k))), (4, .int (-(ar 4 k))), (0, .ref (ad 20)), (1, .int (nI k)), (2, .int a2), (3, .int a3)]) (st' := [.int (nI k), .ref (ad 14), .ref (ad 20)]) rfl (fun ls hl => ?_)
        refine x_ald C hH.1 (1001 + 14) (mW_i 14 (by decide) (by decide) rfl rfl rfl) (N := 3) (f := (ar 14)) (j := k) rfl hk (by decide) d_Mo_corner_118 ?_
        refine x_ro (x_cV C hH.1 mW_o rfl (c_Mo_dy l G ad w0 (va_up sc 0 0) ar (ar 14 k)) t_769 t_14 t_766 t_768 ts_17 hd_Mo_dy blind_Pro (pre_ro C hH.1 hH.2.2) (As := [.int (ar 14 k)]) (rest := []) rfl hl.1 rfl rfl rfl ⟨Nat.le_of_ble_eq_true rfl, Nat.le_of_ble_eq_true rfl⟩ (Nat.le_of_ble_eq_true rfl) ⟨Nat.zero_le _, Nat.zero_le _⟩ d_Mo_corner_119) ?_
        refine x_sx C b_Mo_corner_122_125 hl (L' := [(7, .int (p_dy (ar 14 k))), (6, .int (p_dx (ar 14 k))), (5, .int (-(ar 5 k))), (4, .int (-(ar 4 k))), (0, .ref (ad 20)), (1, .int (nI k)), (2, .int a2), (3, .int a3)]) (st' := [.int a3]) rfl (fun ls hl => ?_)
        refine lv_if_ne (tgt := 149) C.1 C.2.1 d_Mo_corner_125 (by decide) (fun h5 => ?_) (fun h5 => ?_)
        · refine x_sx C b_Mo_corner_149_150 hl (L' := [(7, .int (p_dy (ar 14 k))), (6, .int (p_dx (ar 14 k))), (5, .int (-(ar 5 k))), (4, .int (-(ar 4 k))), (0, .ref (ad 20)), (1, .int (nI k)), (2, .int a2), (3, .int a3)]) (st' := [.ref (ad 20)]) rfl (fun ls hl => ?_)
          refine x_get C hH.1 1000 mW_o 20 (v := .ref (ad 13)) rfl rfl (by decide) t_662 (fun _ z => z) d_Mo_corner_150 ?_
          refine x_sx C b_Mo_corner_153_154 hl (L' := [(7, .int (p_dy (ar 14 k))), (6, .int (p_dx (ar 14 k))), (5, .int (-(ar 5 k))), (4, .int (-(ar 4 k))), (0, .ref (ad 20)), (1, .int (nI k)), (2, .int a2), (3, .int a3)]) (st' := [.int (nI k), .ref (ad 13)]) rfl (fun ls hl => ?_)
          refine x_ald C hH.1 (1001 + 13) (mW_i 13 (by decide) (by decide) rfl rfl rfl) (N := 3) (f := (ar 13)) (j := k) rfl hk (by decide) d_Mo_corner_154 ?_
          refine x_sx C b_Mo_corner_155_167 hl (L' := [(7, .int (p_dy (ar 14 k))), (6, .int (p_dx (ar 14 k))), (5, .int (-(ar 5 k))), (4, .int (-(ar 4 k))), (0, .ref (ad 20)), (1, .int (nI k)), (2, .int a2), (3, .int a3)]) (st' := [.int (((ar 13 k) + ((-(ar 4 k)) * (p_dy (ar 14 k)))) + ((-(ar 5 k)) * (p_dx (ar 14 k))))]) rfl (fun ls hl => ?_)
          exact x_irt C hr hH.2.2 ⟨by unfold fCorner; first | (simp [h1, h2, h4, h5]; done) | (exfalso; rw [h1] at h2; revert h2; decide) | (exfalso; rw [h1] at h4; revert h4; decide) | (exfalso; rw [h1] at h5; revert h5; decide) | (exfalso; rw [h2] at h1; revert h1; decide) | (exfalso; rw [h2] at h4; revert h4; decide) | (exfalso; rw [h2] at h5; revert h5; decide) | (exfalso; rw [h4] at h1; revert h1; decide) | (exfalso; rw [h4] at h2; revert h2; decide) | (exfalso; rw [h4] at h5; revert h5; decide) | (exfalso; rw [h5] at h1; revert h1; decide) | (exfalso; rw [h5] at h2; revert h2; decide) | (exfalso; rw [h5] at h4; revert h4; decide), hH.1, hH.2.1⟩ (Nat.le_refl _) (Nat.le_refl _) d_Mo_corner_167
        · refine x_sx C b_Mo_corner_128_129 hl (L' := [(7, .int (p_dy (ar 14 k))), (6, .int (p_dx (ar 14 k))), (5, .int (-(ar 5 k))), (4, .int (-(ar 4 k))), (0, .ref (ad 20)), (1, .int (nI k)), (2, .int a2), (3, .int a3)]) (st' := [.ref (ad 20)]) rfl (fun ls hl => ?_)
          refine x_get C hH.1 1000 mW_o 19 (v := .ref (ad 12)) rfl rfl (by decide) t_661 (fun _ z => z) d_Mo_corner_129 ?_
          refine x_sx C b_Mo_corner_132_133 hl (L' := [(7, .int (p_dy (ar 14 k))), (6, .int (p_dx (ar 14 k))), (5, .int (-(ar 5 k))), (4, .int (-(ar 4 k))), (0, .ref (ad 20)), (1, .int (nI k)), (2, .int a2), (3, .int a3)]) (st' := [.int (nI k), .ref (ad 12)]) rfl (fun ls hl => ?_)
          refine x_ald C hH.1 (1001 + 12) (mW_i 12 (by decide) (by decide) rfl rfl rfl) (N := 3) (f := (ar 12)) (j := k) rfl hk (by decide) d_Mo_corner_133 ?_
          refine x_sx C b_Mo_corner_134_146 hl (L' := [(7, .int (p_dy (ar 14 k))), (6, .int (p_dx (ar 14 k))), (5, .int (-(ar 5 k))), (4, .int (-(ar 4 k))), (0, .ref (ad 20)), (1, .int (nI k)), (2, .int a2), (3, .int a3)]) (st' := [.int (((ar 12 k) + ((-(ar 4 k)) * (p_dx (ar 14 k)))) - ((-(ar 5 k)) * (p_dy (ar 14 k))))]) rfl (fun ls hl => ?_)
          refine x_goto (tgt := 167) C d_Mo_corner_146 (by decide) ?_
          exact x_irt C hr hH.2.2 ⟨by unfold fCorner; first | (simp [h1, h2, h4, h5]; done) | (exfalso; rw [h1] at h2; revert h2; decide) | (exfalso; rw [h1] at h4; revert h4; decide) | (exfalso; rw [h1] at h5; revert h5; decide) | (exfalso; rw [h2] at h1; revert h1; decide) | (exfalso; rw [h2] at h4; revert h4; decide) | (exfalso; rw [h2] at h5; revert h5; decide) | (exfalso; rw [h4] at h1; revert h1; decide) | (exfalso; rw [h4] at h2; revert h2; decide) | (exfalso; rw [h4] at h5; revert h5; decide) | (exfalso; rw [h5] at h1; revert h1; decide) | (exfalso; rw [h5] at h2; revert h2; decide) | (exfalso; rw [h5] at h4; revert h4; decide), hH.1, hH.2.1⟩ (Nat.le_refl _) (Nat.le_refl _) d_Mo_corner_167
      · refine x_sx C b_Mo_corner_82_83 hl (L' := [(4, .int (-(ar 4 k))), (0, .ref (ad 20)), (1, .int (nI k)), (2, .int a2), (3, .int a3)]) (st' := [.ref (ad 20)]) rfl (fun ls hl => ?_)
        refine x_get C hH.1 1000 mW_o 7 (v := .ref (ad 5)) rfl rfl (by decide) t_649 (fun _ z => z) d_Mo_corner_83 ?_
        refine x_sx C b_Mo_corner_86_87 hl (L' := [(4, .int (-(ar 4 k))), (0, .ref (ad 20)), (1, .int (nI k)), (2, .int a2), (3, .int a3)]) (st' := [.int (nI k), .ref (ad 5)]) rfl (fun ls hl => ?_)
        refine x_ald C hH.1 (1001 + 5) (mW_i 5 (by decide) (by decide) rfl rfl rfl) (N := 3) (f := (ar 5)) (j := k) rfl hk (by decide) d_Mo_corner_87 ?_
        refine x_goto (tgt := 98) C d_Mo_corner_88 (by decide) ?_
        refine x_sx C b_Mo_corner_98_102 hl (L' := [(5, .int (ar 5 k)), (4, .int (-(ar 4 k))), (0, .ref (ad 20)), (1, .int (nI k)), (2, .int a2), (3, .int a3)]) (st' := [.ref (ad 20), .ref (ad 20)]) rfl (fun ls hl => ?_)
        refine x_get C hH.1 1000 mW_o 21 (v := .ref (ad 14)) rfl rfl (by decide) t_663 (fun _ z => z) d_Mo_corner_102 ?_
        refine x_sx C b_Mo_corner_105_106 hl (L' := [(5, .int (ar 5 k)), (4, .int (-(ar 4 k))), (0, .ref (ad 20)), (1, .int (nI k)), (2, .int a2), (3, .int a3)]) (st' := [.int (nI k), .ref (ad 14), .ref (ad 20)]) rfl (fun ls hl => ?_)
        refine x_ald C hH.1 (1001 + 14) (mW_i 14 (by decide) (by decide) rfl rfl rfl) (N := 3) (f := (ar 14)) (j := k) rfl hk (by decide) d_Mo_corner_106 ?_
        refine x_ro (x_cV C hH.1 mW_o rfl (c_Mo_dx l G ad w0 (va_up sc 0 0) ar (ar 14 k)) t_765 t_14 t_762 t_764 ts_16 hd_Mo_dx blind_Pro (pre_ro C hH.1 hH.2.2) (As := [.int (ar 14 k)]) (rest := []) rfl hl.1 rfl rfl rfl ⟨Nat.le_of_ble_eq_true rfl, Nat.le_of_ble_eq_true rfl⟩ (Nat.le_of_ble_eq_true rfl) ⟨Nat.zero_le _, Nat.zero_le _⟩ d_Mo_corner_107) ?_
        refine x_sx C b_Mo_corner_110_114 hl (L' := [(6, .int (p_dx (ar 14 k))), (5, .int (ar 5 k)), (4, .int (-(ar 4 k))), (0, .ref (ad 20)), (1, .int (nI k)), (2, .int a2), (3, .int a3)]) (st' := [.ref (ad 20), .ref (ad 20)]) rfl (fun ls hl => ?_)
        refine x_get C hH.1 1000 mW_o 21 (v := .ref (ad 14)) rfl rfl (by decide) t_663 (fun _ z => z) d_Mo_corner_114 ?_
        refine x_sx C b_Mo_corner_117_118 hl (L' := [(6, .int (p_dx (ar 14 k))), (5, .int (ar 5 k)), (4, .int (-(ar 4 k))), (0, .ref (ad 20)), (1, .int (nI k)), (2, .int a2), (3, .int a3)]) (st' := [.int (nI k), .ref (ad 14), .ref (ad 20)]) rfl (fun ls hl => ?_)
        refine x_ald C hH.1 (1001 + 14) (mW_i 14 (by decide) (by decide) rfl rfl rfl) (N := 3) (f := (ar 14)) (j := k) rfl hk (by decide) d_Mo_corner_118 ?_
        refine x_ro (x_cV C hH.1 mW_o rfl (c_Mo_dy l G ad w0 (va_up sc 0 0) ar (ar 14 k)) t_769 t_14 t_766 t_768 ts_17 hd_Mo_dy blind_Pro (pre_ro C hH.1 hH.2.2) (As := [.int (ar 14 k)]) (rest := []) rfl hl.1 rfl rfl rfl ⟨Nat.le_of_ble_eq_true rfl, Nat.le_of_ble_eq_true rfl⟩ (Nat.le_of_ble_eq_true rfl) ⟨Nat.zero_le _, Nat.zero_le _⟩ d_Mo_corner_119) ?_
        refine x_sx C b_Mo_corner_122_125 hl (L' := [(7, .int (p_dy (ar 14 k))), (6, .int (p_dx (ar 14 k))), (5, .int (ar 5 k)), (4, .int (-(ar 4 k))), (0, .ref (ad 20)), (1, .int (nI k)), (2, .int a2), (3, .int a3)]) (st' := [.int a3]) rfl (fun ls hl => ?_)
        refine lv_if_ne (tgt := 149) C.1 C.2.1 d_Mo_corner_125 (by decide) (fun h6 => ?_) (fun h6 => ?_)
        · refine x_sx C b_Mo_corner_149_150 hl (L' := [(7, .int (p_dy (ar 14 k))), (6, .int (p_dx (ar 14 k))), (5, .int (ar 5 k)), (4, .int (-(ar 4 k))), (0, .ref (ad 20)), (1, .int (nI k)), (2, .int a2), (3, .int a3)]) (st' := [.ref (ad 20)]) rfl (fun ls hl => ?_)
          refine x_get C hH.1 1000 mW_o 20 (v := .ref (ad 13)) rfl rfl (by decide) t_662 (fun _ z => z) d_Mo_corner_150 ?_
          refine x_sx C b_Mo_corner_153_154 hl (L' := [(7, .int (p_dy (ar 14 k))), (6, .int (p_dx (ar 14 k))), (5, .int (ar 5 k)), (4, .int (-(ar 4 k))), (0, .ref (ad 20)), (1, .int (nI k)), (2, .int a2), (3, .int a3)]) (st' := [.int (nI k), .ref (ad 13)]) rfl (fun ls hl => ?_)
          refine x_ald C hH.1 (1001 + 13) (mW_i 13 (by decide) (by decide) rfl rfl rfl) (N := 3) (f := (ar 13)) (j := k) rfl hk (by decide) d_Mo_corner_154 ?_
          refine x_sx C b_Mo_corner_155_167 hl (L' := [(7, .int (p_dy (ar 14 k))), (6, .int (p_dx (ar 14 k))), (5, .int (ar 5 k)), (4, .int (-(ar 4 k))), (0, .ref (ad 20)), (1, .int (nI k)), (2, .int a2), (3, .int a3)]) (st' := [.int (((ar 13 k) + ((-(ar 4 k)) * (p_dy (ar 14 k)))) + ((ar 5 k) * (p_dx (ar 14 k))))]) rfl (fun ls hl => ?_)
          exact x_irt C hr hH.2.2 ⟨by unfold fCorner; first | (simp [h1, h2, h4, h6]; done) | (exfalso; rw [h1] at h2; revert h2; decide) | (exfalso; rw [h1] at h4; revert h4; decide) | (exfalso; rw [h1] at h6; revert h6; decide) | (exfalso; rw [h2] at h1; revert h1; decide) | (exfalso; rw [h2] at h4; revert h4; decide) | (exfalso; rw [h2] at h6; revert h6; decide) | (exfalso; rw [h4] at h1; revert h1; decide) | (exfalso; rw [h4] at h2; revert h2; decide) | (exfalso; rw [h4] at h6; revert h6; decide) | (exfalso; rw [h6] at h1; revert h1; decide) | (exfalso; rw [h6] at h2; revert h2; decide) | (exfalso; rw [h6] at h4; revert h4; decide), hH.1, hH.2.1⟩ (Nat.le_refl _) (Nat.le_refl _) d_Mo_corner_167
        · refine x_sx C b_Mo_corner_128_129 hl (L' := [(7, .int (p_dy (ar 14 k))), (6, .int (p_dx (ar 14 k))), (5, .int (ar 5 k)), (4, .int (-(ar 4 k))), (0, .ref (ad 20)), (1, .int (nI k)), (2, .int a2), (3, .int a3)]) (st' := [.ref (ad 20)]) rfl (fun ls hl => ?_)
          refine x_get C hH.1 1000 mW_o 19 (v := .ref (ad 12)) rfl rfl (by decide) t_661 (fun _ z => z) d_Mo_corner_129 ?_
          refine x_sx C b_Mo_corner_132_133 hl (L' := [(7, .int (p_dy (ar 14 k))), (6, .int (p_dx (ar 14 k))), (5, .int (ar 5 k)), (4, .int (-(ar 4 k))), (0, .ref (ad 20)), (1, .int (nI k)), (2, .int a2), (3, .int a3)]) (st' := [.int (nI k), .ref (ad 12)]) rfl (fun ls hl => ?_)
          refine x_ald C hH.1 (1001 + 12) (mW_i 12 (by decide) (by decide) rfl rfl rfl) (N := 3) (f := (ar 12)) (j := k) rfl hk (by decide) d_Mo_corner_133 ?_
          refine x_sx C b_Mo_corner_134_146 hl (L' := [(7, .int (p_dy (ar 14 k))), (6, .int (p_dx (ar 14 k))), (5, .int (ar 5 k)), (4, .int (-(ar 4 k))), (0, .ref (ad 20)), (1, .int (nI k)), (2, .int a2), (3, .int a3)]) (st' := [.int (((ar 12 k) + ((-(ar 4 k)) * (p_dx (ar 14 k)))) - ((ar 5 k) * (p_dy (ar 14 k))))]) rfl (fun ls hl => ?_)
          refine x_goto (tgt := 167) C d_Mo_corner_146 (by decide) ?_
          exact x_irt C hr hH.2.2 ⟨by unfold fCorner; first | (simp [h1, h2, h4, h6]; done) | (exfalso; rw [h1] at h2; revert h2; decide) | (exfalso; rw [h1] at h4; revert h4; decide) | (exfalso; rw [h1] at h6; revert h6; decide) | (exfalso; rw [h2] at h1; revert h1; decide) | (exfalso; rw [h2] at h4; revert h4; decide) | (exfalso; rw [h2] at h6; revert h6; decide) | (exfalso; rw [h4] at h1; revert h1; decide) | (exfalso; rw [h4] at h2; revert h2; decide) | (exfalso; rw [h4] at h6; revert h6; decide) | (exfalso; rw [h6] at h1; revert h1; decide) | (exfalso; rw [h6] at h2; revert h2; decide) | (exfalso; rw [h6] at h4; revert h4; decide), hH.1, hH.2.1⟩ (Nat.le_refl _) (Nat.le_refl _) d_Mo_corner_167
  · refine x_sx C b_Mo_corner_55_56 hl (L' := [(0, .ref (ad 20)), (1, .int (nI k)), (2, .int a2), (3, .int a3)]) (st' := [.ref (ad 20)]) rfl (fun ls hl => ?_)
    refine x_get C hH.1 1000 mW_o 5 (v := .ref (ad 3)) rfl rfl (by decide) t_647 (fun _ z => z) d_Mo_corner_56 ?_
    refine x_sx C b_Mo_corner_59_60 hl (L' := [(0, .ref (ad 20)), (1, .int (nI k)), (2, .int a2), (3, .int a3)]) (st' := [.int (nI k), .ref (ad 3)]) rfl (fun ls hl => ?_)
    refine x_ald C hH.1 (1001 + 3) (mW_i 3 (by decide) (by decide) rfl rfl rfl) (N := 3) (f := (ar 3)) (j := k) rfl hk (by decide) d_Mo_corner_60 ?_
    refine x_goto (tgt := 71) C d_Mo_corner_61 (by decide) ?_
    refine x_sx C b_Mo_corner_71_74 hl (L' := [(4, .int (ar 3 k)), (0, .ref (ad 20)), (1, .int (nI k)), (2, .int a2), (3, .int a3)]) (st' := [.int a2]) rfl (fun ls hl => ?_)
    refine lv_if_eq (tgt := 82) C.1 C.2.1 d_Mo_corner_74 (by decide) (fun h7 => ?_) (fun h7 => ?_)
    · refine x_sx C b_Mo_corner_82_83 hl (L' := [(4, .int (ar 3 k)), (0, .ref (ad 20)), (1, .int (nI k)), (2, .int a2), (3, .int a3)]) (st' := [.ref (ad 20)]) rfl (fun ls hl => ?_)
      refine x_get C hH.1 1000 mW_o 7 (v := .ref (ad 5)) rfl rfl (by decide) t_649 (fun _ z => z) d_Mo_corner_83 ?_
      refine x_sx C b_Mo_corner_86_87 hl (L' := [(4, .int (ar 3 k)), (0, .ref (ad 20)), (1, .int (nI k)), (2, .int a2), (3, .int a3)]) (st' := [.int (nI k), .ref (ad 5)]) rfl (fun ls hl => ?_)
      refine x_ald C hH.1 (1001 + 5) (mW_i 5 (by decide) (by decide) rfl rfl rfl) (N := 3) (f := (ar 5)) (j := k) rfl hk (by decide) d_Mo_corner_87 ?_
      refine x_goto (tgt := 98) C d_Mo_corner_88 (by decide) ?_
      refine x_sx C b_Mo_corner_98_102 hl (L' := [(5, .int (ar 5 k)), (4, .int (ar 3 k)), (0, .ref (ad 20)), (1, .int (nI k)), (2, .int a2), (3, .int a3)]) (st' := [.ref (ad 20), .ref (ad 20)]) rfl (fun ls hl => ?_)
      refine x_get C hH.1 1000 mW_o 21 (v := .ref (ad 14)) rfl rfl (by decide) t_663 (fun _ z => z) d_Mo_corner_102 ?_
      refine x_sx C b_Mo_corner_105_106 hl (L' := [(5, .int (ar 5 k)), (4, .int (ar 3 k)), (0, .ref (ad 20)), (1, .int (nI k)), (2, .int a2), (3, .int a3)]) (st' := [.int (nI k), .ref (ad 14), .ref (ad 20)]) rfl (fun ls hl => ?_)
      refine x_ald C hH.1 (1001 + 14) (mW_i 14 (by decide) (by decide) rfl rfl rfl) (N := 3) (f := (ar 14)) (j := k) rfl hk (by decide) d_Mo_corner_106 ?_
      refine x_ro (x_cV C hH.1 mW_o rfl (c_Mo_dx l G ad w0 (va_up sc 0 0) ar (ar 14 k)) t_765 t_14 t_762 t_764 ts_16 hd_Mo_dx blind_Pro (pre_ro C hH.1 hH.2.2) (As := [.int (ar 14 k)]) (rest := []) rfl hl.1 rfl rfl rfl ⟨Nat.le_of_ble_eq_true rfl, Nat.le_of_ble_eq_true rfl⟩ (Nat.le_of_ble_eq_true rfl) ⟨Nat.zero_le _, Nat.zero_le _⟩ d_Mo_corner_107) ?_
      refine x_sx C b_Mo_corner_110_114 hl (L' := [(6, .int (p_dx (ar 14 k))), (5, .int (ar 5 k)), (4, .int (ar 3 k)), (0, .ref (ad 20)), (1, .int (nI k)), (2, .int a2), (3, .int a3)]) (st' := [.ref (ad 20), .ref (ad 20)]) rfl (fun ls hl => ?_)
      refine x_get C hH.1 1000 mW_o 21 (v := .ref (ad 14)) rfl rfl (by decide) t_663 (fun _ z => z) d_Mo_corner_114 ?_
      refine x_sx C b_Mo_corner_117_118 hl (L' := [(6, .int (p_dx (ar 14 k))), (5, .int (ar 5 k)), (4, .int (ar 3 k)), (0, .ref (ad 20)), (1, .int (nI k)), (2, .int a2), (3, .int a3)]) (st' := [.int (nI k), .ref (ad 14), .ref (ad 20)]) rfl (fun ls hl => ?_)
      refine x_ald C hH.1 (1001 + 14) (mW_i 14 (by decide) (by decide) rfl rfl rfl) (N := 3) (f := (ar 14)) (j := k) rfl hk (by decide) d_Mo_corner_118 ?_
      refine x_ro (x_cV C hH.1 mW_o rfl (c_Mo_dy l G ad w0 (va_up sc 0 0) ar (ar 14 k)) t_769 t_14 t_766 t_768 ts_17 hd_Mo_dy blind_Pro (pre_ro C hH.1 hH.2.2) (As := [.int (ar 14 k)]) (rest := []) rfl hl.1 rfl rfl rfl ⟨Nat.le_of_ble_eq_true rfl, Nat.le_of_ble_eq_true rfl⟩ (Nat.le_of_ble_eq_true rfl) ⟨Nat.zero_le _, Nat.zero_le _⟩ d_Mo_corner_119) ?_
      refine x_sx C b_Mo_corner_122_125 hl (L' := [(7, .int (p_dy (ar 14 k))), (6, .int (p_dx (ar 14 k))), (5, .int (ar 5 k)), (4, .int (ar 3 k)), (0, .ref (ad 20)), (1, .int (nI k)), (2, .int a2), (3, .int a3)]) (st' := [.int a3]) rfl (fun ls hl => ?_)
      refine lv_if_ne (tgt := 149) C.1 C.2.1 d_Mo_corner_125 (by decide) (fun h8 => ?_) (fun h8 => ?_)
      · refine x_sx C b_Mo_corner_149_150 hl (L' := [(7, .int (p_dy (ar 14 k))), (6, .int (p_dx (ar 14 k))), (5, .int (ar 5 k)), (4, .int (ar 3 k)), (0, .ref (ad 20)), (1, .int (nI k)), (2, .int a2), (3, .int a3)]) (st' := [.ref (ad 20)]) rfl (fun ls hl => ?_)
        refine x_get C hH.1 1000 mW_o 20 (v := .ref (ad 13)) rfl rfl (by decide) t_662 (fun _ z => z) d_Mo_corner_150 ?_
        refine x_sx C b_Mo_corner_153_154 hl (L' := [(7, .int (p_dy (ar 14 k))), (6, .int (p_dx (ar 14 k))), (5, .int (ar 5 k)), (4, .int (ar 3 k)), (0, .ref (ad 20)), (1, .int (nI k)), (2, .int a2), (3, .int a3)]) (st' := [.int (nI k), .ref (ad 13)]) rfl (fun ls hl => ?_)
        refine x_ald C hH.1 (1001 + 13) (mW_i 13 (by decide) (by decide) rfl rfl rfl) (N := 3) (f := (ar 13)) (j := k) rfl hk (by decide) d_Mo_corner_154 ?_
        refine x_sx C b_Mo_corner_155_167 hl (L' := [(7, .int (p_dy (ar 14 k))), (6, .int (p_dx (ar 14 k))), (5, .int (ar 5 k)), (4, .int (ar 3 k)), (0, .ref (ad 20)), (1, .int (nI k)), (2, .int a2), (3, .int a3)]) (st' := [.int (((ar 13 k) + ((ar 3 k) * (p_dy (ar 14 k)))) + ((ar 5 k) * (p_dx (ar 14 k))))]) rfl (fun ls hl => ?_)
        exact x_irt C hr hH.2.2 ⟨by unfold fCorner; first | (simp [h1, h7, h8]; done) | (exfalso; rw [h1] at h7; revert h7; decide) | (exfalso; rw [h1] at h8; revert h8; decide) | (exfalso; rw [h7] at h1; revert h1; decide) | (exfalso; rw [h7] at h8; revert h8; decide) | (exfalso; rw [h8] at h1; revert h1; decide) | (exfalso; rw [h8] at h7; revert h7; decide), hH.1, hH.2.1⟩ (Nat.le_refl _) (Nat.le_refl _) d_Mo_corner_167
      · refine x_sx C b_Mo_corner_128_129 hl (L' := [(7, .int (p_dy (ar 14 k))), (6, .int (p_dx (ar 14 k))), (5, .int (ar 5 k)), (4, .int (ar 3 k)), (0, .ref (ad 20)), (1, .int (nI k)), (2, .int a2), (3, .int a3)]) (st' := [.ref (ad 20)]) rfl (fun ls hl => ?_)
        refine x_get C hH.1 1000 mW_o 19 (v := .ref (ad 12)) rfl rfl (by decide) t_661 (fun _ z => z) d_Mo_corner_129 ?_
        refine x_sx C b_Mo_corner_132_133 hl (L' := [(7, .int (p_dy (ar 14 k))), (6, .int (p_dx (ar 14 k))), (5, .int (ar 5 k)), (4, .int (ar 3 k)), (0, .ref (ad 20)), (1, .int (nI k)), (2, .int a2), (3, .int a3)]) (st' := [.int (nI k), .ref (ad 12)]) rfl (fun ls hl => ?_)
        refine x_ald C hH.1 (1001 + 12) (mW_i 12 (by decide) (by decide) rfl rfl rfl) (N := 3) (f := (ar 12)) (j := k) rfl hk (by decide) d_Mo_corner_133 ?_
        refine x_sx C b_Mo_corner_134_146 hl (L' := [(7, .int (p_dy (ar 14 k))), (6, .int (p_dx (ar 14 k))), (5, .int (ar 5 k)), (4, .int (ar 3 k)), (0, .ref (ad 20)), (1, .int (nI k)), (2, .int a2), (3, .int a3)]) (st' := [.int (((ar 12 k) + ((ar 3 k) * (p_dx (ar 14 k)))) - ((ar 5 k) * (p_dy (ar 14 k))))]) rfl (fun ls hl => ?_)
        refine x_goto (tgt := 167) C d_Mo_corner_146 (by decide) ?_
        exact x_irt C hr hH.2.2 ⟨by unfold fCorner; first | (simp [h1, h7, h8]; done) | (exfalso; rw [h1] at h7; revert h7; decide) | (exfalso; rw [h1] at h8; revert h8; decide) | (exfalso; rw [h7] at h1; revert h1; decide) | (exfalso; rw [h7] at h8; revert h8; decide) | (exfalso; rw [h8] at h1; revert h1; decide) | (exfalso; rw [h8] at h7; revert h7; decide), hH.1, hH.2.1⟩ (Nat.le_refl _) (Nat.le_refl _) d_Mo_corner_167
    · refine x_sx C b_Mo_corner_77_79 hl (L' := [(4, .int (ar 3 k)), (0, .ref (ad 20)), (1, .int (nI k)), (2, .int a2), (3, .int a3)]) (st' := [.int 3, .int a2]) rfl (fun ls hl => ?_)
      refine lv_icmp_ne (tgt := 91) C.1 C.2.1 d_Mo_corner_79 (by decide) (fun h9 => ?_) (fun h9 => ?_)
      · refine x_sx C b_Mo_corner_91_92 hl (L' := [(4, .int (ar 3 k)), (0, .ref (ad 20)), (1, .int (nI k)), (2, .int a2), (3, .int a3)]) (st' := [.ref (ad 20)]) rfl (fun ls hl => ?_)
        refine x_get C hH.1 1000 mW_o 7 (v := .ref (ad 5)) rfl rfl (by decide) t_649 (fun _ z => z) d_Mo_corner_92 ?_
        refine x_sx C b_Mo_corner_95_96 hl (L' := [(4, .int (ar 3 k)), (0, .ref (ad 20)), (1, .int (nI k)), (2, .int a2), (3, .int a3)]) (st' := [.int (nI k), .ref (ad 5)]) rfl (fun ls hl => ?_)
        refine x_ald C hH.1 (1001 + 5) (mW_i 5 (by decide) (by decide) rfl rfl rfl) (N := 3) (f := (ar 5)) (j := k) rfl hk (by decide) d_Mo_corner_96 ?_
        refine x_sx C b_Mo_corner_97_102 hl (L' := [(5, .int (-(ar 5 k))), (4, .int (ar 3 k)), (0, .ref (ad 20)), (1, .int (nI k)), (2, .int a2), (3, .int a3)]) (st' := [.ref (ad 20), .ref (ad 20)]) rfl (fun ls hl => ?_)
        refine x_get C hH.1 1000 mW_o 21 (v := .ref (ad 14)) rfl rfl (by decide) t_663 (fun _ z => z) d_Mo_corner_102 ?_
        refine x_sx C b_Mo_corner_105_106 hl (L' := [(5, .int (-(ar 5 k))), (4, .int (ar 3 k)), (0, .ref (ad 20)), (1, .int (nI k)), (2, .int a2), (3, .int a3)]) (st' := [.int (nI k), .ref (ad 14), .ref (ad 20)]) rfl (fun ls hl => ?_)
        refine x_ald C hH.1 (1001 + 14) (mW_i 14 (by decide) (by decide) rfl rfl rfl) (N := 3) (f := (ar 14)) (j := k) rfl hk (by decide) d_Mo_corner_106 ?_
        refine x_ro (x_cV C hH.1 mW_o rfl (c_Mo_dx l G ad w0 (va_up sc 0 0) ar (ar 14 k)) t_765 t_14 t_762 t_764 ts_16 hd_Mo_dx blind_Pro (pre_ro C hH.1 hH.2.2) (As := [.int (ar 14 k)]) (rest := []) rfl hl.1 rfl rfl rfl ⟨Nat.le_of_ble_eq_true rfl, Nat.le_of_ble_eq_true rfl⟩ (Nat.le_of_ble_eq_true rfl) ⟨Nat.zero_le _, Nat.zero_le _⟩ d_Mo_corner_107) ?_
        refine x_sx C b_Mo_corner_110_114 hl (L' := [(6, .int (p_dx (ar 14 k))), (5, .int (-(ar 5 k))), (4, .int (ar 3 k)), (0, .ref (ad 20)), (1, .int (nI k)), (2, .int a2), (3, .int a3)]) (st' := [.ref (ad 20), .ref (ad 20)]) rfl (fun ls hl => ?_)
        refine x_get C hH.1 1000 mW_o 21 (v := .ref (ad 14)) rfl rfl (by decide) t_663 (fun _ z => z) d_Mo_corner_114 ?_
        refine x_sx C b_Mo_corner_117_118 hl (L' := [(6, .int (p_dx (ar 14 k))), (5, .int (-(ar 5 k))), (4, .int (ar 3 k)), (0, .ref (ad 20)), (1, .int (nI k)), (2, .int a2), (3, .int a3)]) (st' := [.int (nI k), .ref (ad 14), .ref (ad 20)]) rfl (fun ls hl => ?_)
        refine x_ald C hH.1 (1001 + 14) (mW_i 14 (by decide) (by decide) rfl rfl rfl) (N := 3) (f := (ar 14)) (j := k) rfl hk (by decide) d_Mo_corner_118 ?_
        refine x_ro (x_cV C hH.1 mW_o rfl (c_Mo_dy l G ad w0 (va_up sc 0 0) ar (ar 14 k)) t_769 t_14 t_766 t_768 ts_17 hd_Mo_dy blind_Pro (pre_ro C hH.1 hH.2.2) (As := [.int (ar 14 k)]) (rest := []) rfl hl.1 rfl rfl rfl ⟨Nat.le_of_ble_eq_true rfl, Nat.le_of_ble_eq_true rfl⟩ (Nat.le_of_ble_eq_true rfl) ⟨Nat.zero_le _, Nat.zero_le _⟩ d_Mo_corner_119) ?_
        refine x_sx C b_Mo_corner_122_125 hl (L' := [(7, .int (p_dy (ar 14 k))), (6, .int (p_dx (ar 14 k))), (5, .int (-(ar 5 k))), (4, .int (ar 3 k)), (0, .ref (ad 20)), (1, .int (nI k)), (2, .int a2), (3, .int a3)]) (st' := [.int a3]) rfl (fun ls hl => ?_)
        refine lv_if_ne (tgt := 149) C.1 C.2.1 d_Mo_corner_125 (by decide) (fun h10 => ?_) (fun h10 => ?_)
        · refine x_sx C b_Mo_corner_149_150 hl (L' := [(7, .int (p_dy (ar 14 k))), (6, .int (p_dx (ar 14 k))), (5, .int (-(ar 5 k))), (4, .int (ar 3 k)), (0, .ref (ad 20)), (1, .int (nI k)), (2, .int a2), (3, .int a3)]) (st' := [.ref (ad 20)]) rfl (fun ls hl => ?_)
          refine x_get C hH.1 1000 mW_o 20 (v := .ref (ad 13)) rfl rfl (by decide) t_662 (fun _ z => z) d_Mo_corner_150 ?_
          refine x_sx C b_Mo_corner_153_154 hl (L' := [(7, .int (p_dy (ar 14 k))), (6, .int (p_dx (ar 14 k))), (5, .int (-(ar 5 k))), (4, .int (ar 3 k)), (0, .ref (ad 20)), (1, .int (nI k)), (2, .int a2), (3, .int a3)]) (st' := [.int (nI k), .ref (ad 13)]) rfl (fun ls hl => ?_)
          refine x_ald C hH.1 (1001 + 13) (mW_i 13 (by decide) (by decide) rfl rfl rfl) (N := 3) (f := (ar 13)) (j := k) rfl hk (by decide) d_Mo_corner_154 ?_
          refine x_sx C b_Mo_corner_155_167 hl (L' := [(7, .int (p_dy (ar 14 k))), (6, .int (p_dx (ar 14 k))), (5, .int (-(ar 5 k))), (4, .int (ar 3 k)), (0, .ref (ad 20)), (1, .int (nI k)), (2, .int a2), (3, .int a3)]) (st' := [.int (((ar 13 k) + ((ar 3 k) * (p_dy (ar 14 k)))) + ((-(ar 5 k)) * (p_dx (ar 14 k))))]) rfl (fun ls hl => ?_)
          exact x_irt C hr hH.2.2 ⟨by unfold fCorner; first | (simp [h1, h7, h9, h10]; done) | (exfalso; rw [h1] at h7; revert h7; decide) | (exfalso; rw [h1] at h9; revert h9; decide) | (exfalso; rw [h1] at h10; revert h10; decide) | (exfalso; rw [h7] at h1; revert h1; decide) | (exfalso; rw [h7] at h9; revert h9; decide) | (exfalso; rw [h7] at h10; revert h10; decide) | (exfalso; rw [h9] at h1; revert h1; decide) | (exfalso; rw [h9] at h7; revert h7; decide) | (exfalso; rw [h9] at h10; revert h10; decide) | (exfalso; rw [h10] at h1; revert h1; decide) | (exfalso; rw [h10] at h7; revert h7; decide) | (exfalso; rw [h10] at h9; revert h9; decide), hH.1, hH.2.1⟩ (Nat.le_refl _) (Nat.le_refl _) d_Mo_corner_167
        · refine x_sx C b_Mo_corner_128_129 hl (L' := [(7, .int (p_dy (ar 14 k))), (6, .int (p_dx (ar 14 k))), (5, .int (-(ar 5 k))), (4, .int (ar 3 k)), (0, .ref (ad 20)), (1, .int (nI k)), (2, .int a2), (3, .int a3)]) (st' := [.ref (ad 20)]) rfl (fun ls hl => ?_)
          refine x_get C hH.1 1000 mW_o 19 (v := .ref (ad 12)) rfl rfl (by decide) t_661 (fun _ z => z) d_Mo_corner_129 ?_
          refine x_sx C b_Mo_corner_132_133 hl (L' := [(7, .int (p_dy (ar 14 k))), (6, .int (p_dx (ar 14 k))), (5, .int (-(ar 5 k))), (4, .int (ar 3 k)), (0, .ref (ad 20)), (1, .int (nI k)), (2, .int a2), (3, .int a3)]) (st' := [.int (nI k), .ref (ad 12)]) rfl (fun ls hl => ?_)
          refine x_ald C hH.1 (1001 + 12) (mW_i 12 (by decide) (by decide) rfl rfl rfl) (N := 3) (f := (ar 12)) (j := k) rfl hk (by decide) d_Mo_corner_133 ?_
          refine x_sx C b_Mo_corner_134_146 hl (L' := [(7, .int (p_dy (ar 14 k))), (6, .int (p_dx (ar 14 k))), (5, .int (-(ar 5 k))), (4, .int (ar 3 k)), (0, .ref (ad 20)), (1, .int (nI k)), (2, .int a2), (3, .int a3)]) (st' := [.int (((ar 12 k) + ((ar 3 k) * (p_dx (ar 14 k)))) - ((-(ar 5 k)) * (p_dy (ar 14 k))))]) rfl (fun ls hl => ?_)
          refine x_goto (tgt := 167) C d_Mo_corner_146 (by decide) ?_
          exact x_irt C hr hH.2.2 ⟨by unfold fCorner; first | (simp [h1, h7, h9, h10]; done) | (exfalso; rw [h1] at h7; revert h7; decide) | (exfalso; rw [h1] at h9; revert h9; decide) | (exfalso; rw [h1] at h10; revert h10; decide) | (exfalso; rw [h7] at h1; revert h1; decide) | (exfalso; rw [h7] at h9; revert h9; decide) | (exfalso; rw [h7] at h10; revert h10; decide) | (exfalso; rw [h9] at h1; revert h1; decide) | (exfalso; rw [h9] at h7; revert h7; decide) | (exfalso; rw [h9] at h10; revert h10; decide) | (exfalso; rw [h10] at h1; revert h1; decide) | (exfalso; rw [h10] at h7; revert h7; decide) | (exfalso; rw [h10] at h9; revert h9; decide), hH.1, hH.2.1⟩ (Nat.le_refl _) (Nat.le_refl _) d_Mo_corner_167
      · refine x_sx C b_Mo_corner_82_83 hl (L' := [(4, .int (ar 3 k)), (0, .ref (ad 20)), (1, .int (nI k)), (2, .int a2), (3, .int a3)]) (st' := [.ref (ad 20)]) rfl (fun ls hl => ?_)
        refine x_get C hH.1 1000 mW_o 7 (v := .ref (ad 5)) rfl rfl (by decide) t_649 (fun _ z => z) d_Mo_corner_83 ?_
        refine x_sx C b_Mo_corner_86_87 hl (L' := [(4, .int (ar 3 k)), (0, .ref (ad 20)), (1, .int (nI k)), (2, .int a2), (3, .int a3)]) (st' := [.int (nI k), .ref (ad 5)]) rfl (fun ls hl => ?_)
        refine x_ald C hH.1 (1001 + 5) (mW_i 5 (by decide) (by decide) rfl rfl rfl) (N := 3) (f := (ar 5)) (j := k) rfl hk (by decide) d_Mo_corner_87 ?_
        refine x_goto (tgt := 98) C d_Mo_corner_88 (by decide) ?_
        refine x_sx C b_Mo_corner_98_102 hl (L' := [(5, .int (ar 5 k)), (4, .int (ar 3 k)), (0, .ref (ad 20)), (1, .int (nI k)), (2, .int a2), (3, .int a3)]) (st' := [.ref (ad 20), .ref (ad 20)]) rfl (fun ls hl => ?_)
        refine x_get C hH.1 1000 mW_o 21 (v := .ref (ad 14)) rfl rfl (by decide) t_663 (fun _ z => z) d_Mo_corner_102 ?_
        refine x_sx C b_Mo_corner_105_106 hl (L' := [(5, .int (ar 5 k)), (4, .int (ar 3 k)), (0, .ref (ad 20)), (1, .int (nI k)), (2, .int a2), (3, .int a3)]) (st' := [.int (nI k), .ref (ad 14), .ref (ad 20)]) rfl (fun ls hl => ?_)
        refine x_ald C hH.1 (1001 + 14) (mW_i 14 (by decide) (by decide) rfl rfl rfl) (N := 3) (f := (ar 14)) (j := k) rfl hk (by decide) d_Mo_corner_106 ?_
        refine x_ro (x_cV C hH.1 mW_o rfl (c_Mo_dx l G ad w0 (va_up sc 0 0) ar (ar 14 k)) t_765 t_14 t_762 t_764 ts_16 hd_Mo_dx blind_Pro (pre_ro C hH.1 hH.2.2) (As := [.int (ar 14 k)]) (rest := []) rfl hl.1 rfl rfl rfl ⟨Nat.le_of_ble_eq_true rfl, Nat.le_of_ble_eq_true rfl⟩ (Nat.le_of_ble_eq_true rfl) ⟨Nat.zero_le _, Nat.zero_le _⟩ d_Mo_corner_107) ?_
        refine x_sx C b_Mo_corner_110_114 hl (L' := [(6, .int (p_dx (ar 14 k))), (5, .int (ar 5 k)), (4, .int (ar 3 k)), (0, .ref (ad 20)), (1, .int (nI k)), (2, .int a2), (3, .int a3)]) (st' := [.ref (ad 20), .ref (ad 20)]) rfl (fun ls hl => ?_)
        refine x_get C hH.1 1000 mW_o 21 (v := .ref (ad 14)) rfl rfl (by decide) t_663 (fun _ z => z) d_Mo_corner_114 ?_
        refine x_sx C b_Mo_corner_117_118 hl (L' := [(6, .int (p_dx (ar 14 k))), (5, .int (ar 5 k)), (4, .int (ar 3 k)), (0, .ref (ad 20)), (1, .int (nI k)), (2, .int a2), (3, .int a3)]) (st' := [.int (nI k), .ref (ad 14), .ref (ad 20)]) rfl (fun ls hl => ?_)
        refine x_ald C hH.1 (1001 + 14) (mW_i 14 (by decide) (by decide) rfl rfl rfl) (N := 3) (f := (ar 14)) (j := k) rfl hk (by decide) d_Mo_corner_118 ?_
        refine x_ro (x_cV C hH.1 mW_o rfl (c_Mo_dy l G ad w0 (va_up sc 0 0) ar (ar 14 k)) t_769 t_14 t_766 t_768 ts_17 hd_Mo_dy blind_Pro (pre_ro C hH.1 hH.2.2) (As := [.int (ar 14 k)]) (rest := []) rfl hl.1 rfl rfl rfl ⟨Nat.le_of_ble_eq_true rfl, Nat.le_of_ble_eq_true rfl⟩ (Nat.le_of_ble_eq_true rfl) ⟨Nat.zero_le _, Nat.zero_le _⟩ d_Mo_corner_119) ?_
        refine x_sx C b_Mo_corner_122_125 hl (L' := [(7, .int (p_dy (ar 14 k))), (6, .int (p_dx (ar 14 k))), (5, .int (ar 5 k)), (4, .int (ar 3 k)), (0, .ref (ad 20)), (1, .int (nI k)), (2, .int a2), (3, .int a3)]) (st' := [.int a3]) rfl (fun ls hl => ?_)
        refine lv_if_ne (tgt := 149) C.1 C.2.1 d_Mo_corner_125 (by decide) (fun h11 => ?_) (fun h11 => ?_)
        · refine x_sx C b_Mo_corner_149_150 hl (L' := [(7, .int (p_dy (ar 14 k))), (6, .int (p_dx (ar 14 k))), (5, .int (ar 5 k)), (4, .int (ar 3 k)), (0, .ref (ad 20)), (1, .int (nI k)), (2, .int a2), (3, .int a3)]) (st' := [.ref (ad 20)]) rfl (fun ls hl => ?_)
          refine x_get C hH.1 1000 mW_o 20 (v := .ref (ad 13)) rfl rfl (by decide) t_662 (fun _ z => z) d_Mo_corner_150 ?_
          refine x_sx C b_Mo_corner_153_154 hl (L' := [(7, .int (p_dy (ar 14 k))), (6, .int (p_dx (ar 14 k))), (5, .int (ar 5 k)), (4, .int (ar 3 k)), (0, .ref (ad 20)), (1, .int (nI k)), (2, .int a2), (3, .int a3)]) (st' := [.int (nI k), .ref (ad 13)]) rfl (fun ls hl => ?_)
          refine x_ald C hH.1 (1001 + 13) (mW_i 13 (by decide) (by decide) rfl rfl rfl) (N := 3) (f := (ar 13)) (j := k) rfl hk (by decide) d_Mo_corner_154 ?_
          refine x_sx C b_Mo_corner_155_167 hl (L' := [(7, .int (p_dy (ar 14 k))), (6, .int (p_dx (ar 14 k))), (5, .int (ar 5 k)), (4, .int (ar 3 k)), (0, .ref (ad 20)), (1, .int (nI k)), (2, .int a2), (3, .int a3)]) (st' := [.int (((ar 13 k) + ((ar 3 k) * (p_dy (ar 14 k)))) + ((ar 5 k) * (p_dx (ar 14 k))))]) rfl (fun ls hl => ?_)
          exact x_irt C hr hH.2.2 ⟨by unfold fCorner; first | (simp [h1, h7, h9, h11]; done) | (exfalso; rw [h1] at h7; revert h7; decide) | (exfalso; rw [h1] at h9; revert h9; decide) | (exfalso; rw [h1] at h11; revert h11; decide) | (exfalso; rw [h7] at h1; revert h1; decide) | (exfalso; rw [h7] at h9; revert h9; decide) | (exfalso; rw [h7] at h11; revert h11; decide) | (exfalso; rw [h9] at h1; revert h1; decide) | (exfalso; rw [h9] at h7; revert h7; decide) | (exfalso; rw [h9] at h11; revert h11; decide) | (exfalso; rw [h11] at h1; revert h1; decide) | (exfalso; rw [h11] at h7; revert h7; decide) | (exfalso; rw [h11] at h9; revert h9; decide), hH.1, hH.2.1⟩ (Nat.le_refl _) (Nat.le_refl _) d_Mo_corner_167
        · refine x_sx C b_Mo_corner_128_129 hl (L' := [(7, .int (p_dy (ar 14 k))), (6, .int (p_dx (ar 14 k))), (5, .int (ar 5 k)), (4, .int (ar 3 k)), (0, .ref (ad 20)), (1, .int (nI k)), (2, .int a2), (3, .int a3)]) (st' := [.ref (ad 20)]) rfl (fun ls hl => ?_)
          refine x_get C hH.1 1000 mW_o 19 (v := .ref (ad 12)) rfl rfl (by decide) t_661 (fun _ z => z) d_Mo_corner_129 ?_
          refine x_sx C b_Mo_corner_132_133 hl (L' := [(7, .int (p_dy (ar 14 k))), (6, .int (p_dx (ar 14 k))), (5, .int (ar 5 k)), (4, .int (ar 3 k)), (0, .ref (ad 20)), (1, .int (nI k)), (2, .int a2), (3, .int a3)]) (st' := [.int (nI k), .ref (ad 12)]) rfl (fun ls hl => ?_)
          refine x_ald C hH.1 (1001 + 12) (mW_i 12 (by decide) (by decide) rfl rfl rfl) (N := 3) (f := (ar 12)) (j := k) rfl hk (by decide) d_Mo_corner_133 ?_
          refine x_sx C b_Mo_corner_134_146 hl (L' := [(7, .int (p_dy (ar 14 k))), (6, .int (p_dx (ar 14 k))), (5, .int (ar 5 k)), (4, .int (ar 3 k)), (0, .ref (ad 20)), (1, .int (nI k)), (2, .int a2), (3, .int a3)]) (st' := [.int (((ar 12 k) + ((ar 3 k) * (p_dx (ar 14 k)))) - ((ar 5 k) * (p_dy (ar 14 k))))]) rfl (fun ls hl => ?_)
          refine x_goto (tgt := 167) C d_Mo_corner_146 (by decide) ?_
          exact x_irt C hr hH.2.2 ⟨by unfold fCorner; first | (simp [h1, h7, h9, h11]; done) | (exfalso; rw [h1] at h7; revert h7; decide) | (exfalso; rw [h1] at h9; revert h9; decide) | (exfalso; rw [h1] at h11; revert h11; decide) | (exfalso; rw [h7] at h1; revert h1; decide) | (exfalso; rw [h7] at h9; revert h9; decide) | (exfalso; rw [h7] at h11; revert h11; decide) | (exfalso; rw [h9] at h1; revert h1; decide) | (exfalso; rw [h9] at h7; revert h7; decide) | (exfalso; rw [h9] at h11; revert h11; decide) | (exfalso; rw [h11] at h1; revert h1; decide) | (exfalso; rw [h11] at h7; revert h7; decide) | (exfalso; rw [h11] at h9; revert h9; decide), hH.1, hH.2.1⟩ (Nat.le_refl _) (Nat.le_refl _) d_Mo_corner_167
theorem hd_Mo_corner : hdP y_Mo_corner 3 := ⟨by decide +kernel, by decide +kernel, by decide +kernel⟩
theorem b_Mo_cell_0_6 : decs prog_7_method_25_code [(.aload_n 0, 1), (.iload_n 1, 1), (.bipush (-32), 2), (.bipush 31, 2)] 0 6 = true := by decide +kernel
theorem d_Mo_cell_6 : decode prog_7_method_25_code 6 = .ok (.invokestatic 152, 3) := by decide +kernel
theorem d_Mo_cell_9 : decode prog_7_method_25_code 9 = .ok (.ifCond .eq 18, 3) := by decide +kernel
theorem b_Mo_cell_27_28 : decs prog_7_method_25_code [(.iconst 1, 1)] 27 28 = true := by decide +kernel
theorem d_Mo_cell_28 : decode prog_7_method_25_code 28 = .ok (.putfield 87, 3) := by decide +kernel
theorem b_Mo_cell_31_32 : decs prog_7_method_25_code [(.aload_n 0, 1)] 31 32 = true := by decide +kernel
theorem d_Mo_cell_32 : decode prog_7_method_25_code 32 = .ok (.getfield 87, 3) := by decide +kernel
theorem d_Mo_cell_35 : decode prog_7_method_25_code 35 = .ok (.ifCond .ne 27, 3) := by decide +kernel
theorem b_Mo_cell_62_63 : decs prog_7_method_25_code [(.iconst 0, 1)] 62 63 = true := by decide +kernel
theorem d_Mo_cell_63 : decode prog_7_method_25_code 63 = .ok (.ireturn, 1) := by decide +kernel
theorem b_Mo_cell_12_17 : decs prog_7_method_25_code [(.iload_n 2, 1), (.bipush (-32), 2), (.bipush 31, 2)] 12 17 = true := by decide +kernel
theorem d_Mo_cell_17 : decode prog_7_method_25_code 17 = .ok (.invokestatic 152, 3) := by decide +kernel
theorem d_Mo_cell_20 : decode prog_7_method_25_code 20 = .ok (.ifCond .eq 7, 3) := by decide +kernel
set_option maxRecDepth 100000 in
set_option maxHeartbeats 4000000 in
theorem c_Mo_cell_1 (l : Launch) (G : GG) (A : Nat → Prop) (ad : Nat → Nat) (w0 : WF) (sc : Nat → Int32) (ar : Nat → Nat → Int32) (a1 a2 : Int32) (hv : ¬ ((p_in a1 (-32) 31) = 1 ∧ (p_in a2 (-32) 31) = 1)) : Met l y_Mo_cell (Cond.code y_Mo_cell prog_7_method_25_code 3 (some FieldType.boolean) :: wt) { frames := 1, cells := 0, slots := 0, locals := 22 } (Pre G A (mW G ad w0 sc ar) (fun _ => True) [.ref (ad 20), .int a1, .int a2]) (Qw A (some (.int 0)) G (mW G ad w0 (va_up sc 0 1) ar)) 0 0 A := by
  refine mt_of (by decide) (Nat.le_of_ble_eq_true rfl) ?_
  intro p e s m below meth c ls C hH hA hE hr hmn hl
  have hl : lv_has ls 3 [(0, .ref (ad 20)), (1, .int a1), (2, .int a2)] := hl
  refine x_sx C b_Mo_cell_0_6 hl (L' := [(0, .ref (ad 20)), (1, .int a1), (2, .int a2)]) (st' := [.int 31, .int (-32), .int a1, .ref (ad 20)]) rfl (fun ls hl => ?_)
  refine x_ro (x_cS C (c_Mo_in l G _ a1 (-32) 31) t_753 t_14 t_751 t_752 hd_Mo_in blind_Pro (pre_ro C hH.1 hH.2.2) (As := [.int a1, .int (-32), .int 31]) (rest := [.ref (ad 20)]) rfl hl.1 rfl rfl rfl ⟨Nat.le_of_ble_eq_true rfl, Nat.le_of_ble_eq_true rfl⟩ (Nat.le_of_ble_eq_true rfl) ⟨Nat.zero_le _, Nat.zero_le _⟩ d_Mo_cell_6) ?_
  refine lv_if_eq (tgt := 27) C.1 C.2.1 d_Mo_cell_9 (by decide) (fun v0 => ?_) (fun v0 => ?_)
  · refine x_sx C b_Mo_cell_27_28 hl (L' := [(0, .ref (ad 20)), (1, .int a1), (2, .int a2)]) (st' := [.int 1, .ref (ad 20)]) rfl (fun ls hl => ?_)
    refine m_put C hH 0 0 rfl (by decide) t_642 rfl rfl rfl rfl d_Mo_cell_28 (fun H locs hH => ?_)
    refine x_sx C b_Mo_cell_31_32 hl (L' := [(0, .ref (ad 20)), (1, .int a1), (2, .int a2)]) (st' := [.ref (ad 20)]) rfl (fun ls hl => ?_)
    refine x_get C hH.1 1000 mW_o 0 (v := .int 1) rfl rfl (by decide) t_642 (fun _ z => z) d_Mo_cell_32 ?_
    refine lv_if_ne (tgt := 62) C.1 C.2.1 d_Mo_cell_35 (by decide) (fun _ => ?_) (fun h => absurd h (by decide))
    refine x_sx C b_Mo_cell_62_63 hl (L' := [(0, .ref (ad 20)), (1, .int a1), (2, .int a2)]) (st' := [.int 0]) rfl (fun ls hl => ?_)
    exact x_zrt C hr rfl hH.2.2 ⟨rfl, hH.1, hH.2.1⟩ (Nat.le_refl _) (Nat.le_refl _) d_Mo_cell_63
  · refine x_sx C b_Mo_cell_12_17 hl (L' := [(0, .ref (ad 20)), (1, .int a1), (2, .int a2)]) (st' := [.int 31, .int (-32), .int a2, .ref (ad 20)]) rfl (fun ls hl => ?_)
    refine x_ro (x_cS C (c_Mo_in l G _ a2 (-32) 31) t_753 t_14 t_751 t_752 hd_Mo_in blind_Pro (pre_ro C hH.1 hH.2.2) (As := [.int a2, .int (-32), .int 31]) (rest := [.ref (ad 20)]) rfl hl.1 rfl rfl rfl ⟨Nat.le_of_ble_eq_true rfl, Nat.le_of_ble_eq_true rfl⟩ (Nat.le_of_ble_eq_true rfl) ⟨Nat.zero_le _, Nat.zero_le _⟩ d_Mo_cell_17) ?_
    refine lv_if_eq (tgt := 27) C.1 C.2.1 d_Mo_cell_20 (by decide) (fun v1 => ?_) (fun v1 => ?_)
    · refine x_sx C b_Mo_cell_27_28 hl (L' := [(0, .ref (ad 20)), (1, .int a1), (2, .int a2)]) (st' := [.int 1, .ref (ad 20)]) rfl (fun ls hl => ?_)
      refine m_put C hH 0 0 rfl (by decide) t_642 rfl rfl rfl rfl d_Mo_cell_28 (fun H locs hH => ?_)
      refine x_sx C b_Mo_cell_31_32 hl (L' := [(0, .ref (ad 20)), (1, .int a1), (2, .int a2)]) (st' := [.ref (ad 20)]) rfl (fun ls hl => ?_)
      refine x_get C hH.1 1000 mW_o 0 (v := .int 1) rfl rfl (by decide) t_642 (fun _ z => z) d_Mo_cell_32 ?_
      refine lv_if_ne (tgt := 62) C.1 C.2.1 d_Mo_cell_35 (by decide) (fun _ => ?_) (fun h => absurd h (by decide))
      refine x_sx C b_Mo_cell_62_63 hl (L' := [(0, .ref (ad 20)), (1, .int a1), (2, .int a2)]) (st' := [.int 0]) rfl (fun ls hl => ?_)
      exact x_zrt C hr rfl hH.2.2 ⟨rfl, hH.1, hH.2.1⟩ (Nat.le_refl _) (Nat.le_refl _) d_Mo_cell_63
    · exact absurd ⟨p_in1 v0, p_in1 v1⟩ hv
theorem b_Mo_cell_23_24 : decs prog_7_method_25_code [(.iconst 0, 1)] 23 24 = true := by decide +kernel
theorem d_Mo_cell_24 : decode prog_7_method_25_code 24 = .ok (.goto 4, 3) := by decide +kernel
theorem b_Mo_cell_38_39 : decs prog_7_method_25_code [(.aload_n 0, 1)] 38 39 = true := by decide +kernel
theorem d_Mo_cell_39 : decode prog_7_method_25_code 39 = .ok (.getfield 75, 3) := by decide +kernel
theorem b_Mo_cell_42_54 : decs prog_7_method_25_code [(.bipush 64, 2), (.iload_n 1, 1), (.bipush 32, 2), (.iadd, 1), (.imul, 1), (.iload_n 2, 1), (.iadd, 1), (.bipush 32, 2), (.iadd, 1)] 42 54 = true := by decide +kernel
theorem d_Mo_cell_54 : decode prog_7_method_25_code 54 = .ok (.baload, 1) := by decide +kernel
theorem d_Mo_cell_55 : decode prog_7_method_25_code 55 = .ok (.ifCond .eq 7, 3) := by decide +kernel
theorem b_Mo_cell_58_59 : decs prog_7_method_25_code [(.iconst 1, 1)] 58 59 = true := by decide +kernel
theorem d_Mo_cell_59 : decode prog_7_method_25_code 59 = .ok (.goto 4, 3) := by decide +kernel
set_option maxRecDepth 100000 in
set_option maxHeartbeats 4000000 in
theorem c_Mo_cell (l : Launch) (G : GG) (A : Nat → Prop) (ad : Nat → Nat) (w0 : WF) (sc : Nat → Int32) (ar : Nat → Nat → Int32) (a b : Nat) (hv : (p_in (zs a) (-32) 31) = 1 ∧ (p_in (zs b) (-32) 31) = 1) (ha : a < 64) (hb : b < 64) (hz : Z01 (ar 17)) : Met l y_Mo_cell (Cond.code y_Mo_cell prog_7_method_25_code 3 (some FieldType.boolean) :: wt) { frames := 1, cells := 0, slots := 0, locals := 22 } (Pre G A (mW G ad w0 sc ar) (fun _ => True) [.ref (ad 20), .int (zs a), .int (zs b)]) (Qw A (some (.int (ar 17 (64 * a + b)))) G (mW G ad w0 (va_up sc 0 0) ar)) 0 0 A := by
  refine mt_of (by decide) (Nat.le_of_ble_eq_true rfl) ?_
  intro p e s m below meth c ls C hH hA hE hr hmn hl
  have hl : lv_has ls 3 [(0, .ref (ad 20)), (1, .int (zs a)), (2, .int (zs b))] := hl
  have ht : 64 * a + b < 4096 := by omega
  refine x_sx C b_Mo_cell_0_6 hl (L' := [(0, .ref (ad 20)), (1, .int (zs a)), (2, .int (zs b))]) (st' := [.int 31, .int (-32), .int (zs a), .ref (ad 20)]) rfl (fun ls hl => ?_)
  refine x_ro (x_cS C (c_Mo_in l G _ (zs a) (-32) 31) t_753 t_14 t_751 t_752 hd_Mo_in blind_Pro (pre_ro C hH.1 hH.2.2) (As := [.int (zs a), .int (-32), .int 31]) (rest := [.ref (ad 20)]) rfl hl.1 rfl rfl rfl ⟨Nat.le_of_ble_eq_true rfl, Nat.le_of_ble_eq_true rfl⟩ (Nat.le_of_ble_eq_true rfl) ⟨Nat.zero_le _, Nat.zero_le _⟩ d_Mo_cell_6) ?_
  refine lv_if_eq (tgt := 27) C.1 C.2.1 d_Mo_cell_9 (by decide) (fun h => absurd h (by rw [hv.1]; first | done | decide)) (fun _ => ?_)
  refine x_sx C b_Mo_cell_12_17 hl (L' := [(0, .ref (ad 20)), (1, .int (zs a)), (2, .int (zs b))]) (st' := [.int 31, .int (-32), .int (zs b), .ref (ad 20)]) rfl (fun ls hl => ?_)
  refine x_ro (x_cS C (c_Mo_in l G _ (zs b) (-32) 31) t_753 t_14 t_751 t_752 hd_Mo_in blind_Pro (pre_ro C hH.1 hH.2.2) (As := [.int (zs b), .int (-32), .int 31]) (rest := [.ref (ad 20)]) rfl hl.1 rfl rfl rfl ⟨Nat.le_of_ble_eq_true rfl, Nat.le_of_ble_eq_true rfl⟩ (Nat.le_of_ble_eq_true rfl) ⟨Nat.zero_le _, Nat.zero_le _⟩ d_Mo_cell_17) ?_
  refine lv_if_eq (tgt := 27) C.1 C.2.1 d_Mo_cell_20 (by decide) (fun h => absurd h (by rw [hv.2]; first | done | decide)) (fun _ => ?_)
  refine x_sx C b_Mo_cell_23_24 hl (L' := [(0, .ref (ad 20)), (1, .int (zs a)), (2, .int (zs b))]) (st' := [.int 0, .ref (ad 20)]) rfl (fun ls hl => ?_)
  refine x_goto (tgt := 28) C d_Mo_cell_24 (by decide) ?_
  refine m_put C hH 0 0 rfl (by decide) t_642 rfl rfl rfl rfl d_Mo_cell_28 (fun H locs hH => ?_)
  refine x_sx C b_Mo_cell_31_32 hl (L' := [(0, .ref (ad 20)), (1, .int (zs a)), (2, .int (zs b))]) (st' := [.ref (ad 20)]) rfl (fun ls hl => ?_)
  refine x_get C hH.1 1000 mW_o 0 (v := .int 0) rfl rfl (by decide) t_642 (fun _ z => z) d_Mo_cell_32 ?_
  refine lv_if_ne (tgt := 62) C.1 C.2.1 d_Mo_cell_35 (by decide) (fun h => absurd (by decide) h) (fun _ => ?_)
  refine x_sx C b_Mo_cell_38_39 hl (L' := [(0, .ref (ad 20)), (1, .int (zs a)), (2, .int (zs b))]) (st' := [.ref (ad 20)]) rfl (fun ls hl => ?_)
  refine x_get C hH.1 1000 mW_o 30 (v := .ref (ad 17)) rfl rfl (by decide) t_672 (fun _ z => z) d_Mo_cell_39 ?_
  refine x_sx C b_Mo_cell_42_54 hl (L' := [(0, .ref (ad 20)), (1, .int (zs a)), (2, .int (zs b))]) (st' := [.int (((64 * ((zs a) + 32)) + (zs b)) + 32), .ref (ad 17)]) rfl (fun ls hl => ?_)
  refine x_zld C hH.1 (1001 + 17) (mW_z 17 (by decide) (by decide) rfl rfl rfl) (N := 4096) (f := (ar 17)) (j := (64 * a + b)) (zs_at a b) ht (by decide) d_Mo_cell_54 ?_
  refine lv_if_eq (tgt := 62) C.1 C.2.1 d_Mo_cell_55 (by decide) (fun h1 => ?_) (fun h1 => ?_)
  · refine x_sx C b_Mo_cell_62_63 hl (L' := [(0, .ref (ad 20)), (1, .int (zs a)), (2, .int (zs b))]) (st' := [.int 0]) rfl (fun ls hl => ?_)
    exact x_zrt C hr rfl hH.2.2 ⟨by rw [h1], hH.1, hH.2.1⟩ (Nat.le_refl _) (Nat.le_refl _) d_Mo_cell_63
  · refine x_sx C b_Mo_cell_58_59 hl (L' := [(0, .ref (ad 20)), (1, .int (zs a)), (2, .int (zs b))]) (st' := [.int 1]) rfl (fun ls hl => ?_)
    refine x_goto (tgt := 63) C d_Mo_cell_59 (by decide) ?_
    exact x_zrt C hr rfl hH.2.2 ⟨by rw [(hz _ ht).resolve_left h1], hH.1, hH.2.1⟩ (Nat.le_refl _) (Nat.le_refl _) d_Mo_cell_63
theorem hd_Mo_cell : hdP y_Mo_cell 2 := ⟨by decide +kernel, by decide +kernel, by decide +kernel⟩
theorem b_Mo_best_0_2 : decs prog_7_method_33_code [(.aload_n 0, 1), (.aload_n 0, 1)] 0 2 = true := by decide +kernel
theorem d_Mo_best_2 : decode prog_7_method_33_code 2 = .ok (.getfield 84, 3) := by decide +kernel
theorem d_Mo_best_5 : decode prog_7_method_33_code 5 = .ok (.ifCond .le 7, 3) := by decide +kernel
theorem b_Mo_best_12_13 : decs prog_7_method_33_code [(.iconst 1, 1)] 12 13 = true := by decide +kernel
theorem d_Mo_best_13 : decode prog_7_method_33_code 13 = .ok (.putfield 87, 3) := by decide +kernel
theorem b_Mo_best_16_17 : decs prog_7_method_33_code [(.aload_n 0, 1)] 16 17 = true := by decide +kernel
theorem d_Mo_best_17 : decode prog_7_method_33_code 17 = .ok (.getfield 87, 3) := by decide +kernel
theorem d_Mo_best_20 : decode prog_7_method_33_code 20 = .ok (.ifCond .le 5, 3) := by decide +kernel
theorem b_Mo_best_23_24 : decs prog_7_method_33_code [(.iconst 0, 1)] 23 24 = true := by decide +kernel
theorem d_Mo_best_24 : decode prog_7_method_33_code 24 = .ok (.ireturn, 1) := by decide +kernel
set_option maxRecDepth 100000 in
set_option maxHeartbeats 4000000 in
theorem c_Mo_best_1 (l : Launch) (G : GG) (A : Nat → Prop) (ad : Nat → Nat) (w0 : WF) (sc : Nat → Int32) (ar : Nat → Nat → Int32)  (h1 : sc 1 = 0) : Met l y_Mo_best (Cond.code y_Mo_best prog_7_method_33_code 4 (some FieldType.int) :: wt) { frames := 7, cells := 0, slots := 0, locals := 179 } (Pre G A (mW G ad w0 sc ar) (fun _ => True) [.ref (ad 20)]) (Qw A (some (.int 0)) G (mW G ad w0 (va_up sc 0 1) ar)) 0 0 A := by
  refine mt_of (by decide) (Nat.le_of_ble_eq_true rfl) ?_
  intro p e s m below meth c ls C hH hA hE hr hmn hl
  have hl : lv_has ls 4 [(0, .ref (ad 20))] := hl
  refine x_sx C b_Mo_best_0_2 hl (L' := [(0, .ref (ad 20))]) (st' := [.ref (ad 20), .ref (ad 20)]) rfl (fun ls hl => ?_)
  refine x_get C hH.1 1000 mW_o 2 (v := .int (sc 1)) rfl rfl (by decide) t_644 (fun _ z => z) d_Mo_best_2 ?_
  refine lv_if_le (tgt := 12) C.1 C.2.1 d_Mo_best_5 (by decide) (fun _ => ?_) (fun h => absurd (by rw [h1]; first | done | decide) h)
  refine x_sx C b_Mo_best_12_13 hl (L' := [(0, .ref (ad 20))]) (st' := [.int 1, .ref (ad 20)]) rfl (fun ls hl => ?_)
  refine m_put C hH 0 0 rfl (by decide) t_642 rfl rfl rfl rfl d_Mo_best_13 (fun H locs hH => ?_)
  refine x_sx C b_Mo_best_16_17 hl (L' := [(0, .ref (ad 20))]) (st' := [.ref (ad 20)]) rfl (fun ls hl => ?_)
  refine x_get C hH.1 1000 mW_o 0 (v := .int 1) rfl rfl (by decide) t_642 (fun _ z => z) d_Mo_best_17 ?_
  refine lv_if_le (tgt := 25) C.1 C.2.1 d_Mo_best_20 (by decide) (fun h => absurd h (by decide)) (fun _ => ?_)
  refine x_sx C b_Mo_best_23_24 hl (L' := [(0, .ref (ad 20))]) (st' := [.int 0]) rfl (fun ls hl => ?_)
  exact x_irt C hr hH.2.2 ⟨rfl, hH.1, hH.2.1⟩ (Nat.le_refl _) (Nat.le_refl _) d_Mo_best_24
theorem b_Mo_best_8_9 : decs prog_7_method_33_code [(.iconst 0, 1)] 8 9 = true := by decide +kernel
theorem d_Mo_best_9 : decode prog_7_method_33_code 9 = .ok (.goto 4, 3) := by decide +kernel
theorem b_Mo_best_25_26 : decs prog_7_method_33_code [(.aload_n 0, 1)] 25 26 = true := by decide +kernel
theorem d_Mo_best_26 : decode prog_7_method_33_code 26 = .ok (.invokevirtual 162, 3) := by decide +kernel
theorem b_Mo_best_29_35 : decs prog_7_method_33_code [(.iconst (-1), 1), (.istore_n 1, 1), (.iconst 0, 1), (.istore_n 2, 1), (.iconst 0, 1), (.istore_n 3, 1)] 29 35 = true := by decide +kernel
theorem b_Mo_best_35_37 : decs prog_7_method_33_code [(.iload_n 3, 1), (.iconst 4, 1)] 35 37 = true := by decide +kernel
theorem d_Mo_best_37 : decode prog_7_method_33_code 37 = .ok (.if_icmp .ge 49, 3) := by decide +kernel
theorem b_Mo_best_86_87 : decs prog_7_method_33_code [(.aload_n 0, 1)] 86 87 = true := by decide +kernel
theorem d_Mo_best_87 : decode prog_7_method_33_code 87 = .ok (.invokevirtual 168, 3) := by decide +kernel
theorem b_Mo_best_90_91 : decs prog_7_method_33_code [(.iload_n 1, 1)] 90 91 = true := by decide +kernel
theorem d_Mo_best_91 : decode prog_7_method_33_code 91 = .ok (.ireturn, 1) := by decide +kernel
theorem b_Mo_best_40_42 : decs prog_7_method_33_code [(.aload_n 0, 1), (.iload_n 3, 1)] 40 42 = true := by decide +kernel
theorem d_Mo_best_42 : decode prog_7_method_33_code 42 = .ok (.invokevirtual 165, 3) := by decide +kernel
theorem b_Mo_best_45_46 : decs prog_7_method_33_code [(.aload_n 0, 1)] 45 46 = true := by decide +kernel
theorem d_Mo_best_46 : decode prog_7_method_33_code 46 = .ok (.getfield 125, 3) := by decide +kernel
theorem d_Mo_best_49 : decode prog_7_method_33_code 49 = .ok (.ifCond .ne 31, 3) := by decide +kernel
theorem b_Mo_best_80_83 : decs prog_7_method_33_code [(.iinc 3 1, 3)] 80 83 = true := by decide +kernel
theorem d_Mo_best_83 : decode prog_7_method_33_code 83 = .ok (.goto (-48), 3) := by decide +kernel
theorem b_Mo_best_52_53 : decs prog_7_method_33_code [(.aload_n 0, 1)] 52 53 = true := by decide +kernel
theorem d_Mo_best_53 : decode prog_7_method_33_code 53 = .ok (.getfield 66, 3) := by decide +kernel
theorem b_Mo_best_56_57 : decs prog_7_method_33_code [(.iconst (-1), 1)] 56 57 = true := by decide +kernel
theorem d_Mo_best_57 : decode prog_7_method_33_code 57 = .ok (.if_icmp .ne 23, 3) := by decide +kernel
theorem b_Mo_best_60_62 : decs prog_7_method_33_code [(.iload_n 1, 1), (.iconst (-1), 1)] 60 62 = true := by decide +kernel
theorem d_Mo_best_62 : decode prog_7_method_33_code 62 = .ok (.if_icmp .eq 11, 3) := by decide +kernel
theorem b_Mo_best_73_76 : decs prog_7_method_33_code [(.iload_n 3, 1), (.istore_n 1, 1), (.aload_n 0, 1)] 73 76 = true := by decide +kernel
theorem d_Mo_best_76 : decode prog_7_method_33_code 76 = .ok (.getfield 116, 3) := by decide +kernel
theorem b_Mo_best_79_80 : decs prog_7_method_33_code [(.istore_n 2, 1)] 79 80 = true := by decide +kernel
theorem b_Mo_best_65_66 : decs prog_7_method_33_code [(.aload_n 0, 1)] 65 66 = true := by decide +kernel
theorem d_Mo_best_66 : decode prog_7_method_33_code 66 = .ok (.getfield 116, 3) := by decide +kernel
theorem b_Mo_best_69_70 : decs prog_7_method_33_code [(.iload_n 2, 1)] 69 70 = true := by decide +kernel
theorem d_Mo_best_70 : decode prog_7_method_33_code 70 = .ok (.if_icmp .ge 10, 3) := by decide +kernel
set_option maxRecDepth 100000 in
set_option maxHeartbeats 4000000 in
theorem c_Mo_best (l : Launch) (G : GG) (A : Nat → Prop) (ad : Nat → Nat) (w0 : WF) (sc : Nat → Int32) (ar : Nat → Nat → Int32) (n np : Nat) (K : SA → Prop) (h1 : sc 1 = nI n) (hn0 : 0 < n) (hn3 : n ≤ 3) (hz : Z01 (ar 17)) (h8 : sc 8 = 0 ∨ sc 8 = 1) (h12 : sc 12 = nI (cnt (ar 17))) (hP : PlH n np K (va_up sc 0 0, fKeep (va_up sc 0 0) ar)) : Met l y_Mo_best (Cond.code y_Mo_best prog_7_method_33_code 4 (some FieldType.int) :: wt) { frames := 7, cells := 0, slots := 0, locals := 179 } (Pre G A (mW G ad w0 sc ar) (fun _ => True) [.ref (ad 20)]) (Qw A (some (.int (bsI (va_up sc 0 0, fKeep (va_up sc 0 0) ar) 4).2.1)) G (mW G ad w0 (va_up sc 0 0) (fKeep (va_up sc 0 0) ar))) 0 0 A := by
  refine mt_of (by decide) (Nat.le_of_ble_eq_true rfl) ?_
  intro p e s m below meth c ls C hH hA hE hr hmn hl
  have hl : lv_has ls 4 [(0, .ref (ad 20))] := hl
  have hpos : ¬ sc 1 ≤ 0 := by rw [h1]; exact nI_nle hn0 (by omega)
  refine x_sx C b_Mo_best_0_2 hl (L' := [(0, .ref (ad 20))]) (st' := [.ref (ad 20), .ref (ad 20)]) rfl (fun ls hl => ?_)
  refine x_get C hH.1 1000 mW_o 2 (v := .int (sc 1)) rfl rfl (by decide) t_644 (fun _ z => z) d_Mo_best_2 ?_
  refine lv_if_le (tgt := 12) C.1 C.2.1 d_Mo_best_5 (by decide) (fun h => absurd h hpos) (fun _ => ?_)
  refine x_sx C b_Mo_best_8_9 hl (L' := [(0, .ref (ad 20))]) (st' := [.int 0, .ref (ad 20)]) rfl (fun ls hl => ?_)
  refine x_goto (tgt := 13) C d_Mo_best_9 (by decide) ?_
  refine m_put C hH 0 0 rfl (by decide) t_642 rfl rfl rfl rfl d_Mo_best_13 (fun H locs hH => ?_)
  refine x_sx C b_Mo_best_16_17 hl (L' := [(0, .ref (ad 20))]) (st' := [.ref (ad 20)]) rfl (fun ls hl => ?_)
  refine x_get C hH.1 1000 mW_o 0 (v := .int 0) rfl rfl (by decide) t_642 (fun _ z => z) d_Mo_best_17 ?_
  refine lv_if_le (tgt := 25) C.1 C.2.1 d_Mo_best_20 (by decide) (fun _ => ?_) (fun h => absurd (by decide) h)
  refine x_sx C b_Mo_best_25_26 hl (L' := [(0, .ref (ad 20))]) (st' := [.ref (ad 20)]) rfl (fun ls hl => ?_)
  refine x_mw0 (x_cV C hH.1 mW_o rfl (c_Mo_keepAside l G A ad w0 (va_up sc 0 0) ar hz) t_858 t_14 t_855 t_857 ts_23 hd_Mo_keepAside blind_Pre (pre_mt C hH hA trivial) (As := []) (rest := []) rfl hl.1 rfl rfl rfl ⟨Nat.le_of_ble_eq_true rfl, Nat.le_of_ble_eq_true rfl⟩ (Nat.le_of_ble_eq_true rfl) ⟨Nat.zero_le _, Nat.zero_le _⟩ d_Mo_best_26) hH.2.2 (fun H locs hH => ?_)
  refine x_sx C b_Mo_best_29_35 hl (L' := [(3, .int 0), (2, .int 0), (1, .int (-1)), (0, .ref (ad 20))]) (st' := []) rfl (fun ls hl => ?_)
  obtain ⟨p1, p2, p3, p4, p5, p6, p7, p8⟩ := hP
  have hq0 : bsI (va_up sc 0 0, fKeep (va_up sc 0 0) ar) 0 = ((va_up sc 0 0, fKeep (va_up sc 0 0) ar), -1, 0) := by rw [bsI]
  refine x_loop (X := Nat) (fun x => 4 - x) (fun x H locs => x ≤ 4 ∧ Hw G A s (mW G ad w0 (bsI (va_up sc 0 0, fKeep (va_up sc 0 0) ar) x).1.1 (bsI (va_up sc 0 0, fKeep (va_up sc 0 0) ar) x).1.2) H locs) (fun x => [(0, .ref (ad 20)), (1, .int (bsI (va_up sc 0 0, fKeep (va_up sc 0 0) ar) x).2.1), (2, .int (bsI (va_up sc 0 0, fKeep (va_up sc 0 0) ar) x).2.2), (3, .int (nI x))]) 35 ?_ 0 _ _ _ ⟨by decide, by rw [hq0]; exact hH⟩ (by rw [hq0]; exact (lv_sub hl [3, 2, 1, 0] rfl))
  intro k H locs ls hI hl IH
  obtain ⟨hk4, hH⟩ := hI
  have hsb := bsI_s (va_up sc 0 0, fKeep (va_up sc 0 0) ar) k
  have heq := bsI_eqB (va_up sc 0 0, fKeep (va_up sc 0 0) ar) k
  have hsc : ∀ j, j ≠ 7 → j ≠ 8 → j ≠ 9 → j ≠ 10 → j ≠ 11 → j ≠ 12 → (bsI (va_up sc 0 0, fKeep (va_up sc 0 0) ar) k).1.1 j = (va_up sc 0 0) j := fun j q1 q2 q3 q4 q5 q6 => bsI_sc (va_up sc 0 0, fKeep (va_up sc 0 0) ar) k q1 q2 q3 q4 q5 q6
  have har : ∀ i, i ≠ 12 → i ≠ 13 → i ≠ 14 → i ≠ 15 → i ≠ 16 → i ≠ 17 → (bsI (va_up sc 0 0, fKeep (va_up sc 0 0) ar) k).1.2 i = fKeep (va_up sc 0 0) ar i := fun j q1 q2 q3 q4 q5 q6 => bsI_ar (va_up sc 0 0, fKeep (va_up sc 0 0) ar) k q1 q2 q3 q4 q5 q6
  generalize hbk : bsI (va_up sc 0 0, fKeep (va_up sc 0 0) ar) k = bk at hH hl hsb heq hsc har
  obtain ⟨⟨sck, ark⟩, b, f⟩ := bk
  dsimp only at hH hl hsb heq hsc har
  have hl : lv_has ls 4 [(0, .ref (ad 20)), (1, .int b), (2, .int f), (3, .int (nI k))] := hl
  refine x_sx C b_Mo_best_35_37 hl (L' := [(0, .ref (ad 20)), (1, .int b), (2, .int f), (3, .int (nI k))]) (st' := [.int 4, .int (nI k)]) rfl (fun ls hl => ?_)
  refine lv_icmp_ge (tgt := 86) C.1 C.2.1 d_Mo_best_37 (by decide) (fun hb => ?_) (fun hb => ?_)
  · have e4 : k = 4 := by rw [show (4 : Int32) = nI 4 from rfl, nI_leI (by omega) (by omega)] at hb; omega
    subst e4
    have hw : (va_up (va_up ark 18 (svN (va_up sc 0 0) ar)) 19 (ar 17)) = ark := by
      rw [up_id ark 18 (svN (va_up sc 0 0) ar) (har 18 (by decide) (by decide) (by decide) (by decide) (by decide) (by decide)), up_id ark 19 (ar 17) (har 19 (by decide) (by decide) (by decide) (by decide) (by decide) (by decide))]
    have hH : Hw G A s (mW G ad w0 sck (va_up (va_up ark 18 (svN (va_up sc 0 0) ar)) 19 (ar 17))) H locs := by rw [hw]; exact hH
    have hB1 : bkS sck (va_up sc 0 0) ar = (va_up sc 0 0) := bk_sc hsc h12
    have hB2 : bkA (va_up (va_up ark 18 (svN (va_up sc 0 0) ar)) 19 (ar 17)) ar = fKeep (va_up sc 0 0) ar := by
      refine bk_ar (fun i q1 q2 q3 q4 q5 q6 q7 q8 => ?_)
      rw [har i q1 q2 q3 q4 q5 q6]
      unfold fKeep
      rw [up_n _ _ q8, up_n _ _ q7]
    refine x_sx C b_Mo_best_86_87 hl (L' := [(0, .ref (ad 20)), (1, .int b), (2, .int f), (3, .int (nI 4))]) (st' := [.ref (ad 20)]) rfl (fun ls hl => ?_)
    refine x_mw0 (x_cV C hH.1 mW_o rfl (c_Mo_putBack l G A ad w0 sck ark (va_up sc 0 0) ar h8 hz) t_866 t_14 t_863 t_865 ts_25 hd_Mo_putBack blind_Pre (pre_mt C hH hA trivial) (As := []) (rest := []) rfl hl.1 rfl rfl rfl ⟨Nat.le_of_ble_eq_true rfl, Nat.le_of_ble_eq_true rfl⟩ (Nat.le_of_ble_eq_true rfl) ⟨Nat.zero_le _, Nat.zero_le _⟩ d_Mo_best_87) hH.2.2 (fun H locs hH => ?_)
    refine x_sx C b_Mo_best_90_91 hl (L' := [(0, .ref (ad 20)), (1, .int b), (2, .int f), (3, .int (nI 4))]) (st' := [.int b]) rfl (fun ls hl => ?_)
    have hX : Wd G A (mW G ad w0 (va_up sc 0 0) (fKeep (va_up sc 0 0) ar)) H := by rw [← hB2]; exact ⟨by rw [← hB1]; exact hH.1, by rw [← hB1]; exact hH.2.1⟩
    exact x_irt C hr hH.2.2 ⟨by rw [hbk], hX.1, hX.2⟩ (Nat.le_refl _) (Nat.le_refl _) d_Mo_best_91
  · have hk : k < 4 := by rw [show (4 : Int32) = nI 4 from rfl, nI_leI (by omega) (by omega)] at hb; omega
    obtain ⟨z, hz6, ez, hcn, htn⟩ := p8 k hk
    have g1 : sck 1 = nI n := (heq.1 1 (by decide) (by decide)).trans p1
    have g6 : sck 6 = nI np := (heq.1 6 (by decide) (by decide)).trans p3
    have g8 : ark 8 = ar 8 := heq.2 8 (by decide) (by decide)
    have g9 : ark 9 = ar 9 := heq.2 9 (by decide) (by decide)
    have g10 : ark 10 = ar 10 := heq.2 10 (by decide) (by decide)
    refine x_sx C b_Mo_best_40_42 hl (L' := [(0, .ref (ad 20)), (1, .int b), (2, .int f), (3, .int (nI k))]) (st' := [.int (nI k), .ref (ad 20)]) rfl (fun ls hl => ?_)
    refine x_mw0 (x_cV C hH.1 mW_o rfl (c_Mo_goPlan l G A ad w0 sck ark n np k z K g1 p2 g6 p4 (p7 (sck, ark) heq) hk (by rw [g8]; exact ez) hz6 (by rw [g10]; exact hcn) (by rw [g9]; exact htn) p5 (p6 (sck, ark) heq)) t_862 t_14 t_859 t_861 ts_24 hd_Mo_goPlan blind_Pre (pre_mt C hH hA trivial) (As := [.int (nI k)]) (rest := []) rfl hl.1 rfl rfl rfl ⟨Nat.le_of_ble_eq_true rfl, Nat.le_of_ble_eq_true rfl⟩ (Nat.le_of_ble_eq_true rfl) ⟨Nat.zero_le _, Nat.zero_le _⟩ d_Mo_best_42) hH.2.2 (fun H locs hH => ?_)
    generalize hpl : fPlan (sck, ark) k = stp at hH hsb
    obtain ⟨scp, arp⟩ := stp
    dsimp only at hH hsb
    refine x_sx C b_Mo_best_45_46 hl (L' := [(0, .ref (ad 20)), (1, .int b), (2, .int f), (3, .int (nI k))]) (st' := [.ref (ad 20)]) rfl (fun ls hl => ?_)
    refine x_get C hH.1 1000 mW_o 25 (v := .int (scp 8)) rfl rfl (by decide) t_667 (fun _ z => z) d_Mo_best_46 ?_
    refine lv_if_ne (tgt := 80) C.1 C.2.1 d_Mo_best_49 (by decide) (fun q8 => ?_) (fun q8 => ?_)
    · have hnx : bsI (va_up sc 0 0, fKeep (va_up sc 0 0) ar) (k + 1) = ((scp, arp), b, f) := by rw [hsb, if_neg (show ¬ bsOk (scp, arp) b f from (fun y => q8 y.1)), if_neg (show ¬ bsOk (scp, arp) b f from (fun y => q8 y.1))]
      refine x_sx C b_Mo_best_80_83 hl (L' := [(3, .int ((nI k) + 1)), (0, .ref (ad 20)), (1, .int b), (2, .int f)]) (st' := []) rfl (fun ls hl => ?_)
      refine x_goto (tgt := 35) C d_Mo_best_83 (by decide) ?_
      exact IH (k + 1) _ _ _ (by omega) ⟨by omega, by rw [hnx]; exact hH⟩ (by rw [hnx, ← nI_1]; exact (lv_sub hl [1, 2, 3, 0] rfl))
    · refine x_sx C b_Mo_best_52_53 hl (L' := [(0, .ref (ad 20)), (1, .int b), (2, .int f), (3, .int (nI k))]) (st' := [.ref (ad 20)]) rfl (fun ls hl => ?_)
      refine x_get C hH.1 1000 mW_o 26 (v := .int (scp 9)) rfl rfl (by decide) t_668 (fun _ z => z) d_Mo_best_53 ?_
      refine x_sx C b_Mo_best_56_57 hl (L' := [(0, .ref (ad 20)), (1, .int b), (2, .int f), (3, .int (nI k))]) (st' := [.int (-1), .int (scp 9)]) rfl (fun ls hl => ?_)
      refine lv_icmp_ne (tgt := 80) C.1 C.2.1 d_Mo_best_57 (by decide) (fun q9 => ?_) (fun q9 => ?_)
      · have hnx : bsI (va_up sc 0 0, fKeep (va_up sc 0 0) ar) (k + 1) = ((scp, arp), b, f) := by rw [hsb, if_neg (show ¬ bsOk (scp, arp) b f from (fun y => q9 y.2.1)), if_neg (show ¬ bsOk (scp, arp) b f from (fun y => q9 y.2.1))]
        refine x_sx C b_Mo_best_80_83 hl (L' := [(3, .int ((nI k) + 1)), (0, .ref (ad 20)), (1, .int b), (2, .int f)]) (st' := []) rfl (fun ls hl => ?_)
        refine x_goto (tgt := 35) C d_Mo_best_83 (by decide) ?_
        exact IH (k + 1) _ _ _ (by omega) ⟨by omega, by rw [hnx]; exact hH⟩ (by rw [hnx, ← nI_1]; exact (lv_sub hl [1, 2, 3, 0] rfl))
      · refine x_sx C b_Mo_best_60_62 hl (L' := [(0, .ref (ad 20)), (1, .int b), (2, .int f), (3, .int (nI k))]) (st' := [.int (-1), .int b]) rfl (fun ls hl => ?_)
        refine lv_icmp_eq (tgt := 73) C.1 C.2.1 d_Mo_best_62 (by decide) (fun qb => ?_) (fun qb => ?_)
        · have hnx : bsI (va_up sc 0 0, fKeep (va_up sc 0 0) ar) (k + 1) = ((scp, arp), nI k, scp 12) := by rw [hsb, if_pos (show bsOk (scp, arp) b f from ⟨q8, q9, Or.inl qb⟩), if_pos (show bsOk (scp, arp) b f from ⟨q8, q9, Or.inl qb⟩)]
          refine x_sx C b_Mo_best_73_76 hl (L' := [(1, .int (nI k)), (0, .ref (ad 20)), (2, .int f), (3, .int (nI k))]) (st' := [.ref (ad 20)]) rfl (fun ls hl => ?_)
          refine x_get C hH.1 1000 mW_o 29 (v := .int (scp 12)) rfl rfl (by decide) t_671 (fun _ z => z) d_Mo_best_76 ?_
          refine x_sx C b_Mo_best_79_80 hl (L' := [(2, .int (scp 12)), (1, .int (nI k)), (0, .ref (ad 20)), (3, .int (nI k))]) (st' := []) rfl (fun ls hl => ?_)
          refine x_sx C b_Mo_best_80_83 hl (L' := [(3, .int ((nI k) + 1)), (2, .int (scp 12)), (1, .int (nI k)), (0, .ref (ad 20))]) (st' := []) rfl (fun ls hl => ?_)
          refine x_goto (tgt := 35) C d_Mo_best_83 (by decide) ?_
          exact IH (k + 1) _ _ _ (by omega) ⟨by omega, by rw [hnx]; exact hH⟩ (by rw [hnx, ← nI_1]; exact (lv_sub hl [3, 2, 1, 0] rfl))
        · refine x_sx C b_Mo_best_65_66 hl (L' := [(0, .ref (ad 20)), (1, .int b), (2, .int f), (3, .int (nI k))]) (st' := [.ref (ad 20)]) rfl (fun ls hl => ?_)
          refine x_get C hH.1 1000 mW_o 29 (v := .int (scp 12)) rfl rfl (by decide) t_671 (fun _ z => z) d_Mo_best_66 ?_
          refine x_sx C b_Mo_best_69_70 hl (L' := [(0, .ref (ad 20)), (1, .int b), (2, .int f), (3, .int (nI k))]) (st' := [.int f, .int (scp 12)]) rfl (fun ls hl => ?_)
          refine lv_icmp_ge (tgt := 80) C.1 C.2.1 d_Mo_best_70 (by decide) (fun qc => ?_) (fun qc => ?_)
          · have hnx : bsI (va_up sc 0 0, fKeep (va_up sc 0 0) ar) (k + 1) = ((scp, arp), b, f) := by rw [hsb, if_neg (show ¬ bsOk (scp, arp) b f from (fun y => y.2.2.elim qb (fun x => absurd qc (Int32.not_le.mpr x)))), if_neg (show ¬ bsOk (scp, arp) b f from (fun y => y.2.2.elim qb (fun x => absurd qc (Int32.not_le.mpr x))))]
            refine x_sx C b_Mo_best_80_83 hl (L' := [(3, .int ((nI k) + 1)), (0, .ref (ad 20)), (1, .int b), (2, .int f)]) (st' := []) rfl (fun ls hl => ?_)
            refine x_goto (tgt := 35) C d_Mo_best_83 (by decide) ?_
            exact IH (k + 1) _ _ _ (by omega) ⟨by omega, by rw [hnx]; exact hH⟩ (by rw [hnx, ← nI_1]; exact (lv_sub hl [1, 2, 3, 0] rfl))
          · have hnx : bsI (va_up sc 0 0, fKeep (va_up sc 0 0) ar) (k + 1) = ((scp, arp), nI k, scp 12) := by rw [hsb, if_pos (show bsOk (scp, arp) b f from ⟨q8, q9, Or.inr (Int32.not_le.mp qc)⟩), if_pos (show bsOk (scp, arp) b f from ⟨q8, q9, Or.inr (Int32.not_le.mp qc)⟩)]
            refine x_sx C b_Mo_best_73_76 hl (L' := [(1, .int (nI k)), (0, .ref (ad 20)), (2, .int f), (3, .int (nI k))]) (st' := [.ref (ad 20)]) rfl (fun ls hl => ?_)
            refine x_get C hH.1 1000 mW_o 29 (v := .int (scp 12)) rfl rfl (by decide) t_671 (fun _ z => z) d_Mo_best_76 ?_
            refine x_sx C b_Mo_best_79_80 hl (L' := [(2, .int (scp 12)), (1, .int (nI k)), (0, .ref (ad 20)), (3, .int (nI k))]) (st' := []) rfl (fun ls hl => ?_)
            refine x_sx C b_Mo_best_80_83 hl (L' := [(3, .int ((nI k) + 1)), (2, .int (scp 12)), (1, .int (nI k)), (0, .ref (ad 20))]) (st' := []) rfl (fun ls hl => ?_)
            refine x_goto (tgt := 35) C d_Mo_best_83 (by decide) ?_
            exact IH (k + 1) _ _ _ (by omega) ⟨by omega, by rw [hnx]; exact hH⟩ (by rw [hnx, ← nI_1]; exact (lv_sub hl [3, 2, 1, 0] rfl))
theorem hd_Mo_best : hdP y_Mo_best 0 := ⟨by decide +kernel, by decide +kernel, by decide +kernel⟩
theorem b_Mo_sweeps_0_4 : decs prog_7_method_34_code [(.aload_n 0, 1), (.iload_n 1, 1), (.iconst 0, 1), (.iconst 3, 1)] 0 4 = true := by decide +kernel
theorem d_Mo_sweeps_4 : decode prog_7_method_34_code 4 = .ok (.invokestatic 152, 3) := by decide +kernel
theorem d_Mo_sweeps_7 : decode prog_7_method_34_code 7 = .ok (.ifCond .ne 7, 3) := by decide +kernel
theorem b_Mo_sweeps_10_11 : decs prog_7_method_34_code [(.iconst 1, 1)] 10 11 = true := by decide +kernel
theorem d_Mo_sweeps_11 : decode prog_7_method_34_code 11 = .ok (.goto 15, 3) := by decide +kernel
theorem d_Mo_sweeps_26 : decode prog_7_method_34_code 26 = .ok (.putfield 87, 3) := by decide +kernel
theorem b_Mo_sweeps_29_30 : decs prog_7_method_34_code [(.aload_n 0, 1)] 29 30 = true := by decide +kernel
theorem d_Mo_sweeps_30 : decode prog_7_method_34_code 30 = .ok (.getfield 87, 3) := by decide +kernel
theorem d_Mo_sweeps_33 : decode prog_7_method_34_code 33 = .ok (.ifCond .le 5, 3) := by decide +kernel
theorem b_Mo_sweeps_36_37 : decs prog_7_method_34_code [(.iconst 0, 1)] 36 37 = true := by decide +kernel
theorem d_Mo_sweeps_37 : decode prog_7_method_34_code 37 = .ok (.ireturn, 1) := by decide +kernel
set_option maxRecDepth 100000 in
set_option maxHeartbeats 4000000 in
theorem c_Mo_sweeps_1 (l : Launch) (G : GG) (A : Nat → Prop) (ad : Nat → Nat) (w0 : WF) (sc : Nat → Int32) (ar : Nat → Nat → Int32) (a1 : Int32) (hv : ¬ ((p_in a1 0 3) = 1)) : Met l y_Mo_sweeps (Cond.code y_Mo_sweeps prog_7_method_34_code 3 (some FieldType.int) :: wt) { frames := 7, cells := 0, slots := 0, locals := 179 } (Pre G A (mW G ad w0 sc ar) (fun _ => True) [.ref (ad 20), .int a1]) (Qw A (some (.int 0)) G (mW G ad w0 (va_up sc 0 1) ar)) 0 0 A := by
  refine mt_of (by decide) (Nat.le_of_ble_eq_true rfl) ?_
  intro p e s m below meth c ls C hH hA hE hr hmn hl
  have hl : lv_has ls 3 [(0, .ref (ad 20)), (1, .int a1)] := hl
  refine x_sx C b_Mo_sweeps_0_4 hl (L' := [(0, .ref (ad 20)), (1, .int a1)]) (st' := [.int 3, .int 0, .int a1, .ref (ad 20)]) rfl (fun ls hl => ?_)
  refine x_ro (x_cS C (c_Mo_in l G _ a1 0 3) t_753 t_14 t_751 t_752 hd_Mo_in blind_Pro (pre_ro C hH.1 hH.2.2) (As := [.int a1, .int 0, .int 3]) (rest := [.ref (ad 20)]) rfl hl.1 rfl rfl rfl ⟨Nat.le_of_ble_eq_true rfl, Nat.le_of_ble_eq_true rfl⟩ (Nat.le_of_ble_eq_true rfl) ⟨Nat.zero_le _, Nat.zero_le _⟩ d_Mo_sweeps_4) ?_
  refine lv_if_ne (tgt := 14) C.1 C.2.1 d_Mo_sweeps_7 (by decide) (fun v0 => ?_) (fun v0 => ?_)
  · exact absurd (p_in1 v0) hv
  · refine x_sx C b_Mo_sweeps_10_11 hl (L' := [(0, .ref (ad 20)), (1, .int a1)]) (st' := [.int 1, .ref (ad 20)]) rfl (fun ls hl => ?_)
    refine x_goto (tgt := 26) C d_Mo_sweeps_11 (by decide) ?_
    refine m_put C hH 0 0 rfl (by decide) t_642 rfl rfl rfl rfl d_Mo_sweeps_26 (fun H locs hH => ?_)
    refine x_sx C b_Mo_sweeps_29_30 hl (L' := [(0, .ref (ad 20)), (1, .int a1)]) (st' := [.ref (ad 20)]) rfl (fun ls hl => ?_)
    refine x_get C hH.1 1000 mW_o 0 (v := .int 1) rfl rfl (by decide) t_642 (fun _ z => z) d_Mo_sweeps_30 ?_
    refine lv_if_le (tgt := 38) C.1 C.2.1 d_Mo_sweeps_33 (by decide) (fun h => absurd h (by decide)) (fun _ => ?_)
    refine x_sx C b_Mo_sweeps_36_37 hl (L' := [(0, .ref (ad 20)), (1, .int a1)]) (st' := [.int 0]) rfl (fun ls hl => ?_)
    exact x_irt C hr hH.2.2 ⟨rfl, hH.1, hH.2.1⟩ (Nat.le_refl _) (Nat.le_refl _) d_Mo_sweeps_37
theorem b_Mo_sweeps_14_15 : decs prog_7_method_34_code [(.aload_n 0, 1)] 14 15 = true := by decide +kernel
theorem d_Mo_sweeps_15 : decode prog_7_method_34_code 15 = .ok (.getfield 84, 3) := by decide +kernel
theorem d_Mo_sweeps_18 : decode prog_7_method_34_code 18 = .ok (.ifCond .ne 7, 3) := by decide +kernel
theorem b_Mo_sweeps_21_22 : decs prog_7_method_34_code [(.iconst 2, 1)] 21 22 = true := by decide +kernel
theorem d_Mo_sweeps_22 : decode prog_7_method_34_code 22 = .ok (.goto 4, 3) := by decide +kernel
set_option maxRecDepth 100000 in
set_option maxHeartbeats 4000000 in
theorem c_Mo_sweeps_2 (l : Launch) (G : GG) (A : Nat → Prop) (ad : Nat → Nat) (w0 : WF) (sc : Nat → Int32) (ar : Nat → Nat → Int32) (a1 : Int32) (hv : (p_in a1 0 3) = 1) (h1 : sc 1 = 0) : Met l y_Mo_sweeps (Cond.code y_Mo_sweeps prog_7_method_34_code 3 (some FieldType.int) :: wt) { frames := 7, cells := 0, slots := 0, locals := 179 } (Pre G A (mW G ad w0 sc ar) (fun _ => True) [.ref (ad 20), .int a1]) (Qw A (some (.int 0)) G (mW G ad w0 (va_up sc 0 2) ar)) 0 0 A := by
  refine mt_of (by decide) (Nat.le_of_ble_eq_true rfl) ?_
  intro p e s m below meth c ls C hH hA hE hr hmn hl
  have hl : lv_has ls 3 [(0, .ref (ad 20)), (1, .int a1)] := hl
  refine x_sx C b_Mo_sweeps_0_4 hl (L' := [(0, .ref (ad 20)), (1, .int a1)]) (st' := [.int 3, .int 0, .int a1, .ref (ad 20)]) rfl (fun ls hl => ?_)
  refine x_ro (x_cS C (c_Mo_in l G _ a1 0 3) t_753 t_14 t_751 t_752 hd_Mo_in blind_Pro (pre_ro C hH.1 hH.2.2) (As := [.int a1, .int 0, .int 3]) (rest := [.ref (ad 20)]) rfl hl.1 rfl rfl rfl ⟨Nat.le_of_ble_eq_true rfl, Nat.le_of_ble_eq_true rfl⟩ (Nat.le_of_ble_eq_true rfl) ⟨Nat.zero_le _, Nat.zero_le _⟩ d_Mo_sweeps_4) ?_
  refine lv_if_ne (tgt := 14) C.1 C.2.1 d_Mo_sweeps_7 (by decide) (fun _ => ?_) (fun h => absurd h (by rw [hv]; first | done | decide))
  refine x_sx C b_Mo_sweeps_14_15 hl (L' := [(0, .ref (ad 20)), (1, .int a1)]) (st' := [.ref (ad 20), .ref (ad 20)]) rfl (fun ls hl => ?_)
  refine x_get C hH.1 1000 mW_o 2 (v := .int (sc 1)) rfl rfl (by decide) t_644 (fun _ z => z) d_Mo_sweeps_15 ?_
  refine lv_if_ne (tgt := 25) C.1 C.2.1 d_Mo_sweeps_18 (by decide) (fun h => absurd (by rw [h1]; first | done | decide) h) (fun _ => ?_)
  refine x_sx C b_Mo_sweeps_21_22 hl (L' := [(0, .ref (ad 20)), (1, .int a1)]) (st' := [.int 2, .ref (ad 20)]) rfl (fun ls hl => ?_)
  refine x_goto (tgt := 26) C d_Mo_sweeps_22 (by decide) ?_
  refine m_put C hH 0 0 rfl (by decide) t_642 rfl rfl rfl rfl d_Mo_sweeps_26 (fun H locs hH => ?_)
  refine x_sx C b_Mo_sweeps_29_30 hl (L' := [(0, .ref (ad 20)), (1, .int a1)]) (st' := [.ref (ad 20)]) rfl (fun ls hl => ?_)
  refine x_get C hH.1 1000 mW_o 0 (v := .int 2) rfl rfl (by decide) t_642 (fun _ z => z) d_Mo_sweeps_30 ?_
  refine lv_if_le (tgt := 38) C.1 C.2.1 d_Mo_sweeps_33 (by decide) (fun h => absurd h (by decide)) (fun _ => ?_)
  refine x_sx C b_Mo_sweeps_36_37 hl (L' := [(0, .ref (ad 20)), (1, .int a1)]) (st' := [.int 0]) rfl (fun ls hl => ?_)
  exact x_irt C hr hH.2.2 ⟨rfl, hH.1, hH.2.1⟩ (Nat.le_refl _) (Nat.le_refl _) d_Mo_sweeps_37
theorem b_Mo_sweeps_25_26 : decs prog_7_method_34_code [(.iconst 0, 1)] 25 26 = true := by decide +kernel
theorem b_Mo_sweeps_38_39 : decs prog_7_method_34_code [(.aload_n 0, 1)] 38 39 = true := by decide +kernel
theorem d_Mo_sweeps_39 : decode prog_7_method_34_code 39 = .ok (.invokevirtual 162, 3) := by decide +kernel
theorem b_Mo_sweeps_42_44 : decs prog_7_method_34_code [(.aload_n 0, 1), (.iload_n 1, 1)] 42 44 = true := by decide +kernel
theorem d_Mo_sweeps_44 : decode prog_7_method_34_code 44 = .ok (.invokevirtual 165, 3) := by decide +kernel
theorem b_Mo_sweeps_47_48 : decs prog_7_method_34_code [(.aload_n 0, 1)] 47 48 = true := by decide +kernel
theorem d_Mo_sweeps_48 : decode prog_7_method_34_code 48 = .ok (.getfield 116, 3) := by decide +kernel
theorem b_Mo_sweeps_51_53 : decs prog_7_method_34_code [(.istore_n 2, 1), (.aload_n 0, 1)] 51 53 = true := by decide +kernel
theorem d_Mo_sweeps_53 : decode prog_7_method_34_code 53 = .ok (.invokevirtual 168, 3) := by decide +kernel
theorem b_Mo_sweeps_56_57 : decs prog_7_method_34_code [(.iload_n 2, 1)] 56 57 = true := by decide +kernel
theorem d_Mo_sweeps_57 : decode prog_7_method_34_code 57 = .ok (.ireturn, 1) := by decide +kernel
set_option maxRecDepth 100000 in
set_option maxHeartbeats 4000000 in
theorem c_Mo_sweeps (l : Launch) (G : GG) (A : Nat → Prop) (ad : Nat → Nat) (w0 : WF) (sc : Nat → Int32) (ar : Nat → Nat → Int32) (n np k : Nat) (K : SA → Prop) (hv : (p_in (nI k) 0 3) = 1) (hk : k < 4) (h1 : sc 1 = nI n) (hn0 : 0 < n) (hn3 : n ≤ 3) (hz : Z01 (ar 17)) (h8 : sc 8 = 0 ∨ sc 8 = 1) (h12 : sc 12 = nI (cnt (ar 17))) (hP : PlH n np K (va_up sc 0 0, fKeep (va_up sc 0 0) ar)) : Met l y_Mo_sweeps (Cond.code y_Mo_sweeps prog_7_method_34_code 3 (some FieldType.int) :: wt) { frames := 7, cells := 0, slots := 0, locals := 179 } (Pre G A (mW G ad w0 sc ar) (fun _ => True) [.ref (ad 20), .int (nI k)]) (Qw A (some (.int ((fPlan (va_up sc 0 0, fKeep (va_up sc 0 0) ar) k).1 12))) G (mW G ad w0 (va_up sc 0 0) (fKeep (va_up sc 0 0) ar))) 0 0 A := by
  refine mt_of (by decide) (Nat.le_of_ble_eq_true rfl) ?_
  intro p e s m below meth c ls C hH hA hE hr hmn hl
  have hl : lv_has ls 3 [(0, .ref (ad 20)), (1, .int (nI k))] := hl
  have hne : ¬ sc 1 = 0 := by rw [h1]; exact nI_ne0 hn0 (by omega)
  obtain ⟨p1, p2, p3, p4, p5, p6, p7, p8⟩ := hP
  obtain ⟨z, hz6, ez, hcn, htn⟩ := p8 k hk
  refine x_sx C b_Mo_sweeps_0_4 hl (L' := [(0, .ref (ad 20)), (1, .int (nI k))]) (st' := [.int 3, .int 0, .int (nI k), .ref (ad 20)]) rfl (fun ls hl => ?_)
  refine x_ro (x_cS C (c_Mo_in l G _ (nI k) 0 3) t_753 t_14 t_751 t_752 hd_Mo_in blind_Pro (pre_ro C hH.1 hH.2.2) (As := [.int (nI k), .int 0, .int 3]) (rest := [.ref (ad 20)]) rfl hl.1 rfl rfl rfl ⟨Nat.le_of_ble_eq_true rfl, Nat.le_of_ble_eq_true rfl⟩ (Nat.le_of_ble_eq_true rfl) ⟨Nat.zero_le _, Nat.zero_le _⟩ d_Mo_sweeps_4) ?_
  refine lv_if_ne (tgt := 14) C.1 C.2.1 d_Mo_sweeps_7 (by decide) (fun _ => ?_) (fun h => absurd h (by rw [hv]; first | done | decide))
  refine x_sx C b_Mo_sweeps_14_15 hl (L' := [(0, .ref (ad 20)), (1, .int (nI k))]) (st' := [.ref (ad 20), .ref (ad 20)]) rfl (fun ls hl => ?_)
  refine x_get C hH.1 1000 mW_o 2 (v := .int (sc 1)) rfl rfl (by decide) t_644 (fun _ z => z) d_Mo_sweeps_15 ?_
  refine lv_if_ne (tgt := 25) C.1 C.2.1 d_Mo_sweeps_18 (by decide) (fun _ => ?_) (fun h => absurd h hne)
  refine x_sx C b_Mo_sweeps_25_26 hl (L' := [(0, .ref (ad 20)), (1, .int (nI k))]) (st' := [.int 0, .ref (ad 20)]) rfl (fun ls hl => ?_)
  refine m_put C hH 0 0 rfl (by decide) t_642 rfl rfl rfl rfl d_Mo_sweeps_26 (fun H locs hH => ?_)
  refine x_sx C b_Mo_sweeps_29_30 hl (L' := [(0, .ref (ad 20)), (1, .int (nI k))]) (st' := [.ref (ad 20)]) rfl (fun ls hl => ?_)
  refine x_get C hH.1 1000 mW_o 0 (v := .int 0) rfl rfl (by decide) t_642 (fun _ z => z) d_Mo_sweeps_30 ?_
  refine lv_if_le (tgt := 38) C.1 C.2.1 d_Mo_sweeps_33 (by decide) (fun _ => ?_) (fun h => absurd (by decide) h)
  refine x_sx C b_Mo_sweeps_38_39 hl (L' := [(0, .ref (ad 20)), (1, .int (nI k))]) (st' := [.ref (ad 20)]) rfl (fun ls hl => ?_)
  refine x_mw0 (x_cV C hH.1 mW_o rfl (c_Mo_keepAside l G A ad w0 (va_up sc 0 0) ar hz) t_858 t_14 t_855 t_857 ts_23 hd_Mo_keepAside blind_Pre (pre_mt C hH hA trivial) (As := []) (rest := []) rfl hl.1 rfl rfl rfl ⟨Nat.le_of_ble_eq_true rfl, Nat.le_of_ble_eq_true rfl⟩ (Nat.le_of_ble_eq_true rfl) ⟨Nat.zero_le _, Nat.zero_le _⟩ d_Mo_sweeps_39) hH.2.2 (fun H locs hH => ?_)
  refine x_sx C b_Mo_sweeps_42_44 hl (L' := [(0, .ref (ad 20)), (1, .int (nI k))]) (st' := [.int (nI k), .ref (ad 20)]) rfl (fun ls hl => ?_)
  refine x_mw0 (x_cV C hH.1 mW_o rfl (c_Mo_goPlan l G A ad w0 (va_up sc 0 0) (fKeep (va_up sc 0 0) ar) n np k z K p1 p2 p3 p4 (p7 (va_up sc 0 0, fKeep (va_up sc 0 0) ar) (eqB.rf _)) hk ez hz6 hcn htn p5 (p6 (va_up sc 0 0, fKeep (va_up sc 0 0) ar) (eqB.rf _))) t_862 t_14 t_859 t_861 ts_24 hd_Mo_goPlan blind_Pre (pre_mt C hH hA trivial) (As := [.int (nI k)]) (rest := []) rfl hl.1 rfl rfl rfl ⟨Nat.le_of_ble_eq_true rfl, Nat.le_of_ble_eq_true rfl⟩ (Nat.le_of_ble_eq_true rfl) ⟨Nat.zero_le _, Nat.zero_le _⟩ d_Mo_sweeps_44) hH.2.2 (fun H locs hH => ?_)
  have hsc : ∀ j, j ≠ 7 → j ≠ 8 → j ≠ 9 → j ≠ 10 → j ≠ 11 → j ≠ 12 → (fPlan (va_up sc 0 0, fKeep (va_up sc 0 0) ar) k).1 j = (va_up sc 0 0) j := fun j q1 q2 q3 q4 q5 q6 => plI_sc _ _ _ q1 q2 q3 q4 q5 q6
  have har : ∀ i, i ≠ 12 → i ≠ 13 → i ≠ 14 → i ≠ 15 → i ≠ 16 → i ≠ 17 → (fPlan (va_up sc 0 0, fKeep (va_up sc 0 0) ar) k).2 i = fKeep (va_up sc 0 0) ar i := fun j q1 q2 q3 q4 q5 q6 => plI_ar _ _ _ q1 q2 q3 q4 q5 q6
  generalize hpl : fPlan (va_up sc 0 0, fKeep (va_up sc 0 0) ar) k = stp at hH hsc har
  obtain ⟨scp, arp⟩ := stp
  dsimp only at hH hsc har
  have hw : (va_up (va_up arp 18 (svN (va_up sc 0 0) ar)) 19 (ar 17)) = arp := by
    rw [up_id arp 18 (svN (va_up sc 0 0) ar) (har 18 (by decide) (by decide) (by decide) (by decide) (by decide) (by decide)), up_id arp 19 (ar 17) (har 19 (by decide) (by decide) (by decide) (by decide) (by decide) (by decide))]
  have hH : Hw G A s (mW G ad w0 scp (va_up (va_up arp 18 (svN (va_up sc 0 0) ar)) 19 (ar 17))) H locs := by rw [hw]; exact hH
  have hB1 : bkS scp (va_up sc 0 0) ar = (va_up sc 0 0) := bk_sc hsc h12
  have hB2 : bkA (va_up (va_up arp 18 (svN (va_up sc 0 0) ar)) 19 (ar 17)) ar = fKeep (va_up sc 0 0) ar := by
    refine bk_ar (fun i q1 q2 q3 q4 q5 q6 q7 q8 => ?_)
    rw [har i q1 q2 q3 q4 q5 q6]
    unfold fKeep
    rw [up_n _ _ q8, up_n _ _ q7]
  refine x_sx C b_Mo_sweeps_47_48 hl (L' := [(0, .ref (ad 20)), (1, .int (nI k))]) (st' := [.ref (ad 20)]) rfl (fun ls hl => ?_)
  refine x_get C hH.1 1000 mW_o 29 (v := .int (scp 12)) rfl rfl (by decide) t_671 (fun _ z => z) d_Mo_sweeps_48 ?_
  refine x_sx C b_Mo_sweeps_51_53 hl (L' := [(2, .int (scp 12)), (0, .ref (ad 20)), (1, .int (nI k))]) (st' := [.ref (ad 20)]) rfl (fun ls hl => ?_)
  refine x_mw0 (x_cV C hH.1 mW_o rfl (c_Mo_putBack l G A ad w0 scp arp (va_up sc 0 0) ar h8 hz) t_866 t_14 t_863 t_865 ts_25 hd_Mo_putBack blind_Pre (pre_mt C hH hA trivial) (As := []) (rest := []) rfl hl.1 rfl rfl rfl ⟨Nat.le_of_ble_eq_true rfl, Nat.le_of_ble_eq_true rfl⟩ (Nat.le_of_ble_eq_true rfl) ⟨Nat.zero_le _, Nat.zero_le _⟩ d_Mo_sweeps_53) hH.2.2 (fun H locs hH => ?_)
  refine x_sx C b_Mo_sweeps_56_57 hl (L' := [(2, .int (scp 12)), (0, .ref (ad 20)), (1, .int (nI k))]) (st' := [.int (scp 12)]) rfl (fun ls hl => ?_)
  have hX : Wd G A (mW G ad w0 (va_up sc 0 0) (fKeep (va_up sc 0 0) ar)) H := by rw [← hB2]; exact ⟨by rw [← hB1]; exact hH.1, by rw [← hB1]; exact hH.2.1⟩
  exact x_irt C hr hH.2.2 ⟨rfl, hX.1, hX.2⟩ (Nat.le_refl _) (Nat.le_refl _) d_Mo_sweeps_57
theorem hd_Mo_sweeps : hdP y_Mo_sweeps 1 := ⟨by decide +kernel, by decide +kernel, by decide +kernel⟩
