theorem p_in1 {v a b : Int32} (h : ¬ p_in v a b = 0) : p_in v a b = 1 := by
  unfold p_in at h ⊢
  split
  · rfl
  · rename_i q; rw [if_neg q] at h; exact absurd rfl h
theorem p_inE {v a b : Int32} : p_in v a b = 1 ↔ a ≤ v ∧ v ≤ b := by
  unfold p_in
  split
  · rename_i q; exact ⟨fun _ => q, fun _ => rfl⟩
  · rename_i q; exact ⟨fun z => absurd z (by decide), fun z => absurd z q⟩
theorem b_Mo_body_0_5 : decs prog_7_method_17_code [(.iload_n 1, 1), (.iconst 1, 1), (.sipush 200, 3)] 0 5 = true := by decide +kernel
theorem d_Mo_body_5 : decode prog_7_method_17_code 5 = .ok (.invokestatic 152, 3) := by decide +kernel
theorem d_Mo_body_8 : decode prog_7_method_17_code 8 = .ok (.ifCond .eq 50, 3) := by decide +kernel
theorem b_Mo_body_58_64 : decs prog_7_method_17_code [(.iconst 0, 1), (.istore 6, 2), (.aload_n 0, 1), (.iload 6, 2)] 58 64 = true := by decide +kernel
theorem d_Mo_body_64 : decode prog_7_method_17_code 64 = .ok (.ifCond .ne 7, 3) := by decide +kernel
theorem b_Mo_body_67_68 : decs prog_7_method_17_code [(.iconst 1, 1)] 67 68 = true := by decide +kernel
theorem d_Mo_body_68 : decode prog_7_method_17_code 68 = .ok (.goto 16, 3) := by decide +kernel
theorem d_Mo_body_84 : decode prog_7_method_17_code 84 = .ok (.putfield 87, 3) := by decide +kernel
theorem b_Mo_body_87_88 : decs prog_7_method_17_code [(.aload_n 0, 1)] 87 88 = true := by decide +kernel
theorem d_Mo_body_88 : decode prog_7_method_17_code 88 = .ok (.getfield 87, 3) := by decide +kernel
theorem d_Mo_body_91 : decode prog_7_method_17_code 91 = .ok (.ifCond .le 5, 3) := by decide +kernel
theorem b_Mo_body_94_95 : decs prog_7_method_17_code [(.iconst 0, 1)] 94 95 = true := by decide +kernel
theorem d_Mo_body_95 : decode prog_7_method_17_code 95 = .ok (.ireturn, 1) := by decide +kernel
theorem b_Mo_body_11_16 : decs prog_7_method_17_code [(.iload_n 2, 1), (.iconst 0, 1), (.sipush 200, 3)] 11 16 = true := by decide +kernel
theorem d_Mo_body_16 : decode prog_7_method_17_code 16 = .ok (.invokestatic 152, 3) := by decide +kernel
theorem d_Mo_body_19 : decode prog_7_method_17_code 19 = .ok (.ifCond .eq 39, 3) := by decide +kernel
theorem b_Mo_body_22_26 : decs prog_7_method_17_code [(.iload_n 3, 1), (.iconst 0, 1), (.bipush 60, 2)] 22 26 = true := by decide +kernel
theorem d_Mo_body_26 : decode prog_7_method_17_code 26 = .ok (.invokestatic 152, 3) := by decide +kernel
theorem d_Mo_body_29 : decode prog_7_method_17_code 29 = .ok (.ifCond .eq 29, 3) := by decide +kernel
theorem b_Mo_body_32_37 : decs prog_7_method_17_code [(.iload 4, 2), (.iconst 0, 1), (.bipush 60, 2)] 32 37 = true := by decide +kernel
theorem d_Mo_body_37 : decode prog_7_method_17_code 37 = .ok (.invokestatic 152, 3) := by decide +kernel
theorem d_Mo_body_40 : decode prog_7_method_17_code 40 = .ok (.ifCond .eq 18, 3) := by decide +kernel
theorem b_Mo_body_43_48 : decs prog_7_method_17_code [(.iload 5, 2), (.iconst 1, 1), (.bipush 20, 2)] 43 48 = true := by decide +kernel
theorem d_Mo_body_48 : decode prog_7_method_17_code 48 = .ok (.invokestatic 152, 3) := by decide +kernel
theorem d_Mo_body_51 : decode prog_7_method_17_code 51 = .ok (.ifCond .eq 7, 3) := by decide +kernel
set_option maxRecDepth 100000 in
set_option maxHeartbeats 4000000 in
theorem c_Mo_body_1 (l : Launch) (G : GG) (A : Nat → Prop) (ad : Nat → Nat) (w0 : WF) (sc : Nat → Int32) (ar : Nat → Nat → Int32) (a1 a2 a3 a4 a5 : Int32) (hv : ¬ ((p_in a1 1 200) = 1 ∧ (p_in a2 0 200) = 1 ∧ (p_in a3 0 60) = 1 ∧ (p_in a4 0 60) = 1 ∧ (p_in a5 1 20) = 1)) : Met l y_Mo_body (Cond.code y_Mo_body prog_7_method_17_code 7 (some FieldType.int) :: wt) { frames := 5, cells := 0, slots := 0, locals := 127 } (Pre G A (mW G ad w0 sc ar) (fun _ => True) [.ref (ad 20), .int a1, .int a2, .int a3, .int a4, .int a5]) (Qw A (some (.int 0)) G (mW G ad w0 (va_up sc 0 1) ar)) 0 0 A := by
  refine mt_of (by decide) (Nat.le_of_ble_eq_true rfl) ?_
  intro p e s m below meth c ls C hH hA hE hr hmn hl
  have hl : lv_has ls 7 [(0, .ref (ad 20)), (1, .int a1), (2, .int a2), (3, .int a3), (4, .int a4), (5, .int a5)] := hl
  refine x_sx C b_Mo_body_0_5 hl (L' := [(0, .ref (ad 20)), (1, .int a1), (2, .int a2), (3, .int a3), (4, .int a4), (5, .int a5)]) (st' := [.int 200, .int 1, .int a1]) rfl (fun ls hl => ?_)
  refine x_ro (x_cS C (c_Mo_in l G _ a1 1 200) t_753 t_14 t_751 t_752 hd_Mo_in blind_Pro (pre_ro C hH.1 hH.2.2) (As := [.int a1, .int 1, .int 200]) (rest := []) rfl hl.1 rfl rfl rfl ⟨Nat.le_of_ble_eq_true rfl, Nat.le_of_ble_eq_true rfl⟩ (Nat.le_of_ble_eq_true rfl) ⟨Nat.zero_le _, Nat.zero_le _⟩ d_Mo_body_5) ?_
  refine lv_if_eq (tgt := 58) C.1 C.2.1 d_Mo_body_8 (by decide) (fun v0 => ?_) (fun v0 => ?_)
  · refine x_sx C b_Mo_body_58_64 hl (L' := [(6, .int 0), (0, .ref (ad 20)), (1, .int a1), (2, .int a2), (3, .int a3), (4, .int a4), (5, .int a5)]) (st' := [.int 0, .ref (ad 20)]) rfl (fun ls hl => ?_)
    refine lv_if_ne (tgt := 71) C.1 C.2.1 d_Mo_body_64 (by decide) (fun h => absurd (by decide) h) (fun _ => ?_)
    refine x_sx C b_Mo_body_67_68 hl (L' := [(6, .int 0), (0, .ref (ad 20)), (1, .int a1), (2, .int a2), (3, .int a3), (4, .int a4), (5, .int a5)]) (st' := [.int 1, .ref (ad 20)]) rfl (fun ls hl => ?_)
    refine x_goto (tgt := 84) C d_Mo_body_68 (by decide) ?_
    refine m_put C hH 0 0 rfl (by decide) t_642 rfl rfl rfl rfl d_Mo_body_84 (fun H locs hH => ?_)
    refine x_sx C b_Mo_body_87_88 hl (L' := [(6, .int 0), (0, .ref (ad 20)), (1, .int a1), (2, .int a2), (3, .int a3), (4, .int a4), (5, .int a5)]) (st' := [.ref (ad 20)]) rfl (fun ls hl => ?_)
    refine x_get C hH.1 1000 mW_o 0 (v := .int 1) rfl rfl (by decide) t_642 (fun _ z => z) d_Mo_body_88 ?_
    refine lv_if_le (tgt := 96) C.1 C.2.1 d_Mo_body_91 (by decide) (fun h => absurd h (by decide)) (fun _ => ?_)
    refine x_sx C b_Mo_body_94_95 hl (L' := [(6, .int 0), (0, .ref (ad 20)), (1, .int a1), (2, .int a2), (3, .int a3), (4, .int a4), (5, .int a5)]) (st' := [.int 0]) rfl (fun ls hl => ?_)
    exact x_irt C hr hH.2.2 ⟨rfl, hH.1, hH.2.1⟩ (Nat.le_refl _) (Nat.le_refl _) d_Mo_body_95
  · refine x_sx C b_Mo_body_11_16 hl (L' := [(0, .ref (ad 20)), (1, .int a1), (2, .int a2), (3, .int a3), (4, .int a4), (5, .int a5)]) (st' := [.int 200, .int 0, .int a2]) rfl (fun ls hl => ?_)
    refine x_ro (x_cS C (c_Mo_in l G _ a2 0 200) t_753 t_14 t_751 t_752 hd_Mo_in blind_Pro (pre_ro C hH.1 hH.2.2) (As := [.int a2, .int 0, .int 200]) (rest := []) rfl hl.1 rfl rfl rfl ⟨Nat.le_of_ble_eq_true rfl, Nat.le_of_ble_eq_true rfl⟩ (Nat.le_of_ble_eq_true rfl) ⟨Nat.zero_le _, Nat.zero_le _⟩ d_Mo_body_16) ?_
    refine lv_if_eq (tgt := 58) C.1 C.2.1 d_Mo_body_19 (by decide) (fun v1 => ?_) (fun v1 => ?_)
    · refine x_sx C b_Mo_body_58_64 hl (L' := [(6, .int 0), (0, .ref (ad 20)), (1, .int a1), (2, .int a2), (3, .int a3), (4, .int a4), (5, .int a5)]) (st' := [.int 0, .ref (ad 20)]) rfl (fun ls hl => ?_)
      refine lv_if_ne (tgt := 71) C.1 C.2.1 d_Mo_body_64 (by decide) (fun h => absurd (by decide) h) (fun _ => ?_)
      refine x_sx C b_Mo_body_67_68 hl (L' := [(6, .int 0), (0, .ref (ad 20)), (1, .int a1), (2, .int a2), (3, .int a3), (4, .int a4), (5, .int a5)]) (st' := [.int 1, .ref (ad 20)]) rfl (fun ls hl => ?_)
      refine x_goto (tgt := 84) C d_Mo_body_68 (by decide) ?_
      refine m_put C hH 0 0 rfl (by decide) t_642 rfl rfl rfl rfl d_Mo_body_84 (fun H locs hH => ?_)
      refine x_sx C b_Mo_body_87_88 hl (L' := [(6, .int 0), (0, .ref (ad 20)), (1, .int a1), (2, .int a2), (3, .int a3), (4, .int a4), (5, .int a5)]) (st' := [.ref (ad 20)]) rfl (fun ls hl => ?_)
      refine x_get C hH.1 1000 mW_o 0 (v := .int 1) rfl rfl (by decide) t_642 (fun _ z => z) d_Mo_body_88 ?_
      refine lv_if_le (tgt := 96) C.1 C.2.1 d_Mo_body_91 (by decide) (fun h => absurd h (by decide)) (fun _ => ?_)
      refine x_sx C b_Mo_body_94_95 hl (L' := [(6, .int 0), (0, .ref (ad 20)), (1, .int a1), (2, .int a2), (3, .int a3), (4, .int a4), (5, .int a5)]) (st' := [.int 0]) rfl (fun ls hl => ?_)
      exact x_irt C hr hH.2.2 ⟨rfl, hH.1, hH.2.1⟩ (Nat.le_refl _) (Nat.le_refl _) d_Mo_body_95
    · refine x_sx C b_Mo_body_22_26 hl (L' := [(0, .ref (ad 20)), (1, .int a1), (2, .int a2), (3, .int a3), (4, .int a4), (5, .int a5)]) (st' := [.int 60, .int 0, .int a3]) rfl (fun ls hl => ?_)
      refine x_ro (x_cS C (c_Mo_in l G _ a3 0 60) t_753 t_14 t_751 t_752 hd_Mo_in blind_Pro (pre_ro C hH.1 hH.2.2) (As := [.int a3, .int 0, .int 60]) (rest := []) rfl hl.1 rfl rfl rfl ⟨Nat.le_of_ble_eq_true rfl, Nat.le_of_ble_eq_true rfl⟩ (Nat.le_of_ble_eq_true rfl) ⟨Nat.zero_le _, Nat.zero_le _⟩ d_Mo_body_26) ?_
      refine lv_if_eq (tgt := 58) C.1 C.2.1 d_Mo_body_29 (by decide) (fun v2 => ?_) (fun v2 => ?_)
      · refine x_sx C b_Mo_body_58_64 hl (L' := [(6, .int 0), (0, .ref (ad 20)), (1, .int a1), (2, .int a2), (3, .int a3), (4, .int a4), (5, .int a5)]) (st' := [.int 0, .ref (ad 20)]) rfl (fun ls hl => ?_)
        refine lv_if_ne (tgt := 71) C.1 C.2.1 d_Mo_body_64 (by decide) (fun h => absurd (by decide) h) (fun _ => ?_)
        refine x_sx C b_Mo_body_67_68 hl (L' := [(6, .int 0), (0, .ref (ad 20)), (1, .int a1), (2, .int a2), (3, .int a3), (4, .int a4), (5, .int a5)]) (st' := [.int 1, .ref (ad 20)]) rfl (fun ls hl => ?_)
        refine x_goto (tgt := 84) C d_Mo_body_68 (by decide) ?_
        refine m_put C hH 0 0 rfl (by decide) t_642 rfl rfl rfl rfl d_Mo_body_84 (fun H locs hH => ?_)
        refine x_sx C b_Mo_body_87_88 hl (L' := [(6, .int 0), (0, .ref (ad 20)), (1, .int a1), (2, .int a2), (3, .int a3), (4, .int a4), (5, .int a5)]) (st' := [.ref (ad 20)]) rfl (fun ls hl => ?_)
        refine x_get C hH.1 1000 mW_o 0 (v := .int 1) rfl rfl (by decide) t_642 (fun _ z => z) d_Mo_body_88 ?_
        refine lv_if_le (tgt := 96) C.1 C.2.1 d_Mo_body_91 (by decide) (fun h => absurd h (by decide)) (fun _ => ?_)
        refine x_sx C b_Mo_body_94_95 hl (L' := [(6, .int 0), (0, .ref (ad 20)), (1, .int a1), (2, .int a2), (3, .int a3), (4, .int a4), (5, .int a5)]) (st' := [.int 0]) rfl (fun ls hl => ?_)
        exact x_irt C hr hH.2.2 ⟨rfl, hH.1, hH.2.1⟩ (Nat.le_refl _) (Nat.le_refl _) d_Mo_body_95
      · refine x_sx C b_Mo_body_32_37 hl (L' := [(0, .ref (ad 20)), (1, .int a1), (2, .int a2), (3, .int a3), (4, .int a4), (5, .int a5)]) (st' := [.int 60, .int 0, .int a4]) rfl (fun ls hl => ?_)
        refine x_ro (x_cS C (c_Mo_in l G _ a4 0 60) t_753 t_14 t_751 t_752 hd_Mo_in blind_Pro (pre_ro C hH.1 hH.2.2) (As := [.int a4, .int 0, .int 60]) (rest := []) rfl hl.1 rfl rfl rfl ⟨Nat.le_of_ble_eq_true rfl, Nat.le_of_ble_eq_true rfl⟩ (Nat.le_of_ble_eq_true rfl) ⟨Nat.zero_le _, Nat.zero_le _⟩ d_Mo_body_37) ?_
        refine lv_if_eq (tgt := 58) C.1 C.2.1 d_Mo_body_40 (by decide) (fun v3 => ?_) (fun v3 => ?_)
        · refine x_sx C b_Mo_body_58_64 hl (L' := [(6, .int 0), (0, .ref (ad 20)), (1, .int a1), (2, .int a2), (3, .int a3), (4, .int a4), (5, .int a5)]) (st' := [.int 0, .ref (ad 20)]) rfl (fun ls hl => ?_)
          refine lv_if_ne (tgt := 71) C.1 C.2.1 d_Mo_body_64 (by decide) (fun h => absurd (by decide) h) (fun _ => ?_)
          refine x_sx C b_Mo_body_67_68 hl (L' := [(6, .int 0), (0, .ref (ad 20)), (1, .int a1), (2, .int a2), (3, .int a3), (4, .int a4), (5, .int a5)]) (st' := [.int 1, .ref (ad 20)]) rfl (fun ls hl => ?_)
          refine x_goto (tgt := 84) C d_Mo_body_68 (by decide) ?_
          refine m_put C hH 0 0 rfl (by decide) t_642 rfl rfl rfl rfl d_Mo_body_84 (fun H locs hH => ?_)
          refine x_sx C b_Mo_body_87_88 hl (L' := [(6, .int 0), (0, .ref (ad 20)), (1, .int a1), (2, .int a2), (3, .int a3), (4, .int a4), (5, .int a5)]) (st' := [.ref (ad 20)]) rfl (fun ls hl => ?_)
          refine x_get C hH.1 1000 mW_o 0 (v := .int 1) rfl rfl (by decide) t_642 (fun _ z => z) d_Mo_body_88 ?_
          refine lv_if_le (tgt := 96) C.1 C.2.1 d_Mo_body_91 (by decide) (fun h => absurd h (by decide)) (fun _ => ?_)
          refine x_sx C b_Mo_body_94_95 hl (L' := [(6, .int 0), (0, .ref (ad 20)), (1, .int a1), (2, .int a2), (3, .int a3), (4, .int a4), (5, .int a5)]) (st' := [.int 0]) rfl (fun ls hl => ?_)
          exact x_irt C hr hH.2.2 ⟨rfl, hH.1, hH.2.1⟩ (Nat.le_refl _) (Nat.le_refl _) d_Mo_body_95
        · refine x_sx C b_Mo_body_43_48 hl (L' := [(0, .ref (ad 20)), (1, .int a1), (2, .int a2), (3, .int a3), (4, .int a4), (5, .int a5)]) (st' := [.int 20, .int 1, .int a5]) rfl (fun ls hl => ?_)
          refine x_ro (x_cS C (c_Mo_in l G _ a5 1 20) t_753 t_14 t_751 t_752 hd_Mo_in blind_Pro (pre_ro C hH.1 hH.2.2) (As := [.int a5, .int 1, .int 20]) (rest := []) rfl hl.1 rfl rfl rfl ⟨Nat.le_of_ble_eq_true rfl, Nat.le_of_ble_eq_true rfl⟩ (Nat.le_of_ble_eq_true rfl) ⟨Nat.zero_le _, Nat.zero_le _⟩ d_Mo_body_48) ?_
          refine lv_if_eq (tgt := 58) C.1 C.2.1 d_Mo_body_51 (by decide) (fun v4 => ?_) (fun v4 => ?_)
          · refine x_sx C b_Mo_body_58_64 hl (L' := [(6, .int 0), (0, .ref (ad 20)), (1, .int a1), (2, .int a2), (3, .int a3), (4, .int a4), (5, .int a5)]) (st' := [.int 0, .ref (ad 20)]) rfl (fun ls hl => ?_)
            refine lv_if_ne (tgt := 71) C.1 C.2.1 d_Mo_body_64 (by decide) (fun h => absurd (by decide) h) (fun _ => ?_)
            refine x_sx C b_Mo_body_67_68 hl (L' := [(6, .int 0), (0, .ref (ad 20)), (1, .int a1), (2, .int a2), (3, .int a3), (4, .int a4), (5, .int a5)]) (st' := [.int 1, .ref (ad 20)]) rfl (fun ls hl => ?_)
            refine x_goto (tgt := 84) C d_Mo_body_68 (by decide) ?_
            refine m_put C hH 0 0 rfl (by decide) t_642 rfl rfl rfl rfl d_Mo_body_84 (fun H locs hH => ?_)
            refine x_sx C b_Mo_body_87_88 hl (L' := [(6, .int 0), (0, .ref (ad 20)), (1, .int a1), (2, .int a2), (3, .int a3), (4, .int a4), (5, .int a5)]) (st' := [.ref (ad 20)]) rfl (fun ls hl => ?_)
            refine x_get C hH.1 1000 mW_o 0 (v := .int 1) rfl rfl (by decide) t_642 (fun _ z => z) d_Mo_body_88 ?_
            refine lv_if_le (tgt := 96) C.1 C.2.1 d_Mo_body_91 (by decide) (fun h => absurd h (by decide)) (fun _ => ?_)
            refine x_sx C b_Mo_body_94_95 hl (L' := [(6, .int 0), (0, .ref (ad 20)), (1, .int a1), (2, .int a2), (3, .int a3), (4, .int a4), (5, .int a5)]) (st' := [.int 0]) rfl (fun ls hl => ?_)
            exact x_irt C hr hH.2.2 ⟨rfl, hH.1, hH.2.1⟩ (Nat.le_refl _) (Nat.le_refl _) d_Mo_body_95
          · exact absurd ⟨p_in1 v0, p_in1 v1, p_in1 v2, p_in1 v3, p_in1 v4⟩ hv
theorem b_Mo_body_54_55 : decs prog_7_method_17_code [(.iconst 1, 1)] 54 55 = true := by decide +kernel
theorem d_Mo_body_55 : decode prog_7_method_17_code 55 = .ok (.goto 4, 3) := by decide +kernel
theorem b_Mo_body_59_64 : decs prog_7_method_17_code [(.istore 6, 2), (.aload_n 0, 1), (.iload 6, 2)] 59 64 = true := by decide +kernel
theorem b_Mo_body_71_72 : decs prog_7_method_17_code [(.aload_n 0, 1)] 71 72 = true := by decide +kernel
theorem d_Mo_body_72 : decode prog_7_method_17_code 72 = .ok (.getfield 84, 3) := by decide +kernel
theorem b_Mo_body_75_76 : decs prog_7_method_17_code [(.iconst 3, 1)] 75 76 = true := by decide +kernel
theorem d_Mo_body_76 : decode prog_7_method_17_code 76 = .ok (.if_icmp .ne 7, 3) := by decide +kernel
theorem b_Mo_body_79_80 : decs prog_7_method_17_code [(.iconst 2, 1)] 79 80 = true := by decide +kernel
theorem d_Mo_body_80 : decode prog_7_method_17_code 80 = .ok (.goto 4, 3) := by decide +kernel
set_option maxRecDepth 100000 in
set_option maxHeartbeats 4000000 in
theorem c_Mo_body_2 (l : Launch) (G : GG) (A : Nat → Prop) (ad : Nat → Nat) (w0 : WF) (sc : Nat → Int32) (ar : Nat → Nat → Int32) (a1 a2 a3 a4 a5 : Int32) (hv : (p_in a1 1 200) = 1 ∧ (p_in a2 0 200) = 1 ∧ (p_in a3 0 60) = 1 ∧ (p_in a4 0 60) = 1 ∧ (p_in a5 1 20) = 1) (h3 : sc 1 = 3) : Met l y_Mo_body (Cond.code y_Mo_body prog_7_method_17_code 7 (some FieldType.int) :: wt) { frames := 5, cells := 0, slots := 0, locals := 127 } (Pre G A (mW G ad w0 sc ar) (fun _ => True) [.ref (ad 20), .int a1, .int a2, .int a3, .int a4, .int a5]) (Qw A (some (.int 0)) G (mW G ad w0 (va_up sc 0 2) ar)) 0 0 A := by
  refine mt_of (by decide) (Nat.le_of_ble_eq_true rfl) ?_
  intro p e s m below meth c ls C hH hA hE hr hmn hl
  have hl : lv_has ls 7 [(0, .ref (ad 20)), (1, .int a1), (2, .int a2), (3, .int a3), (4, .int a4), (5, .int a5)] := hl
  refine x_sx C b_Mo_body_0_5 hl (L' := [(0, .ref (ad 20)), (1, .int a1), (2, .int a2), (3, .int a3), (4, .int a4), (5, .int a5)]) (st' := [.int 200, .int 1, .int a1]) rfl (fun ls hl => ?_)
  refine x_ro (x_cS C (c_Mo_in l G _ a1 1 200) t_753 t_14 t_751 t_752 hd_Mo_in blind_Pro (pre_ro C hH.1 hH.2.2) (As := [.int a1, .int 1, .int 200]) (rest := []) rfl hl.1 rfl rfl rfl ⟨Nat.le_of_ble_eq_true rfl, Nat.le_of_ble_eq_true rfl⟩ (Nat.le_of_ble_eq_true rfl) ⟨Nat.zero_le _, Nat.zero_le _⟩ d_Mo_body_5) ?_
  refine lv_if_eq (tgt := 58) C.1 C.2.1 d_Mo_body_8 (by decide) (fun h => absurd h (by rw [hv.1]; first | done | decide)) (fun _ => ?_)
  refine x_sx C b_Mo_body_11_16 hl (L' := [(0, .ref (ad 20)), (1, .int a1), (2, .int a2), (3, .int a3), (4, .int a4), (5, .int a5)]) (st' := [.int 200, .int 0, .int a2]) rfl (fun ls hl => ?_)
  refine x_ro (x_cS C (c_Mo_in l G _ a2 0 200) t_753 t_14 t_751 t_752 hd_Mo_in blind_Pro (pre_ro C hH.1 hH.2.2) (As := [.int a2, .int 0, .int 200]) (rest := []) rfl hl.1 rfl rfl rfl ⟨Nat.le_of_ble_eq_true rfl, Nat.le_of_ble_eq_true rfl⟩ (Nat.le_of_ble_eq_true rfl) ⟨Nat.zero_le _, Nat.zero_le _⟩ d_Mo_body_16) ?_
  refine lv_if_eq (tgt := 58) C.1 C.2.1 d_Mo_body_19 (by decide) (fun h => absurd h (by rw [hv.2.1]; first | done | decide)) (fun _ => ?_)
  refine x_sx C b_Mo_body_22_26 hl (L' := [(0, .ref (ad 20)), (1, .int a1), (2, .int a2), (3, .int a3), (4, .int a4), (5, .int a5)]) (st' := [.int 60, .int 0, .int a3]) rfl (fun ls hl => ?_)
  refine x_ro (x_cS C (c_Mo_in l G _ a3 0 60) t_753 t_14 t_751 t_752 hd_Mo_in blind_Pro (pre_ro C hH.1 hH.2.2) (As := [.int a3, .int 0, .int 60]) (rest := []) rfl hl.1 rfl rfl rfl ⟨Nat.le_of_ble_eq_true rfl, Nat.le_of_ble_eq_true rfl⟩ (Nat.le_of_ble_eq_true rfl) ⟨Nat.zero_le _, Nat.zero_le _⟩ d_Mo_body_26) ?_
  refine lv_if_eq (tgt := 58) C.1 C.2.1 d_Mo_body_29 (by decide) (fun h => absurd h (by rw [hv.2.2.1]; first | done | decide)) (fun _ => ?_)
  refine x_sx C b_Mo_body_32_37 hl (L' := [(0, .ref (ad 20)), (1, .int a1), (2, .int a2), (3, .int a3), (4, .int a4), (5, .int a5)]) (st' := [.int 60, .int 0, .int a4]) rfl (fun ls hl => ?_)
  refine x_ro (x_cS C (c_Mo_in l G _ a4 0 60) t_753 t_14 t_751 t_752 hd_Mo_in blind_Pro (pre_ro C hH.1 hH.2.2) (As := [.int a4, .int 0, .int 60]) (rest := []) rfl hl.1 rfl rfl rfl ⟨Nat.le_of_ble_eq_true rfl, Nat.le_of_ble_eq_true rfl⟩ (Nat.le_of_ble_eq_true rfl) ⟨Nat.zero_le _, Nat.zero_le _⟩ d_Mo_body_37) ?_
  refine lv_if_eq (tgt := 58) C.1 C.2.1 d_Mo_body_40 (by decide) (fun h => absurd h (by rw [hv.2.2.2.1]; first | done | decide)) (fun _ => ?_)
  refine x_sx C b_Mo_body_43_48 hl (L' := [(0, .ref (ad 20)), (1, .int a1), (2, .int a2), (3, .int a3), (4, .int a4), (5, .int a5)]) (st' := [.int 20, .int 1, .int a5]) rfl (fun ls hl => ?_)
  refine x_ro (x_cS C (c_Mo_in l G _ a5 1 20) t_753 t_14 t_751 t_752 hd_Mo_in blind_Pro (pre_ro C hH.1 hH.2.2) (As := [.int a5, .int 1, .int 20]) (rest := []) rfl hl.1 rfl rfl rfl ⟨Nat.le_of_ble_eq_true rfl, Nat.le_of_ble_eq_true rfl⟩ (Nat.le_of_ble_eq_true rfl) ⟨Nat.zero_le _, Nat.zero_le _⟩ d_Mo_body_48) ?_
  refine lv_if_eq (tgt := 58) C.1 C.2.1 d_Mo_body_51 (by decide) (fun h => absurd h (by rw [hv.2.2.2.2]; first | done | decide)) (fun _ => ?_)
  refine x_sx C b_Mo_body_54_55 hl (L' := [(0, .ref (ad 20)), (1, .int a1), (2, .int a2), (3, .int a3), (4, .int a4), (5, .int a5)]) (st' := [.int 1]) rfl (fun ls hl => ?_)
  refine x_goto (tgt := 59) C d_Mo_body_55 (by decide) ?_
  refine x_sx C b_Mo_body_59_64 hl (L' := [(6, .int 1), (0, .ref (ad 20)), (1, .int a1), (2, .int a2), (3, .int a3), (4, .int a4), (5, .int a5)]) (st' := [.int 1, .ref (ad 20)]) rfl (fun ls hl => ?_)
  refine lv_if_ne (tgt := 71) C.1 C.2.1 d_Mo_body_64 (by decide) (fun _ => ?_) (fun h => absurd h (by decide))
  refine x_sx C b_Mo_body_71_72 hl (L' := [(6, .int 1), (0, .ref (ad 20)), (1, .int a1), (2, .int a2), (3, .int a3), (4, .int a4), (5, .int a5)]) (st' := [.ref (ad 20), .ref (ad 20)]) rfl (fun ls hl => ?_)
  refine x_get C hH.1 1000 mW_o 2 (v := .int (sc 1)) rfl rfl (by decide) t_644 (fun _ z => z) d_Mo_body_72 ?_
  refine x_sx C b_Mo_body_75_76 hl (L' := [(6, .int 1), (0, .ref (ad 20)), (1, .int a1), (2, .int a2), (3, .int a3), (4, .int a4), (5, .int a5)]) (st' := [.int 3, .int (sc 1), .ref (ad 20)]) rfl (fun ls hl => ?_)
  refine lv_icmp_ne (tgt := 83) C.1 C.2.1 d_Mo_body_76 (by decide) (fun h => absurd (by rw [h3]; first | done | decide) h) (fun _ => ?_)
  refine x_sx C b_Mo_body_79_80 hl (L' := [(6, .int 1), (0, .ref (ad 20)), (1, .int a1), (2, .int a2), (3, .int a3), (4, .int a4), (5, .int a5)]) (st' := [.int 2, .ref (ad 20)]) rfl (fun ls hl => ?_)
  refine x_goto (tgt := 84) C d_Mo_body_80 (by decide) ?_
  refine m_put C hH 0 0 rfl (by decide) t_642 rfl rfl rfl rfl d_Mo_body_84 (fun H locs hH => ?_)
  refine x_sx C b_Mo_body_87_88 hl (L' := [(6, .int 1), (0, .ref (ad 20)), (1, .int a1), (2, .int a2), (3, .int a3), (4, .int a4), (5, .int a5)]) (st' := [.ref (ad 20)]) rfl (fun ls hl => ?_)
  refine x_get C hH.1 1000 mW_o 0 (v := .int 2) rfl rfl (by decide) t_642 (fun _ z => z) d_Mo_body_88 ?_
  refine lv_if_le (tgt := 96) C.1 C.2.1 d_Mo_body_91 (by decide) (fun h => absurd h (by decide)) (fun _ => ?_)
  refine x_sx C b_Mo_body_94_95 hl (L' := [(6, .int 1), (0, .ref (ad 20)), (1, .int a1), (2, .int a2), (3, .int a3), (4, .int a4), (5, .int a5)]) (st' := [.int 0]) rfl (fun ls hl => ?_)
  exact x_irt C hr hH.2.2 ⟨rfl, hH.1, hH.2.1⟩ (Nat.le_refl _) (Nat.le_refl _) d_Mo_body_95
/-- the state with one body more, not yet begun anew -/
def fBodyS (sc : Nat → Int32) : Nat → Int32 := va_up (va_up sc 0 0) 1 (sc 1 + 1)
def fBodyA (ar : Nat → Nat → Int32) (n : Nat) (a1 a2 a3 a4 a5 : Int32) : Nat → Nat → Int32 := va_up (va_up (va_up (va_up (va_up ar 1 (upd (ar 1) n a1)) 2 (upd (ar 2) n a2)) 3 (upd (ar 3) n a3)) 4 (upd (ar 4) n a4)) 5 (upd (ar 5) n a5)
theorem b_Mo_body_83_84 : decs prog_7_method_17_code [(.iconst 0, 1)] 83 84 = true := by decide +kernel
theorem b_Mo_body_96_97 : decs prog_7_method_17_code [(.aload_n 0, 1)] 96 97 = true := by decide +kernel
theorem d_Mo_body_97 : decode prog_7_method_17_code 97 = .ok (.getfield 13, 3) := by decide +kernel
theorem b_Mo_body_100_101 : decs prog_7_method_17_code [(.aload_n 0, 1)] 100 101 = true := by decide +kernel
theorem d_Mo_body_101 : decode prog_7_method_17_code 101 = .ok (.getfield 84, 3) := by decide +kernel
theorem b_Mo_body_104_105 : decs prog_7_method_17_code [(.iload_n 1, 1)] 104 105 = true := by decide +kernel
theorem d_Mo_body_105 : decode prog_7_method_17_code 105 = .ok (.iastore, 1) := by decide +kernel
theorem b_Mo_body_106_107 : decs prog_7_method_17_code [(.aload_n 0, 1)] 106 107 = true := by decide +kernel
theorem d_Mo_body_107 : decode prog_7_method_17_code 107 = .ok (.getfield 16, 3) := by decide +kernel
theorem b_Mo_body_110_111 : decs prog_7_method_17_code [(.aload_n 0, 1)] 110 111 = true := by decide +kernel
theorem d_Mo_body_111 : decode prog_7_method_17_code 111 = .ok (.getfield 84, 3) := by decide +kernel
theorem b_Mo_body_114_115 : decs prog_7_method_17_code [(.iload_n 2, 1)] 114 115 = true := by decide +kernel
theorem d_Mo_body_115 : decode prog_7_method_17_code 115 = .ok (.iastore, 1) := by decide +kernel
theorem b_Mo_body_116_117 : decs prog_7_method_17_code [(.aload_n 0, 1)] 116 117 = true := by decide +kernel
theorem d_Mo_body_117 : decode prog_7_method_17_code 117 = .ok (.getfield 19, 3) := by decide +kernel
theorem b_Mo_body_120_121 : decs prog_7_method_17_code [(.aload_n 0, 1)] 120 121 = true := by decide +kernel
theorem d_Mo_body_121 : decode prog_7_method_17_code 121 = .ok (.getfield 84, 3) := by decide +kernel
theorem b_Mo_body_124_125 : decs prog_7_method_17_code [(.iload_n 3, 1)] 124 125 = true := by decide +kernel
theorem d_Mo_body_125 : decode prog_7_method_17_code 125 = .ok (.iastore, 1) := by decide +kernel
theorem b_Mo_body_126_127 : decs prog_7_method_17_code [(.aload_n 0, 1)] 126 127 = true := by decide +kernel
theorem d_Mo_body_127 : decode prog_7_method_17_code 127 = .ok (.getfield 22, 3) := by decide +kernel
theorem b_Mo_body_130_131 : decs prog_7_method_17_code [(.aload_n 0, 1)] 130 131 = true := by decide +kernel
theorem d_Mo_body_131 : decode prog_7_method_17_code 131 = .ok (.getfield 84, 3) := by decide +kernel
theorem b_Mo_body_134_136 : decs prog_7_method_17_code [(.iload 4, 2)] 134 136 = true := by decide +kernel
theorem d_Mo_body_136 : decode prog_7_method_17_code 136 = .ok (.iastore, 1) := by decide +kernel
theorem b_Mo_body_137_138 : decs prog_7_method_17_code [(.aload_n 0, 1)] 137 138 = true := by decide +kernel
theorem d_Mo_body_138 : decode prog_7_method_17_code 138 = .ok (.getfield 25, 3) := by decide +kernel
theorem b_Mo_body_141_142 : decs prog_7_method_17_code [(.aload_n 0, 1)] 141 142 = true := by decide +kernel
theorem d_Mo_body_142 : decode prog_7_method_17_code 142 = .ok (.getfield 84, 3) := by decide +kernel
theorem b_Mo_body_145_147 : decs prog_7_method_17_code [(.iload 5, 2)] 145 147 = true := by decide +kernel
theorem d_Mo_body_147 : decode prog_7_method_17_code 147 = .ok (.iastore, 1) := by decide +kernel
theorem b_Mo_body_148_150 : decs prog_7_method_17_code [(.aload_n 0, 1), (.dup, 1)] 148 150 = true := by decide +kernel
theorem d_Mo_body_150 : decode prog_7_method_17_code 150 = .ok (.getfield 84, 3) := by decide +kernel
theorem b_Mo_body_153_155 : decs prog_7_method_17_code [(.iconst 1, 1), (.iadd, 1)] 153 155 = true := by decide +kernel
theorem d_Mo_body_155 : decode prog_7_method_17_code 155 = .ok (.putfield 84, 3) := by decide +kernel
theorem b_Mo_body_158_159 : decs prog_7_method_17_code [(.aload_n 0, 1)] 158 159 = true := by decide +kernel
theorem d_Mo_body_159 : decode prog_7_method_17_code 159 = .ok (.invokevirtual 155, 3) := by decide +kernel
theorem b_Mo_body_162_163 : decs prog_7_method_17_code [(.aload_n 0, 1)] 162 163 = true := by decide +kernel
theorem d_Mo_body_163 : decode prog_7_method_17_code 163 = .ok (.getfield 84, 3) := by decide +kernel
theorem b_Mo_body_166_168 : decs prog_7_method_17_code [(.iconst 1, 1), (.isub, 1)] 166 168 = true := by decide +kernel
theorem d_Mo_body_168 : decode prog_7_method_17_code 168 = .ok (.ireturn, 1) := by decide +kernel
set_option maxRecDepth 100000 in
set_option maxHeartbeats 4000000 in
theorem c_Mo_body (l : Launch) (G : GG) (A : Nat → Prop) (ad : Nat → Nat) (w0 : WF) (sc : Nat → Int32) (ar : Nat → Nat → Int32) (a1 a2 a3 a4 a5 : Int32) (n np : Nat) (hv : (p_in a1 1 200) = 1 ∧ (p_in a2 0 200) = 1 ∧ (p_in a3 0 60) = 1 ∧ (p_in a4 0 60) = 1 ∧ (p_in a5 1 20) = 1) (h1 : sc 1 = nI n) (hn : n < 3) (h6 : sc 6 = nI np) (hnp : np ≤ 20) (hg : ∀ k, k < n + 1 → rgT (bgI (bgS (fBodyS sc)) (fBodyA ar n a1 a2 a3 a4 a5) 3) k) : Met l y_Mo_body (Cond.code y_Mo_body prog_7_method_17_code 7 (some FieldType.int) :: wt) { frames := 5, cells := 0, slots := 0, locals := 127 } (Pre G A (mW G ad w0 sc ar) (fun _ => True) [.ref (ad 20), .int a1, .int a2, .int a3, .int a4, .int a5]) (Qw A (some (.int (nI n))) G (mW G ad w0 (fBegin (fBodyS sc, fBodyA ar n a1 a2 a3 a4 a5)).1 (fBegin (fBodyS sc, fBodyA ar n a1 a2 a3 a4 a5)).2)) 0 0 A := by
  refine mt_of (by decide) (Nat.le_of_ble_eq_true rfl) ?_
  intro p e s m below meth c ls C hH hA hE hr hmn hl
  have hl : lv_has ls 7 [(0, .ref (ad 20)), (1, .int a1), (2, .int a2), (3, .int a3), (4, .int a4), (5, .int a5)] := hl
  have hne3 : ¬ sc 1 = 3 := by rw [h1, show (3 : Int32) = nI 3 from rfl, nI_eq (by omega) (by omega)]; omega
  have hs1 : (fBodyS sc) 1 = nI (n + 1) := by show sc 1 + 1 = _; rw [h1, nI_1]
  have hb1 : (fBegin (fBodyS sc, fBodyA ar n a1 a2 a3 a4 a5)).1 1 - 1 = nI n := by rw [fBegin_sc _ (by decide) (by decide) (by decide) (by decide) (by decide) (by decide)]; dsimp only; rw [hs1]; exact nI_pred n
  refine x_sx C b_Mo_body_0_5 hl (L' := [(0, .ref (ad 20)), (1, .int a1), (2, .int a2), (3, .int a3), (4, .int a4), (5, .int a5)]) (st' := [.int 200, .int 1, .int a1]) rfl (fun ls hl => ?_)
  refine x_ro (x_cS C (c_Mo_in l G _ a1 1 200) t_753 t_14 t_751 t_752 hd_Mo_in blind_Pro (pre_ro C hH.1 hH.2.2) (As := [.int a1, .int 1, .int 200]) (rest := []) rfl hl.1 rfl rfl rfl ⟨Nat.le_of_ble_eq_true rfl, Nat.le_of_ble_eq_true rfl⟩ (Nat.le_of_ble_eq_true rfl) ⟨Nat.zero_le _, Nat.zero_le _⟩ d_Mo_body_5) ?_
  refine lv_if_eq (tgt := 58) C.1 C.2.1 d_Mo_body_8 (by decide) (fun h => absurd h (by rw [hv.1]; first | done | decide)) (fun _ => ?_)
  refine x_sx C b_Mo_body_11_16 hl (L' := [(0, .ref (ad 20)), (1, .int a1), (2, .int a2), (3, .int a3), (4, .int a4), (5, .int a5)]) (st' := [.int 200, .int 0, .int a2]) rfl (fun ls hl => ?_)
  refine x_ro (x_cS C (c_Mo_in l G _ a2 0 200) t_753 t_14 t_751 t_752 hd_Mo_in blind_Pro (pre_ro C hH.1 hH.2.2) (As := [.int a2, .int 0, .int 200]) (rest := []) rfl hl.1 rfl rfl rfl ⟨Nat.le_of_ble_eq_true rfl, Nat.le_of_ble_eq_true rfl⟩ (Nat.le_of_ble_eq_true rfl) ⟨Nat.zero_le _, Nat.zero_le _⟩ d_Mo_body_16) ?_
  refine lv_if_eq (tgt := 58) C.1 C.2.1 d_Mo_body_19 (by decide) (fun h => absurd h (by rw [hv.2.1]; first | done | decide)) (fun _ => ?_)
  refine x_sx C b_Mo_body_22_26 hl (L' := [(0, .ref (ad 20)), (1, .int a1), (2, .int a2), (3, .int a3), (4, .int a4), (5, .int a5)]) (st' := [.int 60, .int 0, .int a3]) rfl (fun ls hl => ?_)
  refine x_ro (x_cS C (c_Mo_in l G _ a3 0 60) t_753 t_14 t_751 t_752 hd_Mo_in blind_Pro (pre_ro C hH.1 hH.2.2) (As := [.int a3, .int 0, .int 60]) (rest := []) rfl hl.1 rfl rfl rfl ⟨Nat.le_of_ble_eq_true rfl, Nat.le_of_ble_eq_true rfl⟩ (Nat.le_of_ble_eq_true rfl) ⟨Nat.zero_le _, Nat.zero_le _⟩ d_Mo_body_26) ?_
  refine lv_if_eq (tgt := 58) C.1 C.2.1 d_Mo_body_29 (by decide) (fun h => absurd h (by rw [hv.2.2.1]; first | done | decide)) (fun _ => ?_)
  refine x_sx C b_Mo_body_32_37 hl (L' := [(0, .ref (ad 20)), (1, .int a1), (2, .int a2), (3, .int a3), (4, .int a4), (5, .int a5)]) (st' := [.int 60, .int 0, .int a4]) rfl (fun ls hl => ?_)
  refine x_ro (x_cS C (c_Mo_in l G _ a4 0 60) t_753 t_14 t_751 t_752 hd_Mo_in blind_Pro (pre_ro C hH.1 hH.2.2) (As := [.int a4, .int 0, .int 60]) (rest := []) rfl hl.1 rfl rfl rfl ⟨Nat.le_of_ble_eq_true rfl, Nat.le_of_ble_eq_true rfl⟩ (Nat.le_of_ble_eq_true rfl) ⟨Nat.zero_le _, Nat.zero_le _⟩ d_Mo_body_37) ?_
  refine lv_if_eq (tgt := 58) C.1 C.2.1 d_Mo_body_40 (by decide) (fun h => absurd h (by rw [hv.2.2.2.1]; first | done | decide)) (fun _ => ?_)
  refine x_sx C b_Mo_body_43_48 hl (L' := [(0, .ref (ad 20)), (1, .int a1), (2, .int a2), (3, .int a3), (4, .int a4), (5, .int a5)]) (st' := [.int 20, .int 1, .int a5]) rfl (fun ls hl => ?_)
  refine x_ro (x_cS C (c_Mo_in l G _ a5 1 20) t_753 t_14 t_751 t_752 hd_Mo_in blind_Pro (pre_ro C hH.1 hH.2.2) (As := [.int a5, .int 1, .int 20]) (rest := []) rfl hl.1 rfl rfl rfl ⟨Nat.le_of_ble_eq_true rfl, Nat.le_of_ble_eq_true rfl⟩ (Nat.le_of_ble_eq_true rfl) ⟨Nat.zero_le _, Nat.zero_le _⟩ d_Mo_body_48) ?_
  refine lv_if_eq (tgt := 58) C.1 C.2.1 d_Mo_body_51 (by decide) (fun h => absurd h (by rw [hv.2.2.2.2]; first | done | decide)) (fun _ => ?_)
  refine x_sx C b_Mo_body_54_55 hl (L' := [(0, .ref (ad 20)), (1, .int a1), (2, .int a2), (3, .int a3), (4, .int a4), (5, .int a5)]) (st' := [.int 1]) rfl (fun ls hl => ?_)
  refine x_goto (tgt := 59) C d_Mo_body_55 (by decide) ?_
  refine x_sx C b_Mo_body_59_64 hl (L' := [(6, .int 1), (0, .ref (ad 20)), (1, .int a1), (2, .int a2), (3, .int a3), (4, .int a4), (5, .int a5)]) (st' := [.int 1, .ref (ad 20)]) rfl (fun ls hl => ?_)
  refine lv_if_ne (tgt := 71) C.1 C.2.1 d_Mo_body_64 (by decide) (fun _ => ?_) (fun h => absurd h (by decide))
  refine x_sx C b_Mo_body_71_72 hl (L' := [(6, .int 1), (0, .ref (ad 20)), (1, .int a1), (2, .int a2), (3, .int a3), (4, .int a4), (5, .int a5)]) (st' := [.ref (ad 20), .ref (ad 20)]) rfl (fun ls hl => ?_)
  refine x_get C hH.1 1000 mW_o 2 (v := .int (sc 1)) rfl rfl (by decide) t_644 (fun _ z => z) d_Mo_body_72 ?_
  refine x_sx C b_Mo_body_75_76 hl (L' := [(6, .int 1), (0, .ref (ad 20)), (1, .int a1), (2, .int a2), (3, .int a3), (4, .int a4), (5, .int a5)]) (st' := [.int 3, .int (sc 1), .ref (ad 20)]) rfl (fun ls hl => ?_)
  refine lv_icmp_ne (tgt := 83) C.1 C.2.1 d_Mo_body_76 (by decide) (fun _ => ?_) (fun h => absurd h hne3)
  refine x_sx C b_Mo_body_83_84 hl (L' := [(6, .int 1), (0, .ref (ad 20)), (1, .int a1), (2, .int a2), (3, .int a3), (4, .int a4), (5, .int a5)]) (st' := [.int 0, .ref (ad 20)]) rfl (fun ls hl => ?_)
  refine m_put C hH 0 0 rfl (by decide) t_642 rfl rfl rfl rfl d_Mo_body_84 (fun H locs hH => ?_)
  refine x_sx C b_Mo_body_87_88 hl (L' := [(6, .int 1), (0, .ref (ad 20)), (1, .int a1), (2, .int a2), (3, .int a3), (4, .int a4), (5, .int a5)]) (st' := [.ref (ad 20)]) rfl (fun ls hl => ?_)
  refine x_get C hH.1 1000 mW_o 0 (v := .int 0) rfl rfl (by decide) t_642 (fun _ z => z) d_Mo_body_88 ?_
  refine lv_if_le (tgt := 96) C.1 C.2.1 d_Mo_body_91 (by decide) (fun _ => ?_) (fun h => absurd (by decide) h)
  refine x_sx C b_Mo_body_96_97 hl (L' := [(6, .int 1), (0, .ref (ad 20)), (1, .int a1), (2, .int a2), (3, .int a3), (4, .int a4), (5, .int a5)]) (st' := [.ref (ad 20)]) rfl (fun ls hl => ?_)
  refine x_get C hH.1 1000 mW_o 3 (v := .ref (ad 1)) rfl rfl (by decide) t_645 (fun _ z => z) d_Mo_body_97 ?_
  refine x_sx C b_Mo_body_100_101 hl (L' := [(6, .int 1), (0, .ref (ad 20)), (1, .int a1), (2, .int a2), (3, .int a3), (4, .int a4), (5, .int a5)]) (st' := [.ref (ad 20), .ref (ad 1)]) rfl (fun ls hl => ?_)
  refine x_get C hH.1 1000 mW_o 2 (v := .int (sc 1)) rfl rfl (by decide) t_644 (fun _ z => z) d_Mo_body_101 ?_
  refine x_sx C b_Mo_body_104_105 hl (L' := [(6, .int 1), (0, .ref (ad 20)), (1, .int a1), (2, .int a2), (3, .int a3), (4, .int a4), (5, .int a5)]) (st' := [.int a1, .int (sc 1), .ref (ad 1)]) rfl (fun ls hl => ?_)
  refine m_ast C hH 1 (by decide) (by decide) rfl (N := 3) rfl (f := (ar 1)) rfl (j := n) h1 (by omega) d_Mo_body_105 (fun H locs hH => ?_)
  refine x_sx C b_Mo_body_106_107 hl (L' := [(6, .int 1), (0, .ref (ad 20)), (1, .int a1), (2, .int a2), (3, .int a3), (4, .int a4), (5, .int a5)]) (st' := [.ref (ad 20)]) rfl (fun ls hl => ?_)
  refine x_get C hH.1 1000 mW_o 4 (v := .ref (ad 2)) rfl rfl (by decide) t_646 (fun _ z => z) d_Mo_body_107 ?_
  refine x_sx C b_Mo_body_110_111 hl (L' := [(6, .int 1), (0, .ref (ad 20)), (1, .int a1), (2, .int a2), (3, .int a3), (4, .int a4), (5, .int a5)]) (st' := [.ref (ad 20), .ref (ad 2)]) rfl (fun ls hl => ?_)
  refine x_get C hH.1 1000 mW_o 2 (v := .int (sc 1)) rfl rfl (by decide) t_644 (fun _ z => z) d_Mo_body_111 ?_
  refine x_sx C b_Mo_body_114_115 hl (L' := [(6, .int 1), (0, .ref (ad 20)), (1, .int a1), (2, .int a2), (3, .int a3), (4, .int a4), (5, .int a5)]) (st' := [.int a2, .int (sc 1), .ref (ad 2)]) rfl (fun ls hl => ?_)
  refine m_ast C hH 2 (by decide) (by decide) rfl (N := 3) rfl (f := (ar 2)) rfl (j := n) h1 (by omega) d_Mo_body_115 (fun H locs hH => ?_)
  refine x_sx C b_Mo_body_116_117 hl (L' := [(6, .int 1), (0, .ref (ad 20)), (1, .int a1), (2, .int a2), (3, .int a3), (4, .int a4), (5, .int a5)]) (st' := [.ref (ad 20)]) rfl (fun ls hl => ?_)
  refine x_get C hH.1 1000 mW_o 5 (v := .ref (ad 3)) rfl rfl (by decide) t_647 (fun _ z => z) d_Mo_body_117 ?_
  refine x_sx C b_Mo_body_120_121 hl (L' := [(6, .int 1), (0, .ref (ad 20)), (1, .int a1), (2, .int a2), (3, .int a3), (4, .int a4), (5, .int a5)]) (st' := [.ref (ad 20), .ref (ad 3)]) rfl (fun ls hl => ?_)
  refine x_get C hH.1 1000 mW_o 2 (v := .int (sc 1)) rfl rfl (by decide) t_644 (fun _ z => z) d_Mo_body_121 ?_
  refine x_sx C b_Mo_body_124_125 hl (L' := [(6, .int 1), (0, .ref (ad 20)), (1, .int a1), (2, .int a2), (3, .int a3), (4, .int a4), (5, .int a5)]) (st' := [.int a3, .int (sc 1), .ref (ad 3)]) rfl (fun ls hl => ?_)
  refine m_ast C hH 3 (by decide) (by decide) rfl (N := 3) rfl (f := (ar 3)) rfl (j := n) h1 (by omega) d_Mo_body_125 (fun H locs hH => ?_)
  refine x_sx C b_Mo_body_126_127 hl (L' := [(6, .int 1), (0, .ref (ad 20)), (1, .int a1), (2, .int a2), (3, .int a3), (4, .int a4), (5, .int a5)]) (st' := [.ref (ad 20)]) rfl (fun ls hl => ?_)
  refine x_get C hH.1 1000 mW_o 6 (v := .ref (ad 4)) rfl rfl (by decide) t_648 (fun _ z => z) d_Mo_body_127 ?_
  refine x_sx C b_Mo_body_130_131 hl (L' := [(6, .int 1), (0, .ref (ad 20)), (1, .int a1), (2, .int a2), (3, .int a3), (4, .int a4), (5, .int a5)]) (st' := [.ref (ad 20), .ref (ad 4)]) rfl (fun ls hl => ?_)
  refine x_get C hH.1 1000 mW_o 2 (v := .int (sc 1)) rfl rfl (by decide) t_644 (fun _ z => z) d_Mo_body_131 ?_
  refine x_sx C b_Mo_body_134_136 hl (L' := [(6, .int 1), (0, .ref (ad 20)), (1, .int a1), (2, .int a2), (3, .int a3), (4, .int a4), (5, .int a5)]) (st' := [.int a4, .int (sc 1), .ref (ad 4)]) rfl (fun ls hl => ?_)
  refine m_ast C hH 4 (by decide) (by decide) rfl (N := 3) rfl (f := (ar 4)) rfl (j := n) h1 (by omega) d_Mo_body_136 (fun H locs hH => ?_)
  refine x_sx C b_Mo_body_137_138 hl (L' := [(6, .int 1), (0, .ref (ad 20)), (1, .int a1), (2, .int a2), (3, .int a3), (4, .int a4), (5, .int a5)]) (st' := [.ref (ad 20)]) rfl (fun ls hl => ?_)
  refine x_get C hH.1 1000 mW_o 7 (v := .ref (ad 5)) rfl rfl (by decide) t_649 (fun _ z => z) d_Mo_body_138 ?_
  refine x_sx C b_Mo_body_141_142 hl (L' := [(6, .int 1), (0, .ref (ad 20)), (1, .int a1), (2, .int a2), (3, .int a3), (4, .int a4), (5, .int a5)]) (st' := [.ref (ad 20), .ref (ad 5)]) rfl (fun ls hl => ?_)
  refine x_get C hH.1 1000 mW_o 2 (v := .int (sc 1)) rfl rfl (by decide) t_644 (fun _ z => z) d_Mo_body_142 ?_
  refine x_sx C b_Mo_body_145_147 hl (L' := [(6, .int 1), (0, .ref (ad 20)), (1, .int a1), (2, .int a2), (3, .int a3), (4, .int a4), (5, .int a5)]) (st' := [.int a5, .int (sc 1), .ref (ad 5)]) rfl (fun ls hl => ?_)
  refine m_ast C hH 5 (by decide) (by decide) rfl (N := 3) rfl (f := (ar 5)) rfl (j := n) h1 (by omega) d_Mo_body_147 (fun H locs hH => ?_)
  refine x_sx C b_Mo_body_148_150 hl (L' := [(6, .int 1), (0, .ref (ad 20)), (1, .int a1), (2, .int a2), (3, .int a3), (4, .int a4), (5, .int a5)]) (st' := [.ref (ad 20), .ref (ad 20)]) rfl (fun ls hl => ?_)
  refine x_get C hH.1 1000 mW_o 2 (v := .int (sc 1)) rfl rfl (by decide) t_644 (fun _ z => z) d_Mo_body_150 ?_
  refine x_sx C b_Mo_body_153_155 hl (L' := [(6, .int 1), (0, .ref (ad 20)), (1, .int a1), (2, .int a2), (3, .int a3), (4, .int a4), (5, .int a5)]) (st' := [.int ((sc 1) + 1), .ref (ad 20)]) rfl (fun ls hl => ?_)
  refine m_put C hH 2 1 rfl (by decide) t_644 rfl rfl rfl rfl d_Mo_body_155 (fun H locs hH => ?_)
  refine x_sx C b_Mo_body_158_159 hl (L' := [(6, .int 1), (0, .ref (ad 20)), (1, .int a1), (2, .int a2), (3, .int a3), (4, .int a4), (5, .int a5)]) (st' := [.ref (ad 20)]) rfl (fun ls hl => ?_)
  refine x_mw0 (x_cV C hH.1 mW_o rfl (c_Mo_beginAnew l G A ad w0 (fBodyS sc) (fBodyA ar n a1 a2 a3 a4 a5) (n + 1) np hs1 (by omega) h6 hnp hg) t_757 t_14 t_754 t_756 ts_14 hd_Mo_beginAnew blind_Pre (pre_mt C hH hA trivial) (As := []) (rest := []) rfl hl.1 rfl rfl rfl ⟨Nat.le_of_ble_eq_true rfl, Nat.le_of_ble_eq_true rfl⟩ (Nat.le_of_ble_eq_true rfl) ⟨Nat.zero_le _, Nat.zero_le _⟩ d_Mo_body_159) hH.2.2 (fun H locs hH => ?_)
  refine x_sx C b_Mo_body_162_163 hl (L' := [(6, .int 1), (0, .ref (ad 20)), (1, .int a1), (2, .int a2), (3, .int a3), (4, .int a4), (5, .int a5)]) (st' := [.ref (ad 20)]) rfl (fun ls hl => ?_)
  refine x_get C hH.1 1000 mW_o 2 (v := .int ((fBegin (fBodyS sc, fBodyA ar n a1 a2 a3 a4 a5)).1 1)) rfl rfl (by decide) t_644 (fun _ z => z) d_Mo_body_163 ?_
  refine x_sx C b_Mo_body_166_168 hl (L' := [(6, .int 1), (0, .ref (ad 20)), (1, .int a1), (2, .int a2), (3, .int a3), (4, .int a4), (5, .int a5)]) (st' := [.int (((fBegin (fBodyS sc, fBodyA ar n a1 a2 a3 a4 a5)).1 1) - 1)]) rfl (fun ls hl => ?_)
  exact x_irt C hr hH.2.2 ⟨by rw [hb1], hH.1, hH.2.1⟩ (Nat.le_refl _) (Nat.le_refl _) d_Mo_body_168
theorem hd_Mo_body : hdP y_Mo_body 5 := ⟨by decide +kernel, by decide +kernel, by decide +kernel⟩
theorem b_Mo_start_0_8 : decs prog_7_method_18_code [(.aload_n 0, 1), (.iload_n 1, 1), (.sipush (-1000), 3), (.sipush 1000, 3)] 0 8 = true := by decide +kernel
theorem d_Mo_start_8 : decode prog_7_method_18_code 8 = .ok (.invokestatic 152, 3) := by decide +kernel
theorem d_Mo_start_11 : decode prog_7_method_18_code 11 = .ok (.ifCond .eq 30, 3) := by decide +kernel
theorem b_Mo_start_41_42 : decs prog_7_method_18_code [(.iconst 1, 1)] 41 42 = true := by decide +kernel
theorem d_Mo_start_42 : decode prog_7_method_18_code 42 = .ok (.putfield 87, 3) := by decide +kernel
theorem b_Mo_start_45_46 : decs prog_7_method_18_code [(.aload_n 0, 1)] 45 46 = true := by decide +kernel
theorem d_Mo_start_46 : decode prog_7_method_18_code 46 = .ok (.getfield 87, 3) := by decide +kernel
theorem d_Mo_start_49 : decode prog_7_method_18_code 49 = .ok (.ifCond .le 4, 3) := by decide +kernel
theorem d_Mo_start_52 : decode prog_7_method_18_code 52 = .ok (.return_, 1) := by decide +kernel
theorem b_Mo_start_14_21 : decs prog_7_method_18_code [(.iload_n 2, 1), (.sipush (-1000), 3), (.sipush 1000, 3)] 14 21 = true := by decide +kernel
theorem d_Mo_start_21 : decode prog_7_method_18_code 21 = .ok (.invokestatic 152, 3) := by decide +kernel
theorem d_Mo_start_24 : decode prog_7_method_18_code 24 = .ok (.ifCond .eq 17, 3) := by decide +kernel
theorem b_Mo_start_27_31 : decs prog_7_method_18_code [(.iload_n 3, 1), (.iconst 0, 1), (.bipush 63, 2)] 27 31 = true := by decide +kernel
theorem d_Mo_start_31 : decode prog_7_method_18_code 31 = .ok (.invokestatic 152, 3) := by decide +kernel
theorem d_Mo_start_34 : decode prog_7_method_18_code 34 = .ok (.ifCond .eq 7, 3) := by decide +kernel
set_option maxRecDepth 100000 in
set_option maxHeartbeats 4000000 in
theorem c_Mo_start_1 (l : Launch) (G : GG) (A : Nat → Prop) (ad : Nat → Nat) (w0 : WF) (sc : Nat → Int32) (ar : Nat → Nat → Int32) (a1 a2 a3 : Int32) (hv : ¬ ((p_in a1 (-1000) 1000) = 1 ∧ (p_in a2 (-1000) 1000) = 1 ∧ (p_in a3 0 63) = 1)) : Met l y_Mo_start (Cond.code y_Mo_start prog_7_method_18_code 4 none :: wt) { frames := 5, cells := 0, slots := 0, locals := 127 } (Pre G A (mW G ad w0 sc ar) (fun _ => True) [.ref (ad 20), .int a1, .int a2, .int a3]) (Qw A none G (mW G ad w0 (va_up sc 0 1) ar)) 0 0 A := by
  refine mt_of (by decide) (Nat.le_of_ble_eq_true rfl) ?_
  intro p e s m below meth c ls C hH hA hE hr hmn hl
  have hl : lv_has ls 4 [(0, .ref (ad 20)), (1, .int a1), (2, .int a2), (3, .int a3)] := hl
  refine x_sx C b_Mo_start_0_8 hl (L' := [(0, .ref (ad 20)), (1, .int a1), (2, .int a2), (3, .int a3)]) (st' := [.int 1000, .int (-1000), .int a1, .ref (ad 20)]) rfl (fun ls hl => ?_)
  refine x_ro (x_cS C (c_Mo_in l G _ a1 (-1000) 1000) t_753 t_14 t_751 t_752 hd_Mo_in blind_Pro (pre_ro C hH.1 hH.2.2) (As := [.int a1, .int (-1000), .int 1000]) (rest := [.ref (ad 20)]) rfl hl.1 rfl rfl rfl ⟨Nat.le_of_ble_eq_true rfl, Nat.le_of_ble_eq_true rfl⟩ (Nat.le_of_ble_eq_true rfl) ⟨Nat.zero_le _, Nat.zero_le _⟩ d_Mo_start_8) ?_
  refine lv_if_eq (tgt := 41) C.1 C.2.1 d_Mo_start_11 (by decide) (fun v0 => ?_) (fun v0 => ?_)
  · refine x_sx C b_Mo_start_41_42 hl (L' := [(0, .ref (ad 20)), (1, .int a1), (2, .int a2), (3, .int a3)]) (st' := [.int 1, .ref (ad 20)]) rfl (fun ls hl => ?_)
    refine m_put C hH 0 0 rfl (by decide) t_642 rfl rfl rfl rfl d_Mo_start_42 (fun H locs hH => ?_)
    refine x_sx C b_Mo_start_45_46 hl (L' := [(0, .ref (ad 20)), (1, .int a1), (2, .int a2), (3, .int a3)]) (st' := [.ref (ad 20)]) rfl (fun ls hl => ?_)
    refine x_get C hH.1 1000 mW_o 0 (v := .int 1) rfl rfl (by decide) t_642 (fun _ z => z) d_Mo_start_46 ?_
    refine lv_if_le (tgt := 53) C.1 C.2.1 d_Mo_start_49 (by decide) (fun h => absurd h (by decide)) (fun _ => ?_)
    exact x_vrt C hr hH.2.2 ⟨rfl, hH.1, hH.2.1⟩ (Nat.le_refl _) (Nat.le_refl _) d_Mo_start_52
  · refine x_sx C b_Mo_start_14_21 hl (L' := [(0, .ref (ad 20)), (1, .int a1), (2, .int a2), (3, .int a3)]) (st' := [.int 1000, .int (-1000), .int a2, .ref (ad 20)]) rfl (fun ls hl => ?_)
    refine x_ro (x_cS C (c_Mo_in l G _ a2 (-1000) 1000) t_753 t_14 t_751 t_752 hd_Mo_in blind_Pro (pre_ro C hH.1 hH.2.2) (As := [.int a2, .int (-1000), .int 1000]) (rest := [.ref (ad 20)]) rfl hl.1 rfl rfl rfl ⟨Nat.le_of_ble_eq_true rfl, Nat.le_of_ble_eq_true rfl⟩ (Nat.le_of_ble_eq_true rfl) ⟨Nat.zero_le _, Nat.zero_le _⟩ d_Mo_start_21) ?_
    refine lv_if_eq (tgt := 41) C.1 C.2.1 d_Mo_start_24 (by decide) (fun v1 => ?_) (fun v1 => ?_)
    · refine x_sx C b_Mo_start_41_42 hl (L' := [(0, .ref (ad 20)), (1, .int a1), (2, .int a2), (3, .int a3)]) (st' := [.int 1, .ref (ad 20)]) rfl (fun ls hl => ?_)
      refine m_put C hH 0 0 rfl (by decide) t_642 rfl rfl rfl rfl d_Mo_start_42 (fun H locs hH => ?_)
      refine x_sx C b_Mo_start_45_46 hl (L' := [(0, .ref (ad 20)), (1, .int a1), (2, .int a2), (3, .int a3)]) (st' := [.ref (ad 20)]) rfl (fun ls hl => ?_)
      refine x_get C hH.1 1000 mW_o 0 (v := .int 1) rfl rfl (by decide) t_642 (fun _ z => z) d_Mo_start_46 ?_
      refine lv_if_le (tgt := 53) C.1 C.2.1 d_Mo_start_49 (by decide) (fun h => absurd h (by decide)) (fun _ => ?_)
      exact x_vrt C hr hH.2.2 ⟨rfl, hH.1, hH.2.1⟩ (Nat.le_refl _) (Nat.le_refl _) d_Mo_start_52
    · refine x_sx C b_Mo_start_27_31 hl (L' := [(0, .ref (ad 20)), (1, .int a1), (2, .int a2), (3, .int a3)]) (st' := [.int 63, .int 0, .int a3, .ref (ad 20)]) rfl (fun ls hl => ?_)
      refine x_ro (x_cS C (c_Mo_in l G _ a3 0 63) t_753 t_14 t_751 t_752 hd_Mo_in blind_Pro (pre_ro C hH.1 hH.2.2) (As := [.int a3, .int 0, .int 63]) (rest := [.ref (ad 20)]) rfl hl.1 rfl rfl rfl ⟨Nat.le_of_ble_eq_true rfl, Nat.le_of_ble_eq_true rfl⟩ (Nat.le_of_ble_eq_true rfl) ⟨Nat.zero_le _, Nat.zero_le _⟩ d_Mo_start_31) ?_
      refine lv_if_eq (tgt := 41) C.1 C.2.1 d_Mo_start_34 (by decide) (fun v2 => ?_) (fun v2 => ?_)
      · refine x_sx C b_Mo_start_41_42 hl (L' := [(0, .ref (ad 20)), (1, .int a1), (2, .int a2), (3, .int a3)]) (st' := [.int 1, .ref (ad 20)]) rfl (fun ls hl => ?_)
        refine m_put C hH 0 0 rfl (by decide) t_642 rfl rfl rfl rfl d_Mo_start_42 (fun H locs hH => ?_)
        refine x_sx C b_Mo_start_45_46 hl (L' := [(0, .ref (ad 20)), (1, .int a1), (2, .int a2), (3, .int a3)]) (st' := [.ref (ad 20)]) rfl (fun ls hl => ?_)
        refine x_get C hH.1 1000 mW_o 0 (v := .int 1) rfl rfl (by decide) t_642 (fun _ z => z) d_Mo_start_46 ?_
        refine lv_if_le (tgt := 53) C.1 C.2.1 d_Mo_start_49 (by decide) (fun h => absurd h (by decide)) (fun _ => ?_)
        exact x_vrt C hr hH.2.2 ⟨rfl, hH.1, hH.2.1⟩ (Nat.le_refl _) (Nat.le_refl _) d_Mo_start_52
      · exact absurd ⟨p_in1 v0, p_in1 v1, p_in1 v2⟩ hv
def fStartS (sc : Nat → Int32) (a1 a2 a3 : Int32) : Nat → Int32 := va_up (va_up (va_up (va_up sc 0 0) 2 a1) 3 a2) 4 a3
theorem b_Mo_start_37_38 : decs prog_7_method_18_code [(.iconst 0, 1)] 37 38 = true := by decide +kernel
theorem d_Mo_start_38 : decode prog_7_method_18_code 38 = .ok (.goto 4, 3) := by decide +kernel
theorem b_Mo_start_53_55 : decs prog_7_method_18_code [(.aload_n 0, 1), (.iload_n 1, 1)] 53 55 = true := by decide +kernel
theorem d_Mo_start_55 : decode prog_7_method_18_code 55 = .ok (.putfield 129, 3) := by decide +kernel
theorem b_Mo_start_58_60 : decs prog_7_method_18_code [(.aload_n 0, 1), (.iload_n 2, 1)] 58 60 = true := by decide +kernel
theorem d_Mo_start_60 : decode prog_7_method_18_code 60 = .ok (.putfield 132, 3) := by decide +kernel
theorem b_Mo_start_63_65 : decs prog_7_method_18_code [(.aload_n 0, 1), (.iload_n 3, 1)] 63 65 = true := by decide +kernel
theorem d_Mo_start_65 : decode prog_7_method_18_code 65 = .ok (.putfield 135, 3) := by decide +kernel
theorem b_Mo_start_68_69 : decs prog_7_method_18_code [(.aload_n 0, 1)] 68 69 = true := by decide +kernel
theorem d_Mo_start_69 : decode prog_7_method_18_code 69 = .ok (.invokevirtual 155, 3) := by decide +kernel
theorem d_Mo_start_72 : decode prog_7_method_18_code 72 = .ok (.return_, 1) := by decide +kernel
set_option maxRecDepth 100000 in
set_option maxHeartbeats 4000000 in
theorem c_Mo_start (l : Launch) (G : GG) (A : Nat → Prop) (ad : Nat → Nat) (w0 : WF) (sc : Nat → Int32) (ar : Nat → Nat → Int32) (a1 a2 a3 : Int32) (n np : Nat) (hv : (p_in a1 (-1000) 1000) = 1 ∧ (p_in a2 (-1000) 1000) = 1 ∧ (p_in a3 0 63) = 1) (h1 : sc 1 = nI n) (hn : n ≤ 3) (h6 : sc 6 = nI np) (hnp : np ≤ 20) (hg : ∀ k, k < n → rgT (bgI (bgS (fStartS sc a1 a2 a3)) ar 3) k) : Met l y_Mo_start (Cond.code y_Mo_start prog_7_method_18_code 4 none :: wt) { frames := 5, cells := 0, slots := 0, locals := 127 } (Pre G A (mW G ad w0 sc ar) (fun _ => True) [.ref (ad 20), .int a1, .int a2, .int a3]) (Qw A none G (mW G ad w0 (fBegin (fStartS sc a1 a2 a3, ar)).1 (fBegin (fStartS sc a1 a2 a3, ar)).2)) 0 0 A := by
  refine mt_of (by decide) (Nat.le_of_ble_eq_true rfl) ?_
  intro p e s m below meth c ls C hH hA hE hr hmn hl
  have hl : lv_has ls 4 [(0, .ref (ad 20)), (1, .int a1), (2, .int a2), (3, .int a3)] := hl
  refine x_sx C b_Mo_start_0_8 hl (L' := [(0, .ref (ad 20)), (1, .int a1), (2, .int a2), (3, .int a3)]) (st' := [.int 1000, .int (-1000), .int a1, .ref (ad 20)]) rfl (fun ls hl => ?_)
  refine x_ro (x_cS C (c_Mo_in l G _ a1 (-1000) 1000) t_753 t_14 t_751 t_752 hd_Mo_in blind_Pro (pre_ro C hH.1 hH.2.2) (As := [.int a1, .int (-1000), .int 1000]) (rest := [.ref (ad 20)]) rfl hl.1 rfl rfl rfl ⟨Nat.le_of_ble_eq_true rfl, Nat.le_of_ble_eq_true rfl⟩ (Nat.le_of_ble_eq_true rfl) ⟨Nat.zero_le _, Nat.zero_le _⟩ d_Mo_start_8) ?_
  refine lv_if_eq (tgt := 41) C.1 C.2.1 d_Mo_start_11 (by decide) (fun h => absurd h (by rw [hv.1]; first | done | decide)) (fun _ => ?_)
  refine x_sx C b_Mo_start_14_21 hl (L' := [(0, .ref (ad 20)), (1, .int a1), (2, .int a2), (3, .int a3)]) (st' := [.int 1000, .int (-1000), .int a2, .ref (ad 20)]) rfl (fun ls hl => ?_)
  refine x_ro (x_cS C (c_Mo_in l G _ a2 (-1000) 1000) t_753 t_14 t_751 t_752 hd_Mo_in blind_Pro (pre_ro C hH.1 hH.2.2) (As := [.int a2, .int (-1000), .int 1000]) (rest := [.ref (ad 20)]) rfl hl.1 rfl rfl rfl ⟨Nat.le_of_ble_eq_true rfl, Nat.le_of_ble_eq_true rfl⟩ (Nat.le_of_ble_eq_true rfl) ⟨Nat.zero_le _, Nat.zero_le _⟩ d_Mo_start_21) ?_
  refine lv_if_eq (tgt := 41) C.1 C.2.1 d_Mo_start_24 (by decide) (fun h => absurd h (by rw [hv.2.1]; first | done | decide)) (fun _ => ?_)
  refine x_sx C b_Mo_start_27_31 hl (L' := [(0, .ref (ad 20)), (1, .int a1), (2, .int a2), (3, .int a3)]) (st' := [.int 63, .int 0, .int a3, .ref (ad 20)]) rfl (fun ls hl => ?_)
  refine x_ro (x_cS C (c_Mo_in l G _ a3 0 63) t_753 t_14 t_751 t_752 hd_Mo_in blind_Pro (pre_ro C hH.1 hH.2.2) (As := [.int a3, .int 0, .int 63]) (rest := [.ref (ad 20)]) rfl hl.1 rfl rfl rfl ⟨Nat.le_of_ble_eq_true rfl, Nat.le_of_ble_eq_true rfl⟩ (Nat.le_of_ble_eq_true rfl) ⟨Nat.zero_le _, Nat.zero_le _⟩ d_Mo_start_31) ?_
  refine lv_if_eq (tgt := 41) C.1 C.2.1 d_Mo_start_34 (by decide) (fun h => absurd h (by rw [hv.2.2]; first | done | decide)) (fun _ => ?_)
  refine x_sx C b_Mo_start_37_38 hl (L' := [(0, .ref (ad 20)), (1, .int a1), (2, .int a2), (3, .int a3)]) (st' := [.int 0, .ref (ad 20)]) rfl (fun ls hl => ?_)
  refine x_goto (tgt := 42) C d_Mo_start_38 (by decide) ?_
  refine m_put C hH 0 0 rfl (by decide) t_642 rfl rfl rfl rfl d_Mo_start_42 (fun H locs hH => ?_)
  refine x_sx C b_Mo_start_45_46 hl (L' := [(0, .ref (ad 20)), (1, .int a1), (2, .int a2), (3, .int a3)]) (st' := [.ref (ad 20)]) rfl (fun ls hl => ?_)
  refine x_get C hH.1 1000 mW_o 0 (v := .int 0) rfl rfl (by decide) t_642 (fun _ z => z) d_Mo_start_46 ?_
  refine lv_if_le (tgt := 53) C.1 C.2.1 d_Mo_start_49 (by decide) (fun _ => ?_) (fun h => absurd (by decide) h)
  refine x_sx C b_Mo_start_53_55 hl (L' := [(0, .ref (ad 20)), (1, .int a1), (2, .int a2), (3, .int a3)]) (st' := [.int a1, .ref (ad 20)]) rfl (fun ls hl => ?_)
  refine m_put C hH 8 2 rfl (by decide) t_650 rfl rfl rfl rfl d_Mo_start_55 (fun H locs hH => ?_)
  refine x_sx C b_Mo_start_58_60 hl (L' := [(0, .ref (ad 20)), (1, .int a1), (2, .int a2), (3, .int a3)]) (st' := [.int a2, .ref (ad 20)]) rfl (fun ls hl => ?_)
  refine m_put C hH 9 3 rfl (by decide) t_651 rfl rfl rfl rfl d_Mo_start_60 (fun H locs hH => ?_)
  refine x_sx C b_Mo_start_63_65 hl (L' := [(0, .ref (ad 20)), (1, .int a1), (2, .int a2), (3, .int a3)]) (st' := [.int a3, .ref (ad 20)]) rfl (fun ls hl => ?_)
  refine m_put C hH 10 4 rfl (by decide) t_652 rfl rfl rfl rfl d_Mo_start_65 (fun H locs hH => ?_)
  refine x_sx C b_Mo_start_68_69 hl (L' := [(0, .ref (ad 20)), (1, .int a1), (2, .int a2), (3, .int a3)]) (st' := [.ref (ad 20)]) rfl (fun ls hl => ?_)
  refine x_mw0 (x_cV C hH.1 mW_o rfl (c_Mo_beginAnew l G A ad w0 (fStartS sc a1 a2 a3) ar n np h1 hn h6 hnp hg) t_757 t_14 t_754 t_756 ts_14 hd_Mo_beginAnew blind_Pre (pre_mt C hH hA trivial) (As := []) (rest := []) rfl hl.1 rfl rfl rfl ⟨Nat.le_of_ble_eq_true rfl, Nat.le_of_ble_eq_true rfl⟩ (Nat.le_of_ble_eq_true rfl) ⟨Nat.zero_le _, Nat.zero_le _⟩ d_Mo_start_69) hH.2.2 (fun H locs hH => ?_)
  exact x_vrt C hr hH.2.2 ⟨rfl, hH.1, hH.2.1⟩ (Nat.le_refl _) (Nat.le_refl _) d_Mo_start_72
theorem hd_Mo_start : hdP y_Mo_start 3 := ⟨by decide +kernel, by decide +kernel, by decide +kernel⟩
theorem b_Mo_step_0_5 : decs prog_7_method_19_code [(.aload_n 0, 1), (.iload_n 1, 1), (.iconst 1, 1), (.bipush 20, 2)] 0 5 = true := by decide +kernel
theorem d_Mo_step_5 : decode prog_7_method_19_code 5 = .ok (.invokestatic 152, 3) := by decide +kernel
theorem d_Mo_step_8 : decode prog_7_method_19_code 8 = .ok (.ifCond .eq 7, 3) := by decide +kernel
theorem b_Mo_step_15_16 : decs prog_7_method_19_code [(.iconst 1, 1)] 15 16 = true := by decide +kernel
theorem d_Mo_step_16 : decode prog_7_method_19_code 16 = .ok (.putfield 87, 3) := by decide +kernel
theorem b_Mo_step_19_20 : decs prog_7_method_19_code [(.aload_n 0, 1)] 19 20 = true := by decide +kernel
theorem d_Mo_step_20 : decode prog_7_method_19_code 20 = .ok (.getfield 87, 3) := by decide +kernel
theorem d_Mo_step_23 : decode prog_7_method_19_code 23 = .ok (.ifCond .le 5, 3) := by decide +kernel
theorem b_Mo_step_26_27 : decs prog_7_method_19_code [(.iconst 0, 1)] 26 27 = true := by decide +kernel
theorem d_Mo_step_27 : decode prog_7_method_19_code 27 = .ok (.ireturn, 1) := by decide +kernel
set_option maxRecDepth 100000 in
set_option maxHeartbeats 4000000 in
theorem c_Mo_step_1 (l : Launch) (G : GG) (A : Nat → Prop) (ad : Nat → Nat) (w0 : WF) (sc : Nat → Int32) (ar : Nat → Nat → Int32) (a1 : Int32) (hv : ¬ ((p_in a1 1 20) = 1)) : Met l y_Mo_step (Cond.code y_Mo_step prog_7_method_19_code 3 (some FieldType.int) :: wt) { frames := 5, cells := 0, slots := 0, locals := 127 } (Pre G A (mW G ad w0 sc ar) (fun _ => True) [.ref (ad 20), .int a1]) (Qw A (some (.int 0)) G (mW G ad w0 (va_up sc 0 1) ar)) 0 0 A := by
  refine mt_of (by decide) (Nat.le_of_ble_eq_true rfl) ?_
  intro p e s m below meth c ls C hH hA hE hr hmn hl
  have hl : lv_has ls 3 [(0, .ref (ad 20)), (1, .int a1)] := hl
  refine x_sx C b_Mo_step_0_5 hl (L' := [(0, .ref (ad 20)), (1, .int a1)]) (st' := [.int 20, .int 1, .int a1, .ref (ad 20)]) rfl (fun ls hl => ?_)
  refine x_ro (x_cS C (c_Mo_in l G _ a1 1 20) t_753 t_14 t_751 t_752 hd_Mo_in blind_Pro (pre_ro C hH.1 hH.2.2) (As := [.int a1, .int 1, .int 20]) (rest := [.ref (ad 20)]) rfl hl.1 rfl rfl rfl ⟨Nat.le_of_ble_eq_true rfl, Nat.le_of_ble_eq_true rfl⟩ (Nat.le_of_ble_eq_true rfl) ⟨Nat.zero_le _, Nat.zero_le _⟩ d_Mo_step_5) ?_
  refine lv_if_eq (tgt := 15) C.1 C.2.1 d_Mo_step_8 (by decide) (fun v0 => ?_) (fun v0 => ?_)
  · refine x_sx C b_Mo_step_15_16 hl (L' := [(0, .ref (ad 20)), (1, .int a1)]) (st' := [.int 1, .ref (ad 20)]) rfl (fun ls hl => ?_)
    refine m_put C hH 0 0 rfl (by decide) t_642 rfl rfl rfl rfl d_Mo_step_16 (fun H locs hH => ?_)
    refine x_sx C b_Mo_step_19_20 hl (L' := [(0, .ref (ad 20)), (1, .int a1)]) (st' := [.ref (ad 20)]) rfl (fun ls hl => ?_)
    refine x_get C hH.1 1000 mW_o 0 (v := .int 1) rfl rfl (by decide) t_642 (fun _ z => z) d_Mo_step_20 ?_
    refine lv_if_le (tgt := 28) C.1 C.2.1 d_Mo_step_23 (by decide) (fun h => absurd h (by decide)) (fun _ => ?_)
    refine x_sx C b_Mo_step_26_27 hl (L' := [(0, .ref (ad 20)), (1, .int a1)]) (st' := [.int 0]) rfl (fun ls hl => ?_)
    exact x_irt C hr hH.2.2 ⟨rfl, hH.1, hH.2.1⟩ (Nat.le_refl _) (Nat.le_refl _) d_Mo_step_27
  · exact absurd (p_in1 v0) hv
def fStepS (sc : Nat → Int32) (a1 : Int32) : Nat → Int32 := va_up (va_up sc 0 0) 5 a1
theorem b_Mo_step_11_12 : decs prog_7_method_19_code [(.iconst 0, 1)] 11 12 = true := by decide +kernel
theorem d_Mo_step_12 : decode prog_7_method_19_code 12 = .ok (.goto 4, 3) := by decide +kernel
theorem b_Mo_step_28_29 : decs prog_7_method_19_code [(.aload_n 0, 1)] 28 29 = true := by decide +kernel
theorem d_Mo_step_29 : decode prog_7_method_19_code 29 = .ok (.getfield 28, 3) := by decide +kernel
theorem b_Mo_step_32_35 : decs prog_7_method_19_code [(.istore_n 2, 1), (.aload_n 0, 1), (.iload_n 1, 1)] 32 35 = true := by decide +kernel
theorem d_Mo_step_35 : decode prog_7_method_19_code 35 = .ok (.putfield 28, 3) := by decide +kernel
theorem b_Mo_step_38_39 : decs prog_7_method_19_code [(.aload_n 0, 1)] 38 39 = true := by decide +kernel
theorem d_Mo_step_39 : decode prog_7_method_19_code 39 = .ok (.invokevirtual 155, 3) := by decide +kernel
theorem b_Mo_step_42_43 : decs prog_7_method_19_code [(.iload_n 2, 1)] 42 43 = true := by decide +kernel
theorem d_Mo_step_43 : decode prog_7_method_19_code 43 = .ok (.ireturn, 1) := by decide +kernel
set_option maxRecDepth 100000 in
set_option maxHeartbeats 4000000 in
theorem c_Mo_step (l : Launch) (G : GG) (A : Nat → Prop) (ad : Nat → Nat) (w0 : WF) (sc : Nat → Int32) (ar : Nat → Nat → Int32) (a1 : Int32) (n np : Nat) (hv : (p_in a1 1 20) = 1) (h1 : sc 1 = nI n) (hn : n ≤ 3) (h6 : sc 6 = nI np) (hnp : np ≤ 20) (hg : ∀ k, k < n → rgT (bgI (bgS (fStepS sc a1)) ar 3) k) : Met l y_Mo_step (Cond.code y_Mo_step prog_7_method_19_code 3 (some FieldType.int) :: wt) { frames := 5, cells := 0, slots := 0, locals := 127 } (Pre G A (mW G ad w0 sc ar) (fun _ => True) [.ref (ad 20), .int a1]) (Qw A (some (.int (sc 5))) G (mW G ad w0 (fBegin (fStepS sc a1, ar)).1 (fBegin (fStepS sc a1, ar)).2)) 0 0 A := by
  refine mt_of (by decide) (Nat.le_of_ble_eq_true rfl) ?_
  intro p e s m below meth c ls C hH hA hE hr hmn hl
  have hl : lv_has ls 3 [(0, .ref (ad 20)), (1, .int a1)] := hl
  refine x_sx C b_Mo_step_0_5 hl (L' := [(0, .ref (ad 20)), (1, .int a1)]) (st' := [.int 20, .int 1, .int a1, .ref (ad 20)]) rfl (fun ls hl => ?_)
  refine x_ro (x_cS C (c_Mo_in l G _ a1 1 20) t_753 t_14 t_751 t_752 hd_Mo_in blind_Pro (pre_ro C hH.1 hH.2.2) (As := [.int a1, .int 1, .int 20]) (rest := [.ref (ad 20)]) rfl hl.1 rfl rfl rfl ⟨Nat.le_of_ble_eq_true rfl, Nat.le_of_ble_eq_true rfl⟩ (Nat.le_of_ble_eq_true rfl) ⟨Nat.zero_le _, Nat.zero_le _⟩ d_Mo_step_5) ?_
  refine lv_if_eq (tgt := 15) C.1 C.2.1 d_Mo_step_8 (by decide) (fun h => absurd h (by rw [hv]; first | done | decide)) (fun _ => ?_)
  refine x_sx C b_Mo_step_11_12 hl (L' := [(0, .ref (ad 20)), (1, .int a1)]) (st' := [.int 0, .ref (ad 20)]) rfl (fun ls hl => ?_)
  refine x_goto (tgt := 16) C d_Mo_step_12 (by decide) ?_
  refine m_put C hH 0 0 rfl (by decide) t_642 rfl rfl rfl rfl d_Mo_step_16 (fun H locs hH => ?_)
  refine x_sx C b_Mo_step_19_20 hl (L' := [(0, .ref (ad 20)), (1, .int a1)]) (st' := [.ref (ad 20)]) rfl (fun ls hl => ?_)
  refine x_get C hH.1 1000 mW_o 0 (v := .int 0) rfl rfl (by decide) t_642 (fun _ z => z) d_Mo_step_20 ?_
  refine lv_if_le (tgt := 28) C.1 C.2.1 d_Mo_step_23 (by decide) (fun _ => ?_) (fun h => absurd (by decide) h)
  refine x_sx C b_Mo_step_28_29 hl (L' := [(0, .ref (ad 20)), (1, .int a1)]) (st' := [.ref (ad 20)]) rfl (fun ls hl => ?_)
  refine x_get C hH.1 1000 mW_o 11 (v := .int (sc 5)) rfl rfl (by decide) t_653 (fun _ z => z) d_Mo_step_29 ?_
  refine x_sx C b_Mo_step_32_35 hl (L' := [(2, .int (sc 5)), (0, .ref (ad 20)), (1, .int a1)]) (st' := [.int a1, .ref (ad 20)]) rfl (fun ls hl => ?_)
  refine m_put C hH 11 5 rfl (by decide) t_653 rfl rfl rfl rfl d_Mo_step_35 (fun H locs hH => ?_)
  refine x_sx C b_Mo_step_38_39 hl (L' := [(2, .int (sc 5)), (0, .ref (ad 20)), (1, .int a1)]) (st' := [.ref (ad 20)]) rfl (fun ls hl => ?_)
  refine x_mw0 (x_cV C hH.1 mW_o rfl (c_Mo_beginAnew l G A ad w0 (fStepS sc a1) ar n np h1 hn h6 hnp hg) t_757 t_14 t_754 t_756 ts_14 hd_Mo_beginAnew blind_Pre (pre_mt C hH hA trivial) (As := []) (rest := []) rfl hl.1 rfl rfl rfl ⟨Nat.le_of_ble_eq_true rfl, Nat.le_of_ble_eq_true rfl⟩ (Nat.le_of_ble_eq_true rfl) ⟨Nat.zero_le _, Nat.zero_le _⟩ d_Mo_step_39) hH.2.2 (fun H locs hH => ?_)
  refine x_sx C b_Mo_step_42_43 hl (L' := [(2, .int (sc 5)), (0, .ref (ad 20)), (1, .int a1)]) (st' := [.int (sc 5)]) rfl (fun ls hl => ?_)
  exact x_irt C hr hH.2.2 ⟨rfl, hH.1, hH.2.1⟩ (Nat.le_refl _) (Nat.le_refl _) d_Mo_step_43
theorem hd_Mo_step : hdP y_Mo_step 1 := ⟨by decide +kernel, by decide +kernel, by decide +kernel⟩
theorem b_Mo_pole_0_8 : decs prog_7_method_20_code [(.aload_n 0, 1), (.iload_n 1, 1), (.sipush (-1000), 3), (.sipush 1000, 3)] 0 8 = true := by decide +kernel
theorem d_Mo_pole_8 : decode prog_7_method_20_code 8 = .ok (.invokestatic 152, 3) := by decide +kernel
theorem d_Mo_pole_11 : decode prog_7_method_20_code 11 = .ok (.ifCond .eq 16, 3) := by decide +kernel
theorem b_Mo_pole_27_28 : decs prog_7_method_20_code [(.iconst 1, 1)] 27 28 = true := by decide +kernel
theorem d_Mo_pole_28 : decode prog_7_method_20_code 28 = .ok (.goto 17, 3) := by decide +kernel
theorem d_Mo_pole_45 : decode prog_7_method_20_code 45 = .ok (.putfield 87, 3) := by decide +kernel
theorem b_Mo_pole_48_49 : decs prog_7_method_20_code [(.aload_n 0, 1)] 48 49 = true := by decide +kernel
theorem d_Mo_pole_49 : decode prog_7_method_20_code 49 = .ok (.getfield 87, 3) := by decide +kernel
theorem d_Mo_pole_52 : decode prog_7_method_20_code 52 = .ok (.ifCond .le 5, 3) := by decide +kernel
theorem b_Mo_pole_55_56 : decs prog_7_method_20_code [(.iconst 0, 1)] 55 56 = true := by decide +kernel
theorem d_Mo_pole_56 : decode prog_7_method_20_code 56 = .ok (.ireturn, 1) := by decide +kernel
theorem b_Mo_pole_14_21 : decs prog_7_method_20_code [(.iload_n 2, 1), (.sipush (-1000), 3), (.sipush 1000, 3)] 14 21 = true := by decide +kernel
theorem d_Mo_pole_21 : decode prog_7_method_20_code 21 = .ok (.invokestatic 152, 3) := by decide +kernel
theorem d_Mo_pole_24 : decode prog_7_method_20_code 24 = .ok (.ifCond .ne 7, 3) := by decide +kernel
set_option maxRecDepth 100000 in
set_option maxHeartbeats 4000000 in
theorem c_Mo_pole_1 (l : Launch) (G : GG) (A : Nat → Prop) (ad : Nat → Nat) (w0 : WF) (sc : Nat → Int32) (ar : Nat → Nat → Int32) (a1 a2 : Int32) (hv : ¬ ((p_in a1 (-1000) 1000) = 1 ∧ (p_in a2 (-1000) 1000) = 1)) : Met l y_Mo_pole (Cond.code y_Mo_pole prog_7_method_20_code 3 (some FieldType.int) :: wt) { frames := 1, cells := 0, slots := 0, locals := 22 } (Pre G A (mW G ad w0 sc ar) (fun _ => True) [.ref (ad 20), .int a1, .int a2]) (Qw A (some (.int 0)) G (mW G ad w0 (va_up sc 0 1) ar)) 0 0 A := by
  refine mt_of (by decide) (Nat.le_of_ble_eq_true rfl) ?_
  intro p e s m below meth c ls C hH hA hE hr hmn hl
  have hl : lv_has ls 3 [(0, .ref (ad 20)), (1, .int a1), (2, .int a2)] := hl
  refine x_sx C b_Mo_pole_0_8 hl (L' := [(0, .ref (ad 20)), (1, .int a1), (2, .int a2)]) (st' := [.int 1000, .int (-1000), .int a1, .ref (ad 20)]) rfl (fun ls hl => ?_)
  refine x_ro (x_cS C (c_Mo_in l G _ a1 (-1000) 1000) t_753 t_14 t_751 t_752 hd_Mo_in blind_Pro (pre_ro C hH.1 hH.2.2) (As := [.int a1, .int (-1000), .int 1000]) (rest := [.ref (ad 20)]) rfl hl.1 rfl rfl rfl ⟨Nat.le_of_ble_eq_true rfl, Nat.le_of_ble_eq_true rfl⟩ (Nat.le_of_ble_eq_true rfl) ⟨Nat.zero_le _, Nat.zero_le _⟩ d_Mo_pole_8) ?_
  refine lv_if_eq (tgt := 27) C.1 C.2.1 d_Mo_pole_11 (by decide) (fun v0 => ?_) (fun v0 => ?_)
  · refine x_sx C b_Mo_pole_27_28 hl (L' := [(0, .ref (ad 20)), (1, .int a1), (2, .int a2)]) (st' := [.int 1, .ref (ad 20)]) rfl (fun ls hl => ?_)
    refine x_goto (tgt := 45) C d_Mo_pole_28 (by decide) ?_
    refine m_put C hH 0 0 rfl (by decide) t_642 rfl rfl rfl rfl d_Mo_pole_45 (fun H locs hH => ?_)
    refine x_sx C b_Mo_pole_48_49 hl (L' := [(0, .ref (ad 20)), (1, .int a1), (2, .int a2)]) (st' := [.ref (ad 20)]) rfl (fun ls hl => ?_)
    refine x_get C hH.1 1000 mW_o 0 (v := .int 1) rfl rfl (by decide) t_642 (fun _ z => z) d_Mo_pole_49 ?_
    refine lv_if_le (tgt := 57) C.1 C.2.1 d_Mo_pole_52 (by decide) (fun h => absurd h (by decide)) (fun _ => ?_)
    refine x_sx C b_Mo_pole_55_56 hl (L' := [(0, .ref (ad 20)), (1, .int a1), (2, .int a2)]) (st' := [.int 0]) rfl (fun ls hl => ?_)
    exact x_irt C hr hH.2.2 ⟨rfl, hH.1, hH.2.1⟩ (Nat.le_refl _) (Nat.le_refl _) d_Mo_pole_56
  · refine x_sx C b_Mo_pole_14_21 hl (L' := [(0, .ref (ad 20)), (1, .int a1), (2, .int a2)]) (st' := [.int 1000, .int (-1000), .int a2, .ref (ad 20)]) rfl (fun ls hl => ?_)
    refine x_ro (x_cS C (c_Mo_in l G _ a2 (-1000) 1000) t_753 t_14 t_751 t_752 hd_Mo_in blind_Pro (pre_ro C hH.1 hH.2.2) (As := [.int a2, .int (-1000), .int 1000]) (rest := [.ref (ad 20)]) rfl hl.1 rfl rfl rfl ⟨Nat.le_of_ble_eq_true rfl, Nat.le_of_ble_eq_true rfl⟩ (Nat.le_of_ble_eq_true rfl) ⟨Nat.zero_le _, Nat.zero_le _⟩ d_Mo_pole_21) ?_
    refine lv_if_ne (tgt := 31) C.1 C.2.1 d_Mo_pole_24 (by decide) (fun v1 => ?_) (fun v1 => ?_)
    · exact absurd ⟨p_in1 v0, p_in1 v1⟩ hv
    · refine x_sx C b_Mo_pole_27_28 hl (L' := [(0, .ref (ad 20)), (1, .int a1), (2, .int a2)]) (st' := [.int 1, .ref (ad 20)]) rfl (fun ls hl => ?_)
      refine x_goto (tgt := 45) C d_Mo_pole_28 (by decide) ?_
      refine m_put C hH 0 0 rfl (by decide) t_642 rfl rfl rfl rfl d_Mo_pole_45 (fun H locs hH => ?_)
      refine x_sx C b_Mo_pole_48_49 hl (L' := [(0, .ref (ad 20)), (1, .int a1), (2, .int a2)]) (st' := [.ref (ad 20)]) rfl (fun ls hl => ?_)
      refine x_get C hH.1 1000 mW_o 0 (v := .int 1) rfl rfl (by decide) t_642 (fun _ z => z) d_Mo_pole_49 ?_
      refine lv_if_le (tgt := 57) C.1 C.2.1 d_Mo_pole_52 (by decide) (fun h => absurd h (by decide)) (fun _ => ?_)
      refine x_sx C b_Mo_pole_55_56 hl (L' := [(0, .ref (ad 20)), (1, .int a1), (2, .int a2)]) (st' := [.int 0]) rfl (fun ls hl => ?_)
      exact x_irt C hr hH.2.2 ⟨rfl, hH.1, hH.2.1⟩ (Nat.le_refl _) (Nat.le_refl _) d_Mo_pole_56
theorem b_Mo_pole_31_32 : decs prog_7_method_20_code [(.aload_n 0, 1)] 31 32 = true := by decide +kernel
theorem d_Mo_pole_32 : decode prog_7_method_20_code 32 = .ok (.getfield 119, 3) := by decide +kernel
theorem b_Mo_pole_35_37 : decs prog_7_method_20_code [(.bipush 20, 2)] 35 37 = true := by decide +kernel
theorem d_Mo_pole_37 : decode prog_7_method_20_code 37 = .ok (.if_icmp .ne 7, 3) := by decide +kernel
theorem b_Mo_pole_40_41 : decs prog_7_method_20_code [(.iconst 2, 1)] 40 41 = true := by decide +kernel
theorem d_Mo_pole_41 : decode prog_7_method_20_code 41 = .ok (.goto 4, 3) := by decide +kernel
set_option maxRecDepth 100000 in
set_option maxHeartbeats 4000000 in
theorem c_Mo_pole_2 (l : Launch) (G : GG) (A : Nat → Prop) (ad : Nat → Nat) (w0 : WF) (sc : Nat → Int32) (ar : Nat → Nat → Int32) (a1 a2 : Int32) (hv : (p_in a1 (-1000) 1000) = 1 ∧ (p_in a2 (-1000) 1000) = 1) (h6 : sc 6 = 20) : Met l y_Mo_pole (Cond.code y_Mo_pole prog_7_method_20_code 3 (some FieldType.int) :: wt) { frames := 1, cells := 0, slots := 0, locals := 22 } (Pre G A (mW G ad w0 sc ar) (fun _ => True) [.ref (ad 20), .int a1, .int a2]) (Qw A (some (.int 0)) G (mW G ad w0 (va_up sc 0 2) ar)) 0 0 A := by
  refine mt_of (by decide) (Nat.le_of_ble_eq_true rfl) ?_
  intro p e s m below meth c ls C hH hA hE hr hmn hl
  have hl : lv_has ls 3 [(0, .ref (ad 20)), (1, .int a1), (2, .int a2)] := hl
  refine x_sx C b_Mo_pole_0_8 hl (L' := [(0, .ref (ad 20)), (1, .int a1), (2, .int a2)]) (st' := [.int 1000, .int (-1000), .int a1, .ref (ad 20)]) rfl (fun ls hl => ?_)
  refine x_ro (x_cS C (c_Mo_in l G _ a1 (-1000) 1000) t_753 t_14 t_751 t_752 hd_Mo_in blind_Pro (pre_ro C hH.1 hH.2.2) (As := [.int a1, .int (-1000), .int 1000]) (rest := [.ref (ad 20)]) rfl hl.1 rfl rfl rfl ⟨Nat.le_of_ble_eq_true rfl, Nat.le_of_ble_eq_true rfl⟩ (Nat.le_of_ble_eq_true rfl) ⟨Nat.zero_le _, Nat.zero_le _⟩ d_Mo_pole_8) ?_
  refine lv_if_eq (tgt := 27) C.1 C.2.1 d_Mo_pole_11 (by decide) (fun h => absurd h (by rw [hv.1]; first | done | decide)) (fun _ => ?_)
  refine x_sx C b_Mo_pole_14_21 hl (L' := [(0, .ref (ad 20)), (1, .int a1), (2, .int a2)]) (st' := [.int 1000, .int (-1000), .int a2, .ref (ad 20)]) rfl (fun ls hl => ?_)
  refine x_ro (x_cS C (c_Mo_in l G _ a2 (-1000) 1000) t_753 t_14 t_751 t_752 hd_Mo_in blind_Pro (pre_ro C hH.1 hH.2.2) (As := [.int a2, .int (-1000), .int 1000]) (rest := [.ref (ad 20)]) rfl hl.1 rfl rfl rfl ⟨Nat.le_of_ble_eq_true rfl, Nat.le_of_ble_eq_true rfl⟩ (Nat.le_of_ble_eq_true rfl) ⟨Nat.zero_le _, Nat.zero_le _⟩ d_Mo_pole_21) ?_
  refine lv_if_ne (tgt := 31) C.1 C.2.1 d_Mo_pole_24 (by decide) (fun _ => ?_) (fun h => absurd h (by rw [hv.2]; first | done | decide))
  refine x_sx C b_Mo_pole_31_32 hl (L' := [(0, .ref (ad 20)), (1, .int a1), (2, .int a2)]) (st' := [.ref (ad 20), .ref (ad 20)]) rfl (fun ls hl => ?_)
  refine x_get C hH.1 1000 mW_o 12 (v := .int (sc 6)) rfl rfl (by decide) t_654 (fun _ z => z) d_Mo_pole_32 ?_
  refine x_sx C b_Mo_pole_35_37 hl (L' := [(0, .ref (ad 20)), (1, .int a1), (2, .int a2)]) (st' := [.int 20, .int (sc 6), .ref (ad 20)]) rfl (fun ls hl => ?_)
  refine lv_icmp_ne (tgt := 44) C.1 C.2.1 d_Mo_pole_37 (by decide) (fun h => absurd (by rw [h6]; first | done | decide) h) (fun _ => ?_)
  refine x_sx C b_Mo_pole_40_41 hl (L' := [(0, .ref (ad 20)), (1, .int a1), (2, .int a2)]) (st' := [.int 2, .ref (ad 20)]) rfl (fun ls hl => ?_)
  refine x_goto (tgt := 45) C d_Mo_pole_41 (by decide) ?_
  refine m_put C hH 0 0 rfl (by decide) t_642 rfl rfl rfl rfl d_Mo_pole_45 (fun H locs hH => ?_)
  refine x_sx C b_Mo_pole_48_49 hl (L' := [(0, .ref (ad 20)), (1, .int a1), (2, .int a2)]) (st' := [.ref (ad 20)]) rfl (fun ls hl => ?_)
  refine x_get C hH.1 1000 mW_o 0 (v := .int 2) rfl rfl (by decide) t_642 (fun _ z => z) d_Mo_pole_49 ?_
  refine lv_if_le (tgt := 57) C.1 C.2.1 d_Mo_pole_52 (by decide) (fun h => absurd h (by decide)) (fun _ => ?_)
  refine x_sx C b_Mo_pole_55_56 hl (L' := [(0, .ref (ad 20)), (1, .int a1), (2, .int a2)]) (st' := [.int 0]) rfl (fun ls hl => ?_)
  exact x_irt C hr hH.2.2 ⟨rfl, hH.1, hH.2.1⟩ (Nat.le_refl _) (Nat.le_refl _) d_Mo_pole_56
def fPoleS (sc : Nat → Int32) : Nat → Int32 := va_up (va_up sc 0 0) 6 (sc 6 + 1)
def fPoleA (ar : Nat → Nat → Int32) (np : Nat) (a1 a2 : Int32) : Nat → Nat → Int32 := va_up (va_up ar 6 (upd (ar 6) np a1)) 7 (upd (ar 7) np a2)
theorem b_Mo_pole_44_45 : decs prog_7_method_20_code [(.iconst 0, 1)] 44 45 = true := by decide +kernel
theorem b_Mo_pole_57_58 : decs prog_7_method_20_code [(.aload_n 0, 1)] 57 58 = true := by decide +kernel
theorem d_Mo_pole_58 : decode prog_7_method_20_code 58 = .ok (.getfield 32, 3) := by decide +kernel
theorem b_Mo_pole_61_62 : decs prog_7_method_20_code [(.aload_n 0, 1)] 61 62 = true := by decide +kernel
theorem d_Mo_pole_62 : decode prog_7_method_20_code 62 = .ok (.getfield 119, 3) := by decide +kernel
theorem b_Mo_pole_65_66 : decs prog_7_method_20_code [(.iload_n 1, 1)] 65 66 = true := by decide +kernel
theorem d_Mo_pole_66 : decode prog_7_method_20_code 66 = .ok (.iastore, 1) := by decide +kernel
theorem b_Mo_pole_67_68 : decs prog_7_method_20_code [(.aload_n 0, 1)] 67 68 = true := by decide +kernel
theorem d_Mo_pole_68 : decode prog_7_method_20_code 68 = .ok (.getfield 35, 3) := by decide +kernel
theorem b_Mo_pole_71_72 : decs prog_7_method_20_code [(.aload_n 0, 1)] 71 72 = true := by decide +kernel
theorem d_Mo_pole_72 : decode prog_7_method_20_code 72 = .ok (.getfield 119, 3) := by decide +kernel
theorem b_Mo_pole_75_76 : decs prog_7_method_20_code [(.iload_n 2, 1)] 75 76 = true := by decide +kernel
theorem d_Mo_pole_76 : decode prog_7_method_20_code 76 = .ok (.iastore, 1) := by decide +kernel
theorem b_Mo_pole_77_79 : decs prog_7_method_20_code [(.aload_n 0, 1), (.dup, 1)] 77 79 = true := by decide +kernel
theorem d_Mo_pole_79 : decode prog_7_method_20_code 79 = .ok (.getfield 119, 3) := by decide +kernel
theorem b_Mo_pole_82_84 : decs prog_7_method_20_code [(.iconst 1, 1), (.iadd, 1)] 82 84 = true := by decide +kernel
theorem d_Mo_pole_84 : decode prog_7_method_20_code 84 = .ok (.putfield 119, 3) := by decide +kernel
theorem b_Mo_pole_87_88 : decs prog_7_method_20_code [(.aload_n 0, 1)] 87 88 = true := by decide +kernel
theorem d_Mo_pole_88 : decode prog_7_method_20_code 88 = .ok (.getfield 119, 3) := by decide +kernel
theorem b_Mo_pole_91_93 : decs prog_7_method_20_code [(.iconst 1, 1), (.isub, 1)] 91 93 = true := by decide +kernel
theorem d_Mo_pole_93 : decode prog_7_method_20_code 93 = .ok (.ireturn, 1) := by decide +kernel
set_option maxRecDepth 100000 in
set_option maxHeartbeats 4000000 in
theorem c_Mo_pole (l : Launch) (G : GG) (A : Nat → Prop) (ad : Nat → Nat) (w0 : WF) (sc : Nat → Int32) (ar : Nat → Nat → Int32) (a1 a2 : Int32) (np : Nat) (hv : (p_in a1 (-1000) 1000) = 1 ∧ (p_in a2 (-1000) 1000) = 1) (h6 : sc 6 = nI np) (hnp : np < 20) : Met l y_Mo_pole (Cond.code y_Mo_pole prog_7_method_20_code 3 (some FieldType.int) :: wt) { frames := 1, cells := 0, slots := 0, locals := 22 } (Pre G A (mW G ad w0 sc ar) (fun _ => True) [.ref (ad 20), .int a1, .int a2]) (Qw A (some (.int (nI np))) G (mW G ad w0 (fPoleS sc) (fPoleA ar np a1 a2))) 0 0 A := by
  refine mt_of (by decide) (Nat.le_of_ble_eq_true rfl) ?_
  intro p e s m below meth c ls C hH hA hE hr hmn hl
  have hl : lv_has ls 3 [(0, .ref (ad 20)), (1, .int a1), (2, .int a2)] := hl
  have hne : ¬ sc 6 = 20 := by rw [h6, show (20 : Int32) = nI 20 from rfl, nI_eq (by omega) (by omega)]; omega
  refine x_sx C b_Mo_pole_0_8 hl (L' := [(0, .ref (ad 20)), (1, .int a1), (2, .int a2)]) (st' := [.int 1000, .int (-1000), .int a1, .ref (ad 20)]) rfl (fun ls hl => ?_)
  refine x_ro (x_cS C (c_Mo_in l G _ a1 (-1000) 1000) t_753 t_14 t_751 t_752 hd_Mo_in blind_Pro (pre_ro C hH.1 hH.2.2) (As := [.int a1, .int (-1000), .int 1000]) (rest := [.ref (ad 20)]) rfl hl.1 rfl rfl rfl ⟨Nat.le_of_ble_eq_true rfl, Nat.le_of_ble_eq_true rfl⟩ (Nat.le_of_ble_eq_true rfl) ⟨Nat.zero_le _, Nat.zero_le _⟩ d_Mo_pole_8) ?_
  refine lv_if_eq (tgt := 27) C.1 C.2.1 d_Mo_pole_11 (by decide) (fun h => absurd h (by rw [hv.1]; first | done | decide)) (fun _ => ?_)
  refine x_sx C b_Mo_pole_14_21 hl (L' := [(0, .ref (ad 20)), (1, .int a1), (2, .int a2)]) (st' := [.int 1000, .int (-1000), .int a2, .ref (ad 20)]) rfl (fun ls hl => ?_)
  refine x_ro (x_cS C (c_Mo_in l G _ a2 (-1000) 1000) t_753 t_14 t_751 t_752 hd_Mo_in blind_Pro (pre_ro C hH.1 hH.2.2) (As := [.int a2, .int (-1000), .int 1000]) (rest := [.ref (ad 20)]) rfl hl.1 rfl rfl rfl ⟨Nat.le_of_ble_eq_true rfl, Nat.le_of_ble_eq_true rfl⟩ (Nat.le_of_ble_eq_true rfl) ⟨Nat.zero_le _, Nat.zero_le _⟩ d_Mo_pole_21) ?_
  refine lv_if_ne (tgt := 31) C.1 C.2.1 d_Mo_pole_24 (by decide) (fun _ => ?_) (fun h => absurd h (by rw [hv.2]; first | done | decide))
  refine x_sx C b_Mo_pole_31_32 hl (L' := [(0, .ref (ad 20)), (1, .int a1), (2, .int a2)]) (st' := [.ref (ad 20), .ref (ad 20)]) rfl (fun ls hl => ?_)
  refine x_get C hH.1 1000 mW_o 12 (v := .int (sc 6)) rfl rfl (by decide) t_654 (fun _ z => z) d_Mo_pole_32 ?_
  refine x_sx C b_Mo_pole_35_37 hl (L' := [(0, .ref (ad 20)), (1, .int a1), (2, .int a2)]) (st' := [.int 20, .int (sc 6), .ref (ad 20)]) rfl (fun ls hl => ?_)
  refine lv_icmp_ne (tgt := 44) C.1 C.2.1 d_Mo_pole_37 (by decide) (fun _ => ?_) (fun h => absurd h hne)
  refine x_sx C b_Mo_pole_44_45 hl (L' := [(0, .ref (ad 20)), (1, .int a1), (2, .int a2)]) (st' := [.int 0, .ref (ad 20)]) rfl (fun ls hl => ?_)
  refine m_put C hH 0 0 rfl (by decide) t_642 rfl rfl rfl rfl d_Mo_pole_45 (fun H locs hH => ?_)
  refine x_sx C b_Mo_pole_48_49 hl (L' := [(0, .ref (ad 20)), (1, .int a1), (2, .int a2)]) (st' := [.ref (ad 20)]) rfl (fun ls hl => ?_)
  refine x_get C hH.1 1000 mW_o 0 (v := .int 0) rfl rfl (by decide) t_642 (fun _ z => z) d_Mo_pole_49 ?_
  refine lv_if_le (tgt := 57) C.1 C.2.1 d_Mo_pole_52 (by decide) (fun _ => ?_) (fun h => absurd (by decide) h)
  refine x_sx C b_Mo_pole_57_58 hl (L' := [(0, .ref (ad 20)), (1, .int a1), (2, .int a2)]) (st' := [.ref (ad 20)]) rfl (fun ls hl => ?_)
  refine x_get C hH.1 1000 mW_o 13 (v := .ref (ad 6)) rfl rfl (by decide) t_655 (fun _ z => z) d_Mo_pole_58 ?_
  refine x_sx C b_Mo_pole_61_62 hl (L' := [(0, .ref (ad 20)), (1, .int a1), (2, .int a2)]) (st' := [.ref (ad 20), .ref (ad 6)]) rfl (fun ls hl => ?_)
  refine x_get C hH.1 1000 mW_o 12 (v := .int (sc 6)) rfl rfl (by decide) t_654 (fun _ z => z) d_Mo_pole_62 ?_
  refine x_sx C b_Mo_pole_65_66 hl (L' := [(0, .ref (ad 20)), (1, .int a1), (2, .int a2)]) (st' := [.int a1, .int (sc 6), .ref (ad 6)]) rfl (fun ls hl => ?_)
  refine m_ast C hH 6 (by decide) (by decide) rfl (N := 20) rfl (f := (ar 6)) rfl (j := np) h6 (by omega) d_Mo_pole_66 (fun H locs hH => ?_)
  refine x_sx C b_Mo_pole_67_68 hl (L' := [(0, .ref (ad 20)), (1, .int a1), (2, .int a2)]) (st' := [.ref (ad 20)]) rfl (fun ls hl => ?_)
  refine x_get C hH.1 1000 mW_o 14 (v := .ref (ad 7)) rfl rfl (by decide) t_656 (fun _ z => z) d_Mo_pole_68 ?_
  refine x_sx C b_Mo_pole_71_72 hl (L' := [(0, .ref (ad 20)), (1, .int a1), (2, .int a2)]) (st' := [.ref (ad 20), .ref (ad 7)]) rfl (fun ls hl => ?_)
  refine x_get C hH.1 1000 mW_o 12 (v := .int (sc 6)) rfl rfl (by decide) t_654 (fun _ z => z) d_Mo_pole_72 ?_
  refine x_sx C b_Mo_pole_75_76 hl (L' := [(0, .ref (ad 20)), (1, .int a1), (2, .int a2)]) (st' := [.int a2, .int (sc 6), .ref (ad 7)]) rfl (fun ls hl => ?_)
  refine m_ast C hH 7 (by decide) (by decide) rfl (N := 20) rfl (f := (ar 7)) rfl (j := np) h6 (by omega) d_Mo_pole_76 (fun H locs hH => ?_)
  refine x_sx C b_Mo_pole_77_79 hl (L' := [(0, .ref (ad 20)), (1, .int a1), (2, .int a2)]) (st' := [.ref (ad 20), .ref (ad 20)]) rfl (fun ls hl => ?_)
  refine x_get C hH.1 1000 mW_o 12 (v := .int (sc 6)) rfl rfl (by decide) t_654 (fun _ z => z) d_Mo_pole_79 ?_
  refine x_sx C b_Mo_pole_82_84 hl (L' := [(0, .ref (ad 20)), (1, .int a1), (2, .int a2)]) (st' := [.int ((sc 6) + 1), .ref (ad 20)]) rfl (fun ls hl => ?_)
  refine m_put C hH 12 6 rfl (by decide) t_654 rfl rfl rfl rfl d_Mo_pole_84 (fun H locs hH => ?_)
  refine x_sx C b_Mo_pole_87_88 hl (L' := [(0, .ref (ad 20)), (1, .int a1), (2, .int a2)]) (st' := [.ref (ad 20)]) rfl (fun ls hl => ?_)
  refine x_get C hH.1 1000 mW_o 12 (v := .int ((sc 6) + 1)) rfl rfl (by decide) t_654 (fun _ z => z) d_Mo_pole_88 ?_
  refine x_sx C b_Mo_pole_91_93 hl (L' := [(0, .ref (ad 20)), (1, .int a1), (2, .int a2)]) (st' := [.int (((sc 6) + 1) - 1)]) rfl (fun ls hl => ?_)
  exact x_irt C hr hH.2.2 ⟨by rw [h6]; exact congrArg (fun q => some (Value.int q)) (by rw [nI_1]; exact nI_pred np), hH.1, hH.2.1⟩ (Nat.le_refl _) (Nat.le_refl _) d_Mo_pole_93
theorem hd_Mo_pole : hdP y_Mo_pole 2 := ⟨by decide +kernel, by decide +kernel, by decide +kernel⟩
theorem b_Mo_go_0_5 : decs prog_7_method_21_code [(.aload_n 0, 1), (.iload_n 1, 1), (.bipush (-3), 2), (.iconst 3, 1)] 0 5 = true := by decide +kernel
theorem d_Mo_go_5 : decode prog_7_method_21_code 5 = .ok (.invokestatic 152, 3) := by decide +kernel
theorem d_Mo_go_8 : decode prog_7_method_21_code 8 = .ok (.ifCond .eq 14, 3) := by decide +kernel
theorem b_Mo_go_22_23 : decs prog_7_method_21_code [(.iconst 1, 1)] 22 23 = true := by decide +kernel
theorem d_Mo_go_23 : decode prog_7_method_21_code 23 = .ok (.goto 15, 3) := by decide +kernel
theorem d_Mo_go_38 : decode prog_7_method_21_code 38 = .ok (.putfield 87, 3) := by decide +kernel
theorem b_Mo_go_41_42 : decs prog_7_method_21_code [(.aload_n 0, 1)] 41 42 = true := by decide +kernel
theorem d_Mo_go_42 : decode prog_7_method_21_code 42 = .ok (.getfield 87, 3) := by decide +kernel
theorem d_Mo_go_45 : decode prog_7_method_21_code 45 = .ok (.ifCond .le 5, 3) := by decide +kernel
theorem b_Mo_go_48_49 : decs prog_7_method_21_code [(.iconst 0, 1)] 48 49 = true := by decide +kernel
theorem d_Mo_go_49 : decode prog_7_method_21_code 49 = .ok (.ireturn, 1) := by decide +kernel
theorem b_Mo_go_11_16 : decs prog_7_method_21_code [(.iload_n 2, 1), (.iconst 1, 1), (.sipush 200, 3)] 11 16 = true := by decide +kernel
theorem d_Mo_go_16 : decode prog_7_method_21_code 16 = .ok (.invokestatic 152, 3) := by decide +kernel
theorem d_Mo_go_19 : decode prog_7_method_21_code 19 = .ok (.ifCond .ne 7, 3) := by decide +kernel
set_option maxRecDepth 100000 in
set_option maxHeartbeats 4000000 in
theorem c_Mo_go_1 (l : Launch) (G : GG) (A : Nat → Prop) (ad : Nat → Nat) (w0 : WF) (sc : Nat → Int32) (ar : Nat → Nat → Int32) (a1 a2 fw : Int32) (hv : ¬ ((p_in a1 (-3) 3) = 1 ∧ (p_in a2 1 200) = 1)) : Met l y_Mo_go (Cond.code y_Mo_go prog_7_method_21_code 4 (some FieldType.int) :: wt) { frames := 6, cells := 0, slots := 0, locals := 156 } (Pre G A (mW G ad w0 sc ar) (fun _ => True) [.ref (ad 20), .int a1, .int a2, .int fw]) (Qw A (some (.int 0)) G (mW G ad w0 (va_up sc 0 1) ar)) 0 0 A := by
  refine mt_of (by decide) (Nat.le_of_ble_eq_true rfl) ?_
  intro p e s m below meth c ls C hH hA hE hr hmn hl
  have hl : lv_has ls 4 [(0, .ref (ad 20)), (1, .int a1), (2, .int a2), (3, .int fw)] := hl
  refine x_sx C b_Mo_go_0_5 hl (L' := [(0, .ref (ad 20)), (1, .int a1), (2, .int a2), (3, .int fw)]) (st' := [.int 3, .int (-3), .int a1, .ref (ad 20)]) rfl (fun ls hl => ?_)
  refine x_ro (x_cS C (c_Mo_in l G _ a1 (-3) 3) t_753 t_14 t_751 t_752 hd_Mo_in blind_Pro (pre_ro C hH.1 hH.2.2) (As := [.int a1, .int (-3), .int 3]) (rest := [.ref (ad 20)]) rfl hl.1 rfl rfl rfl ⟨Nat.le_of_ble_eq_true rfl, Nat.le_of_ble_eq_true rfl⟩ (Nat.le_of_ble_eq_true rfl) ⟨Nat.zero_le _, Nat.zero_le _⟩ d_Mo_go_5) ?_
  refine lv_if_eq (tgt := 22) C.1 C.2.1 d_Mo_go_8 (by decide) (fun v0 => ?_) (fun v0 => ?_)
  · refine x_sx C b_Mo_go_22_23 hl (L' := [(0, .ref (ad 20)), (1, .int a1), (2, .int a2), (3, .int fw)]) (st' := [.int 1, .ref (ad 20)]) rfl (fun ls hl => ?_)
    refine x_goto (tgt := 38) C d_Mo_go_23 (by decide) ?_
    refine m_put C hH 0 0 rfl (by decide) t_642 rfl rfl rfl rfl d_Mo_go_38 (fun H locs hH => ?_)
    refine x_sx C b_Mo_go_41_42 hl (L' := [(0, .ref (ad 20)), (1, .int a1), (2, .int a2), (3, .int fw)]) (st' := [.ref (ad 20)]) rfl (fun ls hl => ?_)
    refine x_get C hH.1 1000 mW_o 0 (v := .int 1) rfl rfl (by decide) t_642 (fun _ z => z) d_Mo_go_42 ?_
    refine lv_if_le (tgt := 50) C.1 C.2.1 d_Mo_go_45 (by decide) (fun h => absurd h (by decide)) (fun _ => ?_)
    refine x_sx C b_Mo_go_48_49 hl (L' := [(0, .ref (ad 20)), (1, .int a1), (2, .int a2), (3, .int fw)]) (st' := [.int 0]) rfl (fun ls hl => ?_)
    exact x_irt C hr hH.2.2 ⟨rfl, hH.1, hH.2.1⟩ (Nat.le_refl _) (Nat.le_refl _) d_Mo_go_49
  · refine x_sx C b_Mo_go_11_16 hl (L' := [(0, .ref (ad 20)), (1, .int a1), (2, .int a2), (3, .int fw)]) (st' := [.int 200, .int 1, .int a2, .ref (ad 20)]) rfl (fun ls hl => ?_)
    refine x_ro (x_cS C (c_Mo_in l G _ a2 1 200) t_753 t_14 t_751 t_752 hd_Mo_in blind_Pro (pre_ro C hH.1 hH.2.2) (As := [.int a2, .int 1, .int 200]) (rest := [.ref (ad 20)]) rfl hl.1 rfl rfl rfl ⟨Nat.le_of_ble_eq_true rfl, Nat.le_of_ble_eq_true rfl⟩ (Nat.le_of_ble_eq_true rfl) ⟨Nat.zero_le _, Nat.zero_le _⟩ d_Mo_go_16) ?_
    refine lv_if_ne (tgt := 26) C.1 C.2.1 d_Mo_go_19 (by decide) (fun v1 => ?_) (fun v1 => ?_)
    · exact absurd ⟨p_in1 v0, p_in1 v1⟩ hv
    · refine x_sx C b_Mo_go_22_23 hl (L' := [(0, .ref (ad 20)), (1, .int a1), (2, .int a2), (3, .int fw)]) (st' := [.int 1, .ref (ad 20)]) rfl (fun ls hl => ?_)
      refine x_goto (tgt := 38) C d_Mo_go_23 (by decide) ?_
      refine m_put C hH 0 0 rfl (by decide) t_642 rfl rfl rfl rfl d_Mo_go_38 (fun H locs hH => ?_)
      refine x_sx C b_Mo_go_41_42 hl (L' := [(0, .ref (ad 20)), (1, .int a1), (2, .int a2), (3, .int fw)]) (st' := [.ref (ad 20)]) rfl (fun ls hl => ?_)
      refine x_get C hH.1 1000 mW_o 0 (v := .int 1) rfl rfl (by decide) t_642 (fun _ z => z) d_Mo_go_42 ?_
      refine lv_if_le (tgt := 50) C.1 C.2.1 d_Mo_go_45 (by decide) (fun h => absurd h (by decide)) (fun _ => ?_)
      refine x_sx C b_Mo_go_48_49 hl (L' := [(0, .ref (ad 20)), (1, .int a1), (2, .int a2), (3, .int fw)]) (st' := [.int 0]) rfl (fun ls hl => ?_)
      exact x_irt C hr hH.2.2 ⟨rfl, hH.1, hH.2.1⟩ (Nat.le_refl _) (Nat.le_refl _) d_Mo_go_49
theorem b_Mo_go_26_27 : decs prog_7_method_21_code [(.aload_n 0, 1)] 26 27 = true := by decide +kernel
theorem d_Mo_go_27 : decode prog_7_method_21_code 27 = .ok (.getfield 84, 3) := by decide +kernel
theorem d_Mo_go_30 : decode prog_7_method_21_code 30 = .ok (.ifCond .ne 7, 3) := by decide +kernel
theorem b_Mo_go_33_34 : decs prog_7_method_21_code [(.iconst 2, 1)] 33 34 = true := by decide +kernel
theorem d_Mo_go_34 : decode prog_7_method_21_code 34 = .ok (.goto 4, 3) := by decide +kernel
set_option maxRecDepth 100000 in
set_option maxHeartbeats 4000000 in
theorem c_Mo_go_2 (l : Launch) (G : GG) (A : Nat → Prop) (ad : Nat → Nat) (w0 : WF) (sc : Nat → Int32) (ar : Nat → Nat → Int32) (a1 a2 fw : Int32) (hv : (p_in a1 (-3) 3) = 1 ∧ (p_in a2 1 200) = 1) (h1 : sc 1 = 0) : Met l y_Mo_go (Cond.code y_Mo_go prog_7_method_21_code 4 (some FieldType.int) :: wt) { frames := 6, cells := 0, slots := 0, locals := 156 } (Pre G A (mW G ad w0 sc ar) (fun _ => True) [.ref (ad 20), .int a1, .int a2, .int fw]) (Qw A (some (.int 0)) G (mW G ad w0 (va_up sc 0 2) ar)) 0 0 A := by
  refine mt_of (by decide) (Nat.le_of_ble_eq_true rfl) ?_
  intro p e s m below meth c ls C hH hA hE hr hmn hl
  have hl : lv_has ls 4 [(0, .ref (ad 20)), (1, .int a1), (2, .int a2), (3, .int fw)] := hl
  refine x_sx C b_Mo_go_0_5 hl (L' := [(0, .ref (ad 20)), (1, .int a1), (2, .int a2), (3, .int fw)]) (st' := [.int 3, .int (-3), .int a1, .ref (ad 20)]) rfl (fun ls hl => ?_)
  refine x_ro (x_cS C (c_Mo_in l G _ a1 (-3) 3) t_753 t_14 t_751 t_752 hd_Mo_in blind_Pro (pre_ro C hH.1 hH.2.2) (As := [.int a1, .int (-3), .int 3]) (rest := [.ref (ad 20)]) rfl hl.1 rfl rfl rfl ⟨Nat.le_of_ble_eq_true rfl, Nat.le_of_ble_eq_true rfl⟩ (Nat.le_of_ble_eq_true rfl) ⟨Nat.zero_le _, Nat.zero_le _⟩ d_Mo_go_5) ?_
  refine lv_if_eq (tgt := 22) C.1 C.2.1 d_Mo_go_8 (by decide) (fun h => absurd h (by rw [hv.1]; first | done | decide)) (fun _ => ?_)
  refine x_sx C b_Mo_go_11_16 hl (L' := [(0, .ref (ad 20)), (1, .int a1), (2, .int a2), (3, .int fw)]) (st' := [.int 200, .int 1, .int a2, .ref (ad 20)]) rfl (fun ls hl => ?_)
  refine x_ro (x_cS C (c_Mo_in l G _ a2 1 200) t_753 t_14 t_751 t_752 hd_Mo_in blind_Pro (pre_ro C hH.1 hH.2.2) (As := [.int a2, .int 1, .int 200]) (rest := [.ref (ad 20)]) rfl hl.1 rfl rfl rfl ⟨Nat.le_of_ble_eq_true rfl, Nat.le_of_ble_eq_true rfl⟩ (Nat.le_of_ble_eq_true rfl) ⟨Nat.zero_le _, Nat.zero_le _⟩ d_Mo_go_16) ?_
  refine lv_if_ne (tgt := 26) C.1 C.2.1 d_Mo_go_19 (by decide) (fun _ => ?_) (fun h => absurd h (by rw [hv.2]; first | done | decide))
  refine x_sx C b_Mo_go_26_27 hl (L' := [(0, .ref (ad 20)), (1, .int a1), (2, .int a2), (3, .int fw)]) (st' := [.ref (ad 20), .ref (ad 20)]) rfl (fun ls hl => ?_)
  refine x_get C hH.1 1000 mW_o 2 (v := .int (sc 1)) rfl rfl (by decide) t_644 (fun _ z => z) d_Mo_go_27 ?_
  refine lv_if_ne (tgt := 37) C.1 C.2.1 d_Mo_go_30 (by decide) (fun h => absurd (by rw [h1]; first | done | decide) h) (fun _ => ?_)
  refine x_sx C b_Mo_go_33_34 hl (L' := [(0, .ref (ad 20)), (1, .int a1), (2, .int a2), (3, .int fw)]) (st' := [.int 2, .ref (ad 20)]) rfl (fun ls hl => ?_)
  refine x_goto (tgt := 38) C d_Mo_go_34 (by decide) ?_
  refine m_put C hH 0 0 rfl (by decide) t_642 rfl rfl rfl rfl d_Mo_go_38 (fun H locs hH => ?_)
  refine x_sx C b_Mo_go_41_42 hl (L' := [(0, .ref (ad 20)), (1, .int a1), (2, .int a2), (3, .int fw)]) (st' := [.ref (ad 20)]) rfl (fun ls hl => ?_)
  refine x_get C hH.1 1000 mW_o 0 (v := .int 2) rfl rfl (by decide) t_642 (fun _ z => z) d_Mo_go_42 ?_
  refine lv_if_le (tgt := 50) C.1 C.2.1 d_Mo_go_45 (by decide) (fun h => absurd h (by decide)) (fun _ => ?_)
  refine x_sx C b_Mo_go_48_49 hl (L' := [(0, .ref (ad 20)), (1, .int a1), (2, .int a2), (3, .int fw)]) (st' := [.int 0]) rfl (fun ls hl => ?_)
  exact x_irt C hr hH.2.2 ⟨rfl, hH.1, hH.2.1⟩ (Nat.le_refl _) (Nat.le_refl _) d_Mo_go_49
theorem b_Mo_go_37_38 : decs prog_7_method_21_code [(.iconst 0, 1)] 37 38 = true := by decide +kernel
theorem b_Mo_go_50_54 : decs prog_7_method_21_code [(.aload_n 0, 1), (.iload_n 1, 1), (.iload_n 2, 1), (.iload_n 3, 1)] 50 54 = true := by decide +kernel
theorem d_Mo_go_54 : decode prog_7_method_21_code 54 = .ok (.invokevirtual 158, 3) := by decide +kernel
theorem b_Mo_go_57_58 : decs prog_7_method_21_code [(.aload_n 0, 1)] 57 58 = true := by decide +kernel
theorem d_Mo_go_58 : decode prog_7_method_21_code 58 = .ok (.getfield 122, 3) := by decide +kernel
theorem d_Mo_go_61 : decode prog_7_method_21_code 61 = .ok (.ireturn, 1) := by decide +kernel
set_option maxRecDepth 100000 in
set_option maxHeartbeats 4000000 in
theorem c_Mo_go (l : Launch) (G : GG) (A : Nat → Prop) (ad : Nat → Nat) (w0 : WF) (sc : Nat → Int32) (ar : Nat → Nat → Int32) (a1 fw : Int32) (n np N : Nat) (K : SA → Prop) (hN : N < 2 ^ 31) (hv : (p_in a1 (-3) 3) = 1 ∧ (p_in (nI N) 1 200) = 1) (h1 : ¬ sc 1 = 0) (hK : Kp n np K) (h0 : K (va_up sc 0 0, ar)) : Met l y_Mo_go (Cond.code y_Mo_go prog_7_method_21_code 4 (some FieldType.int) :: wt) { frames := 6, cells := 0, slots := 0, locals := 156 } (Pre G A (mW G ad w0 sc ar) (fun _ => True) [.ref (ad 20), .int a1, .int (nI N), .int fw]) (Qw A (some (.int ((fGo (va_up sc 0 0, ar) a1 (nI N) fw).1 7))) G (mW G ad w0 (fGo (va_up sc 0 0, ar) a1 (nI N) fw).1 (fGo (va_up sc 0 0, ar) a1 (nI N) fw).2)) 0 0 A := by
  refine mt_of (by decide) (Nat.le_of_ble_eq_true rfl) ?_
  intro p e s m below meth c ls C hH hA hE hr hmn hl
  have hl : lv_has ls 4 [(0, .ref (ad 20)), (1, .int a1), (2, .int (nI N)), (3, .int fw)] := hl
  refine x_sx C b_Mo_go_0_5 hl (L' := [(0, .ref (ad 20)), (1, .int a1), (2, .int (nI N)), (3, .int fw)]) (st' := [.int 3, .int (-3), .int a1, .ref (ad 20)]) rfl (fun ls hl => ?_)
  refine x_ro (x_cS C (c_Mo_in l G _ a1 (-3) 3) t_753 t_14 t_751 t_752 hd_Mo_in blind_Pro (pre_ro C hH.1 hH.2.2) (As := [.int a1, .int (-3), .int 3]) (rest := [.ref (ad 20)]) rfl hl.1 rfl rfl rfl ⟨Nat.le_of_ble_eq_true rfl, Nat.le_of_ble_eq_true rfl⟩ (Nat.le_of_ble_eq_true rfl) ⟨Nat.zero_le _, Nat.zero_le _⟩ d_Mo_go_5) ?_
  refine lv_if_eq (tgt := 22) C.1 C.2.1 d_Mo_go_8 (by decide) (fun h => absurd h (by rw [hv.1]; first | done | decide)) (fun _ => ?_)
  refine x_sx C b_Mo_go_11_16 hl (L' := [(0, .ref (ad 20)), (1, .int a1), (2, .int (nI N)), (3, .int fw)]) (st' := [.int 200, .int 1, .int (nI N), .ref (ad 20)]) rfl (fun ls hl => ?_)
  refine x_ro (x_cS C (c_Mo_in l G _ (nI N) 1 200) t_753 t_14 t_751 t_752 hd_Mo_in blind_Pro (pre_ro C hH.1 hH.2.2) (As := [.int (nI N), .int 1, .int 200]) (rest := [.ref (ad 20)]) rfl hl.1 rfl rfl rfl ⟨Nat.le_of_ble_eq_true rfl, Nat.le_of_ble_eq_true rfl⟩ (Nat.le_of_ble_eq_true rfl) ⟨Nat.zero_le _, Nat.zero_le _⟩ d_Mo_go_16) ?_
  refine lv_if_ne (tgt := 26) C.1 C.2.1 d_Mo_go_19 (by decide) (fun _ => ?_) (fun h => absurd h (by rw [hv.2]; first | done | decide))
  refine x_sx C b_Mo_go_26_27 hl (L' := [(0, .ref (ad 20)), (1, .int a1), (2, .int (nI N)), (3, .int fw)]) (st' := [.ref (ad 20), .ref (ad 20)]) rfl (fun ls hl => ?_)
  refine x_get C hH.1 1000 mW_o 2 (v := .int (sc 1)) rfl rfl (by decide) t_644 (fun _ z => z) d_Mo_go_27 ?_
  refine lv_if_ne (tgt := 37) C.1 C.2.1 d_Mo_go_30 (by decide) (fun _ => ?_) (fun h => absurd h h1)
  refine x_sx C b_Mo_go_37_38 hl (L' := [(0, .ref (ad 20)), (1, .int a1), (2, .int (nI N)), (3, .int fw)]) (st' := [.int 0, .ref (ad 20)]) rfl (fun ls hl => ?_)
  refine m_put C hH 0 0 rfl (by decide) t_642 rfl rfl rfl rfl d_Mo_go_38 (fun H locs hH => ?_)
  refine x_sx C b_Mo_go_41_42 hl (L' := [(0, .ref (ad 20)), (1, .int a1), (2, .int (nI N)), (3, .int fw)]) (st' := [.ref (ad 20)]) rfl (fun ls hl => ?_)
  refine x_get C hH.1 1000 mW_o 0 (v := .int 0) rfl rfl (by decide) t_642 (fun _ z => z) d_Mo_go_42 ?_
  refine lv_if_le (tgt := 50) C.1 C.2.1 d_Mo_go_45 (by decide) (fun _ => ?_) (fun h => absurd (by decide) h)
  refine x_sx C b_Mo_go_50_54 hl (L' := [(0, .ref (ad 20)), (1, .int a1), (2, .int (nI N)), (3, .int fw)]) (st' := [.int fw, .int (nI N), .int a1, .ref (ad 20)]) rfl (fun ls hl => ?_)
  refine x_mw0 (x_cV C hH.1 mW_o rfl (c_Mo_goOn l G A ad w0 (va_up sc 0 0) ar n np N a1 fw K hN (p_inE.mp hv.1) hK h0) t_807 t_14 t_804 t_806 ts_20 hd_Mo_goOn blind_Pre (pre_mt C hH hA trivial) (As := [.int a1, .int (nI N), .int fw]) (rest := []) rfl hl.1 rfl rfl rfl ⟨Nat.le_of_ble_eq_true rfl, Nat.le_of_ble_eq_true rfl⟩ (Nat.le_of_ble_eq_true rfl) ⟨Nat.zero_le _, Nat.zero_le _⟩ d_Mo_go_54) hH.2.2 (fun H locs hH => ?_)
  refine x_sx C b_Mo_go_57_58 hl (L' := [(0, .ref (ad 20)), (1, .int a1), (2, .int (nI N)), (3, .int fw)]) (st' := [.ref (ad 20)]) rfl (fun ls hl => ?_)
  refine x_get C hH.1 1000 mW_o 24 (v := .int ((fGo (va_up sc 0 0, ar) a1 (nI N) fw).1 7)) rfl rfl (by decide) t_666 (fun _ z => z) d_Mo_go_58 ?_
  exact x_irt C hr hH.2.2 ⟨rfl, hH.1, hH.2.1⟩ (Nat.le_refl _) (Nat.le_refl _) d_Mo_go_61
theorem hd_Mo_go : hdP y_Mo_go 3 := ⟨by decide +kernel, by decide +kernel, by decide +kernel⟩
theorem b_Mo_swept_0_2 : decs prog_7_method_24_code [(.aload_n 0, 1), (.iconst 0, 1)] 0 2 = true := by decide +kernel
theorem d_Mo_swept_2 : decode prog_7_method_24_code 2 = .ok (.putfield 87, 3) := by decide +kernel
theorem b_Mo_swept_5_6 : decs prog_7_method_24_code [(.aload_n 0, 1)] 5 6 = true := by decide +kernel
theorem d_Mo_swept_6 : decode prog_7_method_24_code 6 = .ok (.getfield 116, 3) := by decide +kernel
theorem d_Mo_swept_9 : decode prog_7_method_24_code 9 = .ok (.ireturn, 1) := by decide +kernel
set_option maxRecDepth 100000 in
set_option maxHeartbeats 4000000 in
theorem c_Mo_swept (l : Launch) (G : GG) (A : Nat → Prop) (ad : Nat → Nat) (w0 : WF) (sc : Nat → Int32) (ar : Nat → Nat → Int32)  : Met l y_Mo_swept (Cond.code y_Mo_swept prog_7_method_24_code 1 (some FieldType.int) :: wt) { frames := 0, cells := 0, slots := 0, locals := 0 } (Pre G A (mW G ad w0 sc ar) (fun _ => True) [.ref (ad 20)]) (Qw A (some (.int (sc 12))) G (mW G ad w0 (va_up sc 0 0) ar)) 0 0 A := by
  refine mt_of (by decide) (Nat.le_of_ble_eq_true rfl) ?_
  intro p e s m below meth c ls C hH hA hE hr hmn hl
  have hl : lv_has ls 1 [(0, .ref (ad 20))] := hl
  refine x_sx C b_Mo_swept_0_2 hl (L' := [(0, .ref (ad 20))]) (st' := [.int 0, .ref (ad 20)]) rfl (fun ls hl => ?_)
  refine m_put C hH 0 0 rfl (by decide) t_642 rfl rfl rfl rfl d_Mo_swept_2 (fun H locs hH => ?_)
  refine x_sx C b_Mo_swept_5_6 hl (L' := [(0, .ref (ad 20))]) (st' := [.ref (ad 20)]) rfl (fun ls hl => ?_)
  refine x_get C hH.1 1000 mW_o 29 (v := .int (sc 12)) rfl rfl (by decide) t_671 (fun _ z => z) d_Mo_swept_6 ?_
  exact x_irt C hr hH.2.2 ⟨rfl, hH.1, hH.2.1⟩ (Nat.le_refl _) (Nat.le_refl _) d_Mo_swept_9
theorem hd_Mo_swept : hdP y_Mo_swept 0 := ⟨by decide +kernel, by decide +kernel, by decide +kernel⟩
theorem b_Mo_isStuck_0_2 : decs prog_7_method_27_code [(.aload_n 0, 1), (.iconst 0, 1)] 0 2 = true := by decide +kernel
theorem d_Mo_isStuck_2 : decode prog_7_method_27_code 2 = .ok (.putfield 87, 3) := by decide +kernel
theorem b_Mo_isStuck_5_6 : decs prog_7_method_27_code [(.aload_n 0, 1)] 5 6 = true := by decide +kernel
theorem d_Mo_isStuck_6 : decode prog_7_method_27_code 6 = .ok (.getfield 125, 3) := by decide +kernel
theorem d_Mo_isStuck_9 : decode prog_7_method_27_code 9 = .ok (.ireturn, 1) := by decide +kernel
set_option maxRecDepth 100000 in
set_option maxHeartbeats 4000000 in
theorem c_Mo_isStuck (l : Launch) (G : GG) (A : Nat → Prop) (ad : Nat → Nat) (w0 : WF) (sc : Nat → Int32) (ar : Nat → Nat → Int32)  (h8 : sc 8 = 0 ∨ sc 8 = 1) : Met l y_Mo_isStuck (Cond.code y_Mo_isStuck prog_7_method_27_code 1 (some FieldType.boolean) :: wt) { frames := 0, cells := 0, slots := 0, locals := 0 } (Pre G A (mW G ad w0 sc ar) (fun _ => True) [.ref (ad 20)]) (Qw A (some (.int (sc 8))) G (mW G ad w0 (va_up sc 0 0) ar)) 0 0 A := by
  refine mt_of (by decide) (Nat.le_of_ble_eq_true rfl) ?_
  intro p e s m below meth c ls C hH hA hE hr hmn hl
  have hl : lv_has ls 1 [(0, .ref (ad 20))] := hl
  refine x_sx C b_Mo_isStuck_0_2 hl (L' := [(0, .ref (ad 20))]) (st' := [.int 0, .ref (ad 20)]) rfl (fun ls hl => ?_)
  refine m_put C hH 0 0 rfl (by decide) t_642 rfl rfl rfl rfl d_Mo_isStuck_2 (fun H locs hH => ?_)
  refine x_sx C b_Mo_isStuck_5_6 hl (L' := [(0, .ref (ad 20))]) (st' := [.ref (ad 20)]) rfl (fun ls hl => ?_)
  refine x_get C hH.1 1000 mW_o 25 (v := .int (sc 8)) rfl rfl (by decide) t_667 (fun _ z => z) d_Mo_isStuck_6 ?_
  exact x_zrt C hr (by rcases h8 with z | z <;> rw [z] <;> rfl) hH.2.2 ⟨rfl, hH.1, hH.2.1⟩ (Nat.le_refl _) (Nat.le_refl _) d_Mo_isStuck_9
theorem hd_Mo_isStuck : hdP y_Mo_isStuck 0 := ⟨by decide +kernel, by decide +kernel, by decide +kernel⟩
theorem b_Mo_clash_0_4 : decs prog_7_method_26_code [(.aload_n 0, 1), (.iload_n 1, 1), (.iconst 0, 1), (.iconst 2, 1)] 0 4 = true := by decide +kernel
theorem d_Mo_clash_4 : decode prog_7_method_26_code 4 = .ok (.invokestatic 152, 3) := by decide +kernel
theorem d_Mo_clash_7 : decode prog_7_method_26_code 7 = .ok (.ifCond .eq 7, 3) := by decide +kernel
theorem b_Mo_clash_14_15 : decs prog_7_method_26_code [(.iconst 1, 1)] 14 15 = true := by decide +kernel
theorem d_Mo_clash_15 : decode prog_7_method_26_code 15 = .ok (.putfield 87, 3) := by decide +kernel
theorem b_Mo_clash_18_19 : decs prog_7_method_26_code [(.aload_n 0, 1)] 18 19 = true := by decide +kernel
theorem d_Mo_clash_19 : decode prog_7_method_26_code 19 = .ok (.getfield 87, 3) := by decide +kernel
theorem d_Mo_clash_22 : decode prog_7_method_26_code 22 = .ok (.ifCond .le 5, 3) := by decide +kernel
theorem b_Mo_clash_25_26 : decs prog_7_method_26_code [(.iconst 0, 1)] 25 26 = true := by decide +kernel
theorem d_Mo_clash_26 : decode prog_7_method_26_code 26 = .ok (.ireturn, 1) := by decide +kernel
set_option maxRecDepth 100000 in
set_option maxHeartbeats 4000000 in
theorem c_Mo_clash_1 (l : Launch) (G : GG) (A : Nat → Prop) (ad : Nat → Nat) (w0 : WF) (sc : Nat → Int32) (ar : Nat → Nat → Int32) (a1 : Int32) (hv : ¬ ((p_in a1 0 2) = 1)) : Met l y_Mo_clash (Cond.code y_Mo_clash prog_7_method_26_code 2 (some FieldType.int) :: wt) { frames := 1, cells := 0, slots := 0, locals := 22 } (Pre G A (mW G ad w0 sc ar) (fun _ => True) [.ref (ad 20), .int a1]) (Qw A (some (.int 0)) G (mW G ad w0 (va_up sc 0 1) ar)) 0 0 A := by
  refine mt_of (by decide) (Nat.le_of_ble_eq_true rfl) ?_
  intro p e s m below meth c ls C hH hA hE hr hmn hl
  have hl : lv_has ls 2 [(0, .ref (ad 20)), (1, .int a1)] := hl
  refine x_sx C b_Mo_clash_0_4 hl (L' := [(0, .ref (ad 20)), (1, .int a1)]) (st' := [.int 2, .int 0, .int a1, .ref (ad 20)]) rfl (fun ls hl => ?_)
  refine x_ro (x_cS C (c_Mo_in l G _ a1 0 2) t_753 t_14 t_751 t_752 hd_Mo_in blind_Pro (pre_ro C hH.1 hH.2.2) (As := [.int a1, .int 0, .int 2]) (rest := [.ref (ad 20)]) rfl hl.1 rfl rfl rfl ⟨Nat.le_of_ble_eq_true rfl, Nat.le_of_ble_eq_true rfl⟩ (Nat.le_of_ble_eq_true rfl) ⟨Nat.zero_le _, Nat.zero_le _⟩ d_Mo_clash_4) ?_
  refine lv_if_eq (tgt := 14) C.1 C.2.1 d_Mo_clash_7 (by decide) (fun v0 => ?_) (fun v0 => ?_)
  · refine x_sx C b_Mo_clash_14_15 hl (L' := [(0, .ref (ad 20)), (1, .int a1)]) (st' := [.int 1, .ref (ad 20)]) rfl (fun ls hl => ?_)
    refine m_put C hH 0 0 rfl (by decide) t_642 rfl rfl rfl rfl d_Mo_clash_15 (fun H locs hH => ?_)
    refine x_sx C b_Mo_clash_18_19 hl (L' := [(0, .ref (ad 20)), (1, .int a1)]) (st' := [.ref (ad 20)]) rfl (fun ls hl => ?_)
    refine x_get C hH.1 1000 mW_o 0 (v := .int 1) rfl rfl (by decide) t_642 (fun _ z => z) d_Mo_clash_19 ?_
    refine lv_if_le (tgt := 27) C.1 C.2.1 d_Mo_clash_22 (by decide) (fun h => absurd h (by decide)) (fun _ => ?_)
    refine x_sx C b_Mo_clash_25_26 hl (L' := [(0, .ref (ad 20)), (1, .int a1)]) (st' := [.int 0]) rfl (fun ls hl => ?_)
    exact x_irt C hr hH.2.2 ⟨rfl, hH.1, hH.2.1⟩ (Nat.le_refl _) (Nat.le_refl _) d_Mo_clash_26
  · exact absurd (p_in1 v0) hv
def fClash (sc : Nat → Int32) (a1 : Int32) : Int32 := if a1 = 0 then sc 9 else if a1 = 1 then sc 10 else sc 11
theorem b_Mo_clash_10_11 : decs prog_7_method_26_code [(.iconst 0, 1)] 10 11 = true := by decide +kernel
theorem d_Mo_clash_11 : decode prog_7_method_26_code 11 = .ok (.goto 4, 3) := by decide +kernel
theorem b_Mo_clash_27_28 : decs prog_7_method_26_code [(.iload_n 1, 1)] 27 28 = true := by decide +kernel
theorem d_Mo_clash_28 : decode prog_7_method_26_code 28 = .ok (.ifCond .ne 10, 3) := by decide +kernel
theorem b_Mo_clash_38_40 : decs prog_7_method_26_code [(.iload_n 1, 1), (.iconst 1, 1)] 38 40 = true := by decide +kernel
theorem d_Mo_clash_40 : decode prog_7_method_26_code 40 = .ok (.if_icmp .ne 10, 3) := by decide +kernel
theorem b_Mo_clash_50_51 : decs prog_7_method_26_code [(.aload_n 0, 1)] 50 51 = true := by decide +kernel
theorem d_Mo_clash_51 : decode prog_7_method_26_code 51 = .ok (.getfield 72, 3) := by decide +kernel
theorem d_Mo_clash_54 : decode prog_7_method_26_code 54 = .ok (.ireturn, 1) := by decide +kernel
theorem b_Mo_clash_43_44 : decs prog_7_method_26_code [(.aload_n 0, 1)] 43 44 = true := by decide +kernel
theorem d_Mo_clash_44 : decode prog_7_method_26_code 44 = .ok (.getfield 69, 3) := by decide +kernel
theorem d_Mo_clash_47 : decode prog_7_method_26_code 47 = .ok (.goto 7, 3) := by decide +kernel
theorem b_Mo_clash_31_32 : decs prog_7_method_26_code [(.aload_n 0, 1)] 31 32 = true := by decide +kernel
theorem d_Mo_clash_32 : decode prog_7_method_26_code 32 = .ok (.getfield 66, 3) := by decide +kernel
theorem d_Mo_clash_35 : decode prog_7_method_26_code 35 = .ok (.goto 19, 3) := by decide +kernel
set_option maxRecDepth 100000 in
set_option maxHeartbeats 4000000 in
theorem c_Mo_clash (l : Launch) (G : GG) (A : Nat → Prop) (ad : Nat → Nat) (w0 : WF) (sc : Nat → Int32) (ar : Nat → Nat → Int32) (a1 : Int32) (hv : (p_in a1 0 2) = 1) : Met l y_Mo_clash (Cond.code y_Mo_clash prog_7_method_26_code 2 (some FieldType.int) :: wt) { frames := 1, cells := 0, slots := 0, locals := 22 } (Pre G A (mW G ad w0 sc ar) (fun _ => True) [.ref (ad 20), .int a1]) (Qw A (some (.int (fClash sc a1))) G (mW G ad w0 (va_up sc 0 0) ar)) 0 0 A := by
  refine mt_of (by decide) (Nat.le_of_ble_eq_true rfl) ?_
  intro p e s m below meth c ls C hH hA hE hr hmn hl
  have hl : lv_has ls 2 [(0, .ref (ad 20)), (1, .int a1)] := hl
  refine x_sx C b_Mo_clash_0_4 hl (L' := [(0, .ref (ad 20)), (1, .int a1)]) (st' := [.int 2, .int 0, .int a1, .ref (ad 20)]) rfl (fun ls hl => ?_)
  refine x_ro (x_cS C (c_Mo_in l G _ a1 0 2) t_753 t_14 t_751 t_752 hd_Mo_in blind_Pro (pre_ro C hH.1 hH.2.2) (As := [.int a1, .int 0, .int 2]) (rest := [.ref (ad 20)]) rfl hl.1 rfl rfl rfl ⟨Nat.le_of_ble_eq_true rfl, Nat.le_of_ble_eq_true rfl⟩ (Nat.le_of_ble_eq_true rfl) ⟨Nat.zero_le _, Nat.zero_le _⟩ d_Mo_clash_4) ?_
  refine lv_if_eq (tgt := 14) C.1 C.2.1 d_Mo_clash_7 (by decide) (fun h => absurd h (by rw [hv]; first | done | decide)) (fun _ => ?_)
  refine x_sx C b_Mo_clash_10_11 hl (L' := [(0, .ref (ad 20)), (1, .int a1)]) (st' := [.int 0, .ref (ad 20)]) rfl (fun ls hl => ?_)
  refine x_goto (tgt := 15) C d_Mo_clash_11 (by decide) ?_
  refine m_put C hH 0 0 rfl (by decide) t_642 rfl rfl rfl rfl d_Mo_clash_15 (fun H locs hH => ?_)
  refine x_sx C b_Mo_clash_18_19 hl (L' := [(0, .ref (ad 20)), (1, .int a1)]) (st' := [.ref (ad 20)]) rfl (fun ls hl => ?_)
  refine x_get C hH.1 1000 mW_o 0 (v := .int 0) rfl rfl (by decide) t_642 (fun _ z => z) d_Mo_clash_19 ?_
  refine lv_if_le (tgt := 27) C.1 C.2.1 d_Mo_clash_22 (by decide) (fun _ => ?_) (fun h => absurd (by decide) h)
  refine x_sx C b_Mo_clash_27_28 hl (L' := [(0, .ref (ad 20)), (1, .int a1)]) (st' := [.int a1]) rfl (fun ls hl => ?_)
  refine lv_if_ne (tgt := 38) C.1 C.2.1 d_Mo_clash_28 (by decide) (fun h1 => ?_) (fun h1 => ?_)
  · refine x_sx C b_Mo_clash_38_40 hl (L' := [(0, .ref (ad 20)), (1, .int a1)]) (st' := [.int 1, .int a1]) rfl (fun ls hl => ?_)
    refine lv_icmp_ne (tgt := 50) C.1 C.2.1 d_Mo_clash_40 (by decide) (fun h2 => ?_) (fun h2 => ?_)
    · refine x_sx C b_Mo_clash_50_51 hl (L' := [(0, .ref (ad 20)), (1, .int a1)]) (st' := [.ref (ad 20)]) rfl (fun ls hl => ?_)
      refine x_get C hH.1 1000 mW_o 28 (v := .int (sc 11)) rfl rfl (by decide) t_670 (fun _ z => z) d_Mo_clash_51 ?_
      exact x_irt C hr hH.2.2 ⟨by unfold fClash; simp [h1, h2], hH.1, hH.2.1⟩ (Nat.le_refl _) (Nat.le_refl _) d_Mo_clash_54
    · refine x_sx C b_Mo_clash_43_44 hl (L' := [(0, .ref (ad 20)), (1, .int a1)]) (st' := [.ref (ad 20)]) rfl (fun ls hl => ?_)
      refine x_get C hH.1 1000 mW_o 27 (v := .int (sc 10)) rfl rfl (by decide) t_669 (fun _ z => z) d_Mo_clash_44 ?_
      refine x_goto (tgt := 54) C d_Mo_clash_47 (by decide) ?_
      exact x_irt C hr hH.2.2 ⟨by unfold fClash; simp [h1, h2], hH.1, hH.2.1⟩ (Nat.le_refl _) (Nat.le_refl _) d_Mo_clash_54
  · refine x_sx C b_Mo_clash_31_32 hl (L' := [(0, .ref (ad 20)), (1, .int a1)]) (st' := [.ref (ad 20)]) rfl (fun ls hl => ?_)
    refine x_get C hH.1 1000 mW_o 26 (v := .int (sc 9)) rfl rfl (by decide) t_668 (fun _ z => z) d_Mo_clash_32 ?_
    refine x_goto (tgt := 54) C d_Mo_clash_35 (by decide) ?_
    exact x_irt C hr hH.2.2 ⟨by unfold fClash; simp [h1], hH.1, hH.2.1⟩ (Nat.le_refl _) (Nat.le_refl _) d_Mo_clash_54
theorem hd_Mo_clash : hdP y_Mo_clash 1 := ⟨by decide +kernel, by decide +kernel, by decide +kernel⟩
theorem b_Mo_clear_0_4 : decs prog_7_method_29_code [(.aload_n 0, 1), (.iload_n 1, 1), (.iconst 0, 1), (.iconst 3, 1)] 0 4 = true := by decide +kernel
theorem d_Mo_clear_4 : decode prog_7_method_29_code 4 = .ok (.invokestatic 152, 3) := by decide +kernel
theorem d_Mo_clear_7 : decode prog_7_method_29_code 7 = .ok (.ifCond .eq 7, 3) := by decide +kernel
theorem b_Mo_clear_14_15 : decs prog_7_method_29_code [(.iconst 1, 1)] 14 15 = true := by decide +kernel
theorem d_Mo_clear_15 : decode prog_7_method_29_code 15 = .ok (.putfield 87, 3) := by decide +kernel
theorem b_Mo_clear_18_19 : decs prog_7_method_29_code [(.aload_n 0, 1)] 18 19 = true := by decide +kernel
theorem d_Mo_clear_19 : decode prog_7_method_29_code 19 = .ok (.getfield 87, 3) := by decide +kernel
theorem d_Mo_clear_22 : decode prog_7_method_29_code 22 = .ok (.ifCond .le 5, 3) := by decide +kernel
theorem b_Mo_clear_25_26 : decs prog_7_method_29_code [(.iconst 0, 1)] 25 26 = true := by decide +kernel
theorem d_Mo_clear_26 : decode prog_7_method_29_code 26 = .ok (.ireturn, 1) := by decide +kernel
set_option maxRecDepth 100000 in
set_option maxHeartbeats 4000000 in
theorem c_Mo_clear_1 (l : Launch) (G : GG) (A : Nat → Prop) (ad : Nat → Nat) (w0 : WF) (sc : Nat → Int32) (ar : Nat → Nat → Int32) (a1 : Int32) (hv : ¬ ((p_in a1 0 3) = 1)) : Met l y_Mo_clear (Cond.code y_Mo_clear prog_7_method_29_code 3 (some FieldType.int) :: wt) { frames := 1, cells := 0, slots := 0, locals := 22 } (Pre G A (mW G ad w0 sc ar) (fun _ => True) [.ref (ad 20), .int a1]) (Qw A (some (.int 0)) G (mW G ad w0 (va_up sc 0 1) ar)) 0 0 A := by
  refine mt_of (by decide) (Nat.le_of_ble_eq_true rfl) ?_
  intro p e s m below meth c ls C hH hA hE hr hmn hl
  have hl : lv_has ls 3 [(0, .ref (ad 20)), (1, .int a1)] := hl
  refine x_sx C b_Mo_clear_0_4 hl (L' := [(0, .ref (ad 20)), (1, .int a1)]) (st' := [.int 3, .int 0, .int a1, .ref (ad 20)]) rfl (fun ls hl => ?_)
  refine x_ro (x_cS C (c_Mo_in l G _ a1 0 3) t_753 t_14 t_751 t_752 hd_Mo_in blind_Pro (pre_ro C hH.1 hH.2.2) (As := [.int a1, .int 0, .int 3]) (rest := [.ref (ad 20)]) rfl hl.1 rfl rfl rfl ⟨Nat.le_of_ble_eq_true rfl, Nat.le_of_ble_eq_true rfl⟩ (Nat.le_of_ble_eq_true rfl) ⟨Nat.zero_le _, Nat.zero_le _⟩ d_Mo_clear_4) ?_
  refine lv_if_eq (tgt := 14) C.1 C.2.1 d_Mo_clear_7 (by decide) (fun v0 => ?_) (fun v0 => ?_)
  · refine x_sx C b_Mo_clear_14_15 hl (L' := [(0, .ref (ad 20)), (1, .int a1)]) (st' := [.int 1, .ref (ad 20)]) rfl (fun ls hl => ?_)
    refine m_put C hH 0 0 rfl (by decide) t_642 rfl rfl rfl rfl d_Mo_clear_15 (fun H locs hH => ?_)
    refine x_sx C b_Mo_clear_18_19 hl (L' := [(0, .ref (ad 20)), (1, .int a1)]) (st' := [.ref (ad 20)]) rfl (fun ls hl => ?_)
    refine x_get C hH.1 1000 mW_o 0 (v := .int 1) rfl rfl (by decide) t_642 (fun _ z => z) d_Mo_clear_19 ?_
    refine lv_if_le (tgt := 27) C.1 C.2.1 d_Mo_clear_22 (by decide) (fun h => absurd h (by decide)) (fun _ => ?_)
    refine x_sx C b_Mo_clear_25_26 hl (L' := [(0, .ref (ad 20)), (1, .int a1)]) (st' := [.int 0]) rfl (fun ls hl => ?_)
    exact x_irt C hr hH.2.2 ⟨rfl, hH.1, hH.2.1⟩ (Nat.le_refl _) (Nat.le_refl _) d_Mo_clear_26
  · exact absurd (p_in1 v0) hv
theorem b_Mo_clear_10_11 : decs prog_7_method_29_code [(.iconst 0, 1)] 10 11 = true := by decide +kernel
theorem d_Mo_clear_11 : decode prog_7_method_29_code 11 = .ok (.goto 4, 3) := by decide +kernel
theorem b_Mo_clear_27_28 : decs prog_7_method_29_code [(.aload_n 0, 1)] 27 28 = true := by decide +kernel
theorem d_Mo_clear_28 : decode prog_7_method_29_code 28 = .ok (.getfield 38, 3) := by decide +kernel
theorem b_Mo_clear_31_32 : decs prog_7_method_29_code [(.iload_n 1, 1)] 31 32 = true := by decide +kernel
theorem d_Mo_clear_32 : decode prog_7_method_29_code 32 = .ok (.iaload, 1) := by decide +kernel
theorem b_Mo_clear_33_35 : decs prog_7_method_29_code [(.istore_n 2, 1), (.aload_n 0, 1)] 33 35 = true := by decide +kernel
theorem d_Mo_clear_35 : decode prog_7_method_29_code 35 = .ok (.getfield 38, 3) := by decide +kernel
theorem b_Mo_clear_38_40 : decs prog_7_method_29_code [(.iload_n 1, 1), (.iconst 0, 1)] 38 40 = true := by decide +kernel
theorem d_Mo_clear_40 : decode prog_7_method_29_code 40 = .ok (.iastore, 1) := by decide +kernel
theorem b_Mo_clear_41_42 : decs prog_7_method_29_code [(.iload_n 2, 1)] 41 42 = true := by decide +kernel
theorem d_Mo_clear_42 : decode prog_7_method_29_code 42 = .ok (.ireturn, 1) := by decide +kernel
set_option maxRecDepth 100000 in
set_option maxHeartbeats 4000000 in
theorem c_Mo_clear (l : Launch) (G : GG) (A : Nat → Prop) (ad : Nat → Nat) (w0 : WF) (sc : Nat → Int32) (ar : Nat → Nat → Int32) (a1 : Int32) (q : Nat) (hv : (p_in a1 0 3) = 1) (hq : q < 4) (e1 : a1 = nI q) : Met l y_Mo_clear (Cond.code y_Mo_clear prog_7_method_29_code 3 (some FieldType.int) :: wt) { frames := 1, cells := 0, slots := 0, locals := 22 } (Pre G A (mW G ad w0 sc ar) (fun _ => True) [.ref (ad 20), .int a1]) (Qw A (some (.int (ar 8 q))) G (mW G ad w0 (va_up sc 0 0) (va_up ar 8 (upd (ar 8) q 0)))) 0 0 A := by
  refine mt_of (by decide) (Nat.le_of_ble_eq_true rfl) ?_
  intro p e s m below meth c ls C hH hA hE hr hmn hl
  have hl : lv_has ls 3 [(0, .ref (ad 20)), (1, .int a1)] := hl
  refine x_sx C b_Mo_clear_0_4 hl (L' := [(0, .ref (ad 20)), (1, .int a1)]) (st' := [.int 3, .int 0, .int a1, .ref (ad 20)]) rfl (fun ls hl => ?_)
  refine x_ro (x_cS C (c_Mo_in l G _ a1 0 3) t_753 t_14 t_751 t_752 hd_Mo_in blind_Pro (pre_ro C hH.1 hH.2.2) (As := [.int a1, .int 0, .int 3]) (rest := [.ref (ad 20)]) rfl hl.1 rfl rfl rfl ⟨Nat.le_of_ble_eq_true rfl, Nat.le_of_ble_eq_true rfl⟩ (Nat.le_of_ble_eq_true rfl) ⟨Nat.zero_le _, Nat.zero_le _⟩ d_Mo_clear_4) ?_
  refine lv_if_eq (tgt := 14) C.1 C.2.1 d_Mo_clear_7 (by decide) (fun h => absurd h (by rw [hv]; first | done | decide)) (fun _ => ?_)
  refine x_sx C b_Mo_clear_10_11 hl (L' := [(0, .ref (ad 20)), (1, .int a1)]) (st' := [.int 0, .ref (ad 20)]) rfl (fun ls hl => ?_)
  refine x_goto (tgt := 15) C d_Mo_clear_11 (by decide) ?_
  refine m_put C hH 0 0 rfl (by decide) t_642 rfl rfl rfl rfl d_Mo_clear_15 (fun H locs hH => ?_)
  refine x_sx C b_Mo_clear_18_19 hl (L' := [(0, .ref (ad 20)), (1, .int a1)]) (st' := [.ref (ad 20)]) rfl (fun ls hl => ?_)
  refine x_get C hH.1 1000 mW_o 0 (v := .int 0) rfl rfl (by decide) t_642 (fun _ z => z) d_Mo_clear_19 ?_
  refine lv_if_le (tgt := 27) C.1 C.2.1 d_Mo_clear_22 (by decide) (fun _ => ?_) (fun h => absurd (by decide) h)
  refine x_sx C b_Mo_clear_27_28 hl (L' := [(0, .ref (ad 20)), (1, .int a1)]) (st' := [.ref (ad 20)]) rfl (fun ls hl => ?_)
  refine x_get C hH.1 1000 mW_o 15 (v := .ref (ad 8)) rfl rfl (by decide) t_657 (fun _ z => z) d_Mo_clear_28 ?_
  refine x_sx C b_Mo_clear_31_32 hl (L' := [(0, .ref (ad 20)), (1, .int a1)]) (st' := [.int a1, .ref (ad 8)]) rfl (fun ls hl => ?_)
  refine x_ald C hH.1 (1001 + 8) (mW_i 8 (by decide) (by decide) rfl rfl rfl) (N := 4) (f := (ar 8)) (j := q) e1 hq (by decide) d_Mo_clear_32 ?_
  refine x_sx C b_Mo_clear_33_35 hl (L' := [(2, .int (ar 8 q)), (0, .ref (ad 20)), (1, .int a1)]) (st' := [.ref (ad 20)]) rfl (fun ls hl => ?_)
  refine x_get C hH.1 1000 mW_o 15 (v := .ref (ad 8)) rfl rfl (by decide) t_657 (fun _ z => z) d_Mo_clear_35 ?_
  refine x_sx C b_Mo_clear_38_40 hl (L' := [(2, .int (ar 8 q)), (0, .ref (ad 20)), (1, .int a1)]) (st' := [.int 0, .int a1, .ref (ad 8)]) rfl (fun ls hl => ?_)
  refine m_ast C hH 8 (by decide) (by decide) rfl (N := 4) rfl (f := (ar 8)) rfl (j := q) e1 hq d_Mo_clear_40 (fun H locs hH => ?_)
  refine x_sx C b_Mo_clear_41_42 hl (L' := [(2, .int (ar 8 q)), (0, .ref (ad 20)), (1, .int a1)]) (st' := [.int (ar 8 q)]) rfl (fun ls hl => ?_)
  exact x_irt C hr hH.2.2 ⟨rfl, hH.1, hH.2.1⟩ (Nat.le_refl _) (Nat.le_refl _) d_Mo_clear_42
theorem hd_Mo_clear : hdP y_Mo_clear 1 := ⟨by decide +kernel, by decide +kernel, by decide +kernel⟩
theorem b_Mo_part_0_4 : decs prog_7_method_28_code [(.aload_n 0, 1), (.iload_n 1, 1), (.iconst 0, 1), (.iconst 3, 1)] 0 4 = true := by decide +kernel
theorem d_Mo_part_4 : decode prog_7_method_28_code 4 = .ok (.invokestatic 152, 3) := by decide +kernel
theorem d_Mo_part_7 : decode prog_7_method_28_code 7 = .ok (.ifCond .eq 23, 3) := by decide +kernel
theorem b_Mo_part_30_31 : decs prog_7_method_28_code [(.iconst 1, 1)] 30 31 = true := by decide +kernel
theorem d_Mo_part_31 : decode prog_7_method_28_code 31 = .ok (.goto 19, 3) := by decide +kernel
theorem d_Mo_part_50 : decode prog_7_method_28_code 50 = .ok (.putfield 87, 3) := by decide +kernel
theorem b_Mo_part_53_54 : decs prog_7_method_28_code [(.aload_n 0, 1)] 53 54 = true := by decide +kernel
theorem d_Mo_part_54 : decode prog_7_method_28_code 54 = .ok (.getfield 87, 3) := by decide +kernel
theorem d_Mo_part_57 : decode prog_7_method_28_code 57 = .ok (.ifCond .le 5, 3) := by decide +kernel
theorem b_Mo_part_60_61 : decs prog_7_method_28_code [(.iconst 0, 1)] 60 61 = true := by decide +kernel
theorem d_Mo_part_61 : decode prog_7_method_28_code 61 = .ok (.ireturn, 1) := by decide +kernel
theorem b_Mo_part_10_14 : decs prog_7_method_28_code [(.iload_n 2, 1), (.bipush (-3), 2), (.iconst 3, 1)] 10 14 = true := by decide +kernel
theorem d_Mo_part_14 : decode prog_7_method_28_code 14 = .ok (.invokestatic 152, 3) := by decide +kernel
theorem d_Mo_part_17 : decode prog_7_method_28_code 17 = .ok (.ifCond .eq 13, 3) := by decide +kernel
theorem b_Mo_part_20_24 : decs prog_7_method_28_code [(.iload_n 3, 1), (.iconst 1, 1), (.bipush 60, 2)] 20 24 = true := by decide +kernel
theorem d_Mo_part_24 : decode prog_7_method_28_code 24 = .ok (.invokestatic 152, 3) := by decide +kernel
theorem d_Mo_part_27 : decode prog_7_method_28_code 27 = .ok (.ifCond .ne 7, 3) := by decide +kernel
set_option maxRecDepth 100000 in
set_option maxHeartbeats 4000000 in
theorem c_Mo_part_1 (l : Launch) (G : GG) (A : Nat → Prop) (ad : Nat → Nat) (w0 : WF) (sc : Nat → Int32) (ar : Nat → Nat → Int32) (a1 a2 a3 fw : Int32) (hv : ¬ ((p_in a1 0 3) = 1 ∧ (p_in a2 (-3) 3) = 1 ∧ (p_in a3 1 60) = 1)) : Met l y_Mo_part (Cond.code y_Mo_part prog_7_method_28_code 6 (some FieldType.int) :: wt) { frames := 1, cells := 0, slots := 0, locals := 22 } (Pre G A (mW G ad w0 sc ar) (fun _ => True) [.ref (ad 20), .int a1, .int a2, .int a3, .int fw]) (Qw A (some (.int 0)) G (mW G ad w0 (va_up sc 0 1) ar)) 0 0 A := by
  refine mt_of (by decide) (Nat.le_of_ble_eq_true rfl) ?_
  intro p e s m below meth c ls C hH hA hE hr hmn hl
  have hl : lv_has ls 6 [(0, .ref (ad 20)), (1, .int a1), (2, .int a2), (3, .int a3), (4, .int fw)] := hl
  refine x_sx C b_Mo_part_0_4 hl (L' := [(0, .ref (ad 20)), (1, .int a1), (2, .int a2), (3, .int a3), (4, .int fw)]) (st' := [.int 3, .int 0, .int a1, .ref (ad 20)]) rfl (fun ls hl => ?_)
  refine x_ro (x_cS C (c_Mo_in l G _ a1 0 3) t_753 t_14 t_751 t_752 hd_Mo_in blind_Pro (pre_ro C hH.1 hH.2.2) (As := [.int a1, .int 0, .int 3]) (rest := [.ref (ad 20)]) rfl hl.1 rfl rfl rfl ⟨Nat.le_of_ble_eq_true rfl, Nat.le_of_ble_eq_true rfl⟩ (Nat.le_of_ble_eq_true rfl) ⟨Nat.zero_le _, Nat.zero_le _⟩ d_Mo_part_4) ?_
  refine lv_if_eq (tgt := 30) C.1 C.2.1 d_Mo_part_7 (by decide) (fun v0 => ?_) (fun v0 => ?_)
  · refine x_sx C b_Mo_part_30_31 hl (L' := [(0, .ref (ad 20)), (1, .int a1), (2, .int a2), (3, .int a3), (4, .int fw)]) (st' := [.int 1, .ref (ad 20)]) rfl (fun ls hl => ?_)
    refine x_goto (tgt := 50) C d_Mo_part_31 (by decide) ?_
    refine m_put C hH 0 0 rfl (by decide) t_642 rfl rfl rfl rfl d_Mo_part_50 (fun H locs hH => ?_)
    refine x_sx C b_Mo_part_53_54 hl (L' := [(0, .ref (ad 20)), (1, .int a1), (2, .int a2), (3, .int a3), (4, .int fw)]) (st' := [.ref (ad 20)]) rfl (fun ls hl => ?_)
    refine x_get C hH.1 1000 mW_o 0 (v := .int 1) rfl rfl (by decide) t_642 (fun _ z => z) d_Mo_part_54 ?_
    refine lv_if_le (tgt := 62) C.1 C.2.1 d_Mo_part_57 (by decide) (fun h => absurd h (by decide)) (fun _ => ?_)
    refine x_sx C b_Mo_part_60_61 hl (L' := [(0, .ref (ad 20)), (1, .int a1), (2, .int a2), (3, .int a3), (4, .int fw)]) (st' := [.int 0]) rfl (fun ls hl => ?_)
    exact x_irt C hr hH.2.2 ⟨rfl, hH.1, hH.2.1⟩ (Nat.le_refl _) (Nat.le_refl _) d_Mo_part_61
  · refine x_sx C b_Mo_part_10_14 hl (L' := [(0, .ref (ad 20)), (1, .int a1), (2, .int a2), (3, .int a3), (4, .int fw)]) (st' := [.int 3, .int (-3), .int a2, .ref (ad 20)]) rfl (fun ls hl => ?_)
    refine x_ro (x_cS C (c_Mo_in l G _ a2 (-3) 3) t_753 t_14 t_751 t_752 hd_Mo_in blind_Pro (pre_ro C hH.1 hH.2.2) (As := [.int a2, .int (-3), .int 3]) (rest := [.ref (ad 20)]) rfl hl.1 rfl rfl rfl ⟨Nat.le_of_ble_eq_true rfl, Nat.le_of_ble_eq_true rfl⟩ (Nat.le_of_ble_eq_true rfl) ⟨Nat.zero_le _, Nat.zero_le _⟩ d_Mo_part_14) ?_
    refine lv_if_eq (tgt := 30) C.1 C.2.1 d_Mo_part_17 (by decide) (fun v1 => ?_) (fun v1 => ?_)
    · refine x_sx C b_Mo_part_30_31 hl (L' := [(0, .ref (ad 20)), (1, .int a1), (2, .int a2), (3, .int a3), (4, .int fw)]) (st' := [.int 1, .ref (ad 20)]) rfl (fun ls hl => ?_)
      refine x_goto (tgt := 50) C d_Mo_part_31 (by decide) ?_
      refine m_put C hH 0 0 rfl (by decide) t_642 rfl rfl rfl rfl d_Mo_part_50 (fun H locs hH => ?_)
      refine x_sx C b_Mo_part_53_54 hl (L' := [(0, .ref (ad 20)), (1, .int a1), (2, .int a2), (3, .int a3), (4, .int fw)]) (st' := [.ref (ad 20)]) rfl (fun ls hl => ?_)
      refine x_get C hH.1 1000 mW_o 0 (v := .int 1) rfl rfl (by decide) t_642 (fun _ z => z) d_Mo_part_54 ?_
      refine lv_if_le (tgt := 62) C.1 C.2.1 d_Mo_part_57 (by decide) (fun h => absurd h (by decide)) (fun _ => ?_)
      refine x_sx C b_Mo_part_60_61 hl (L' := [(0, .ref (ad 20)), (1, .int a1), (2, .int a2), (3, .int a3), (4, .int fw)]) (st' := [.int 0]) rfl (fun ls hl => ?_)
      exact x_irt C hr hH.2.2 ⟨rfl, hH.1, hH.2.1⟩ (Nat.le_refl _) (Nat.le_refl _) d_Mo_part_61
    · refine x_sx C b_Mo_part_20_24 hl (L' := [(0, .ref (ad 20)), (1, .int a1), (2, .int a2), (3, .int a3), (4, .int fw)]) (st' := [.int 60, .int 1, .int a3, .ref (ad 20)]) rfl (fun ls hl => ?_)
      refine x_ro (x_cS C (c_Mo_in l G _ a3 1 60) t_753 t_14 t_751 t_752 hd_Mo_in blind_Pro (pre_ro C hH.1 hH.2.2) (As := [.int a3, .int 1, .int 60]) (rest := [.ref (ad 20)]) rfl hl.1 rfl rfl rfl ⟨Nat.le_of_ble_eq_true rfl, Nat.le_of_ble_eq_true rfl⟩ (Nat.le_of_ble_eq_true rfl) ⟨Nat.zero_le _, Nat.zero_le _⟩ d_Mo_part_24) ?_
      refine lv_if_ne (tgt := 34) C.1 C.2.1 d_Mo_part_27 (by decide) (fun v2 => ?_) (fun v2 => ?_)
      · exact absurd ⟨p_in1 v0, p_in1 v1, p_in1 v2⟩ hv
      · refine x_sx C b_Mo_part_30_31 hl (L' := [(0, .ref (ad 20)), (1, .int a1), (2, .int a2), (3, .int a3), (4, .int fw)]) (st' := [.int 1, .ref (ad 20)]) rfl (fun ls hl => ?_)
        refine x_goto (tgt := 50) C d_Mo_part_31 (by decide) ?_
        refine m_put C hH 0 0 rfl (by decide) t_642 rfl rfl rfl rfl d_Mo_part_50 (fun H locs hH => ?_)
        refine x_sx C b_Mo_part_53_54 hl (L' := [(0, .ref (ad 20)), (1, .int a1), (2, .int a2), (3, .int a3), (4, .int fw)]) (st' := [.ref (ad 20)]) rfl (fun ls hl => ?_)
        refine x_get C hH.1 1000 mW_o 0 (v := .int 1) rfl rfl (by decide) t_642 (fun _ z => z) d_Mo_part_54 ?_
        refine lv_if_le (tgt := 62) C.1 C.2.1 d_Mo_part_57 (by decide) (fun h => absurd h (by decide)) (fun _ => ?_)
        refine x_sx C b_Mo_part_60_61 hl (L' := [(0, .ref (ad 20)), (1, .int a1), (2, .int a2), (3, .int a3), (4, .int fw)]) (st' := [.int 0]) rfl (fun ls hl => ?_)
        exact x_irt C hr hH.2.2 ⟨rfl, hH.1, hH.2.1⟩ (Nat.le_refl _) (Nat.le_refl _) d_Mo_part_61
theorem b_Mo_part_34_35 : decs prog_7_method_28_code [(.aload_n 0, 1)] 34 35 = true := by decide +kernel
theorem d_Mo_part_35 : decode prog_7_method_28_code 35 = .ok (.getfield 38, 3) := by decide +kernel
theorem b_Mo_part_38_39 : decs prog_7_method_28_code [(.iload_n 1, 1)] 38 39 = true := by decide +kernel
theorem d_Mo_part_39 : decode prog_7_method_28_code 39 = .ok (.iaload, 1) := by decide +kernel
theorem b_Mo_part_40_42 : decs prog_7_method_28_code [(.bipush 6, 2)] 40 42 = true := by decide +kernel
theorem d_Mo_part_42 : decode prog_7_method_28_code 42 = .ok (.if_icmp .ne 7, 3) := by decide +kernel
theorem b_Mo_part_45_46 : decs prog_7_method_28_code [(.iconst 2, 1)] 45 46 = true := by decide +kernel
theorem d_Mo_part_46 : decode prog_7_method_28_code 46 = .ok (.goto 4, 3) := by decide +kernel
set_option maxRecDepth 100000 in
set_option maxHeartbeats 4000000 in
theorem c_Mo_part_2 (l : Launch) (G : GG) (A : Nat → Prop) (ad : Nat → Nat) (w0 : WF) (sc : Nat → Int32) (ar : Nat → Nat → Int32) (a1 a2 a3 fw : Int32) (q : Nat) (hv : (p_in a1 0 3) = 1 ∧ (p_in a2 (-3) 3) = 1 ∧ (p_in a3 1 60) = 1) (hq : q < 4) (e1 : a1 = nI q) (hm : ar 8 q = 6) : Met l y_Mo_part (Cond.code y_Mo_part prog_7_method_28_code 6 (some FieldType.int) :: wt) { frames := 1, cells := 0, slots := 0, locals := 22 } (Pre G A (mW G ad w0 sc ar) (fun _ => True) [.ref (ad 20), .int a1, .int a2, .int a3, .int fw]) (Qw A (some (.int 0)) G (mW G ad w0 (va_up sc 0 2) ar)) 0 0 A := by
  refine mt_of (by decide) (Nat.le_of_ble_eq_true rfl) ?_
  intro p e s m below meth c ls C hH hA hE hr hmn hl
  have hl : lv_has ls 6 [(0, .ref (ad 20)), (1, .int a1), (2, .int a2), (3, .int a3), (4, .int fw)] := hl
  refine x_sx C b_Mo_part_0_4 hl (L' := [(0, .ref (ad 20)), (1, .int a1), (2, .int a2), (3, .int a3), (4, .int fw)]) (st' := [.int 3, .int 0, .int a1, .ref (ad 20)]) rfl (fun ls hl => ?_)
  refine x_ro (x_cS C (c_Mo_in l G _ a1 0 3) t_753 t_14 t_751 t_752 hd_Mo_in blind_Pro (pre_ro C hH.1 hH.2.2) (As := [.int a1, .int 0, .int 3]) (rest := [.ref (ad 20)]) rfl hl.1 rfl rfl rfl ⟨Nat.le_of_ble_eq_true rfl, Nat.le_of_ble_eq_true rfl⟩ (Nat.le_of_ble_eq_true rfl) ⟨Nat.zero_le _, Nat.zero_le _⟩ d_Mo_part_4) ?_
  refine lv_if_eq (tgt := 30) C.1 C.2.1 d_Mo_part_7 (by decide) (fun h => absurd h (by rw [hv.1]; first | done | decide)) (fun _ => ?_)
  refine x_sx C b_Mo_part_10_14 hl (L' := [(0, .ref (ad 20)), (1, .int a1), (2, .int a2), (3, .int a3), (4, .int fw)]) (st' := [.int 3, .int (-3), .int a2, .ref (ad 20)]) rfl (fun ls hl => ?_)
  refine x_ro (x_cS C (c_Mo_in l G _ a2 (-3) 3) t_753 t_14 t_751 t_752 hd_Mo_in blind_Pro (pre_ro C hH.1 hH.2.2) (As := [.int a2, .int (-3), .int 3]) (rest := [.ref (ad 20)]) rfl hl.1 rfl rfl rfl ⟨Nat.le_of_ble_eq_true rfl, Nat.le_of_ble_eq_true rfl⟩ (Nat.le_of_ble_eq_true rfl) ⟨Nat.zero_le _, Nat.zero_le _⟩ d_Mo_part_14) ?_
  refine lv_if_eq (tgt := 30) C.1 C.2.1 d_Mo_part_17 (by decide) (fun h => absurd h (by rw [hv.2.1]; first | done | decide)) (fun _ => ?_)
  refine x_sx C b_Mo_part_20_24 hl (L' := [(0, .ref (ad 20)), (1, .int a1), (2, .int a2), (3, .int a3), (4, .int fw)]) (st' := [.int 60, .int 1, .int a3, .ref (ad 20)]) rfl (fun ls hl => ?_)
  refine x_ro (x_cS C (c_Mo_in l G _ a3 1 60) t_753 t_14 t_751 t_752 hd_Mo_in blind_Pro (pre_ro C hH.1 hH.2.2) (As := [.int a3, .int 1, .int 60]) (rest := [.ref (ad 20)]) rfl hl.1 rfl rfl rfl ⟨Nat.le_of_ble_eq_true rfl, Nat.le_of_ble_eq_true rfl⟩ (Nat.le_of_ble_eq_true rfl) ⟨Nat.zero_le _, Nat.zero_le _⟩ d_Mo_part_24) ?_
  refine lv_if_ne (tgt := 34) C.1 C.2.1 d_Mo_part_27 (by decide) (fun _ => ?_) (fun h => absurd h (by rw [hv.2.2]; first | done | decide))
  refine x_sx C b_Mo_part_34_35 hl (L' := [(0, .ref (ad 20)), (1, .int a1), (2, .int a2), (3, .int a3), (4, .int fw)]) (st' := [.ref (ad 20), .ref (ad 20)]) rfl (fun ls hl => ?_)
  refine x_get C hH.1 1000 mW_o 15 (v := .ref (ad 8)) rfl rfl (by decide) t_657 (fun _ z => z) d_Mo_part_35 ?_
  refine x_sx C b_Mo_part_38_39 hl (L' := [(0, .ref (ad 20)), (1, .int a1), (2, .int a2), (3, .int a3), (4, .int fw)]) (st' := [.int a1, .ref (ad 8), .ref (ad 20)]) rfl (fun ls hl => ?_)
  refine x_ald C hH.1 (1001 + 8) (mW_i 8 (by decide) (by decide) rfl rfl rfl) (N := 4) (f := (ar 8)) (j := q) e1 hq (by decide) d_Mo_part_39 ?_
  refine x_sx C b_Mo_part_40_42 hl (L' := [(0, .ref (ad 20)), (1, .int a1), (2, .int a2), (3, .int a3), (4, .int fw)]) (st' := [.int 6, .int (ar 8 q), .ref (ad 20)]) rfl (fun ls hl => ?_)
  refine lv_icmp_ne (tgt := 49) C.1 C.2.1 d_Mo_part_42 (by decide) (fun h => absurd (by rw [hm]; first | done | decide) h) (fun _ => ?_)
  refine x_sx C b_Mo_part_45_46 hl (L' := [(0, .ref (ad 20)), (1, .int a1), (2, .int a2), (3, .int a3), (4, .int fw)]) (st' := [.int 2, .ref (ad 20)]) rfl (fun ls hl => ?_)
  refine x_goto (tgt := 50) C d_Mo_part_46 (by decide) ?_
  refine m_put C hH 0 0 rfl (by decide) t_642 rfl rfl rfl rfl d_Mo_part_50 (fun H locs hH => ?_)
  refine x_sx C b_Mo_part_53_54 hl (L' := [(0, .ref (ad 20)), (1, .int a1), (2, .int a2), (3, .int a3), (4, .int fw)]) (st' := [.ref (ad 20)]) rfl (fun ls hl => ?_)
  refine x_get C hH.1 1000 mW_o 0 (v := .int 2) rfl rfl (by decide) t_642 (fun _ z => z) d_Mo_part_54 ?_
  refine lv_if_le (tgt := 62) C.1 C.2.1 d_Mo_part_57 (by decide) (fun h => absurd h (by decide)) (fun _ => ?_)
  refine x_sx C b_Mo_part_60_61 hl (L' := [(0, .ref (ad 20)), (1, .int a1), (2, .int a2), (3, .int a3), (4, .int fw)]) (st' := [.int 0]) rfl (fun ls hl => ?_)
  exact x_irt C hr hH.2.2 ⟨rfl, hH.1, hH.2.1⟩ (Nat.le_refl _) (Nat.le_refl _) d_Mo_part_61
def fPartA (ar : Nat → Nat → Int32) (q z : Nat) (a2 a3 fw : Int32) : Nat → Nat → Int32 := va_up (va_up (va_up (va_up ar 9 (upd (ar 9) (6 * q + z) a2)) 10 (upd (ar 10) (6 * q + z) a3)) 11 (upd (ar 11) (6 * q + z) fw)) 8 (upd (ar 8) q (nI (z + 1)))
theorem b_Mo_part_49_50 : decs prog_7_method_28_code [(.iconst 0, 1)] 49 50 = true := by decide +kernel
theorem b_Mo_part_62_67 : decs prog_7_method_28_code [(.bipush 6, 2), (.iload_n 1, 1), (.imul, 1), (.aload_n 0, 1)] 62 67 = true := by decide +kernel
theorem d_Mo_part_67 : decode prog_7_method_28_code 67 = .ok (.getfield 38, 3) := by decide +kernel
theorem b_Mo_part_70_71 : decs prog_7_method_28_code [(.iload_n 1, 1)] 70 71 = true := by decide +kernel
theorem d_Mo_part_71 : decode prog_7_method_28_code 71 = .ok (.iaload, 1) := by decide +kernel
theorem b_Mo_part_72_75 : decs prog_7_method_28_code [(.iadd, 1), (.istore 5, 2)] 72 75 = true := by decide +kernel
theorem b_Mo_part_75_76 : decs prog_7_method_28_code [(.aload_n 0, 1)] 75 76 = true := by decide +kernel
theorem d_Mo_part_76 : decode prog_7_method_28_code 76 = .ok (.getfield 41, 3) := by decide +kernel
theorem b_Mo_part_79_82 : decs prog_7_method_28_code [(.iload 5, 2), (.iload_n 2, 1)] 79 82 = true := by decide +kernel
theorem d_Mo_part_82 : decode prog_7_method_28_code 82 = .ok (.iastore, 1) := by decide +kernel
theorem b_Mo_part_83_84 : decs prog_7_method_28_code [(.aload_n 0, 1)] 83 84 = true := by decide +kernel
theorem d_Mo_part_84 : decode prog_7_method_28_code 84 = .ok (.getfield 44, 3) := by decide +kernel
theorem b_Mo_part_87_90 : decs prog_7_method_28_code [(.iload 5, 2), (.iload_n 3, 1)] 87 90 = true := by decide +kernel
theorem d_Mo_part_90 : decode prog_7_method_28_code 90 = .ok (.iastore, 1) := by decide +kernel
theorem b_Mo_part_91_92 : decs prog_7_method_28_code [(.aload_n 0, 1)] 91 92 = true := by decide +kernel
theorem d_Mo_part_92 : decode prog_7_method_28_code 92 = .ok (.getfield 47, 3) := by decide +kernel
theorem b_Mo_part_95_99 : decs prog_7_method_28_code [(.iload 5, 2), (.iload 4, 2)] 95 99 = true := by decide +kernel
theorem d_Mo_part_99 : decode prog_7_method_28_code 99 = .ok (.bastore, 1) := by decide +kernel
theorem b_Mo_part_100_101 : decs prog_7_method_28_code [(.aload_n 0, 1)] 100 101 = true := by decide +kernel
theorem d_Mo_part_101 : decode prog_7_method_28_code 101 = .ok (.getfield 38, 3) := by decide +kernel
theorem b_Mo_part_104_106 : decs prog_7_method_28_code [(.iload_n 1, 1), (.dup2, 1)] 104 106 = true := by decide +kernel
theorem d_Mo_part_106 : decode prog_7_method_28_code 106 = .ok (.iaload, 1) := by decide +kernel
theorem b_Mo_part_107_109 : decs prog_7_method_28_code [(.iconst 1, 1), (.iadd, 1)] 107 109 = true := by decide +kernel
theorem d_Mo_part_109 : decode prog_7_method_28_code 109 = .ok (.iastore, 1) := by decide +kernel
theorem b_Mo_part_110_111 : decs prog_7_method_28_code [(.aload_n 0, 1)] 110 111 = true := by decide +kernel
theorem d_Mo_part_111 : decode prog_7_method_28_code 111 = .ok (.getfield 38, 3) := by decide +kernel
theorem b_Mo_part_114_115 : decs prog_7_method_28_code [(.iload_n 1, 1)] 114 115 = true := by decide +kernel
theorem d_Mo_part_115 : decode prog_7_method_28_code 115 = .ok (.iaload, 1) := by decide +kernel
theorem d_Mo_part_116 : decode prog_7_method_28_code 116 = .ok (.ireturn, 1) := by decide +kernel
set_option maxRecDepth 100000 in
set_option maxHeartbeats 4000000 in
theorem c_Mo_part (l : Launch) (G : GG) (A : Nat → Prop) (ad : Nat → Nat) (w0 : WF) (sc : Nat → Int32) (ar : Nat → Nat → Int32) (a1 a2 a3 fw : Int32) (q z : Nat) (hv : (p_in a1 0 3) = 1 ∧ (p_in a2 (-3) 3) = 1 ∧ (p_in a3 1 60) = 1) (hq : q < 4) (e1 : a1 = nI q) (hm : ar 8 q = nI z) (hz : z < 6) (hfw : fw = 0 ∨ fw = 1) : Met l y_Mo_part (Cond.code y_Mo_part prog_7_method_28_code 6 (some FieldType.int) :: wt) { frames := 1, cells := 0, slots := 0, locals := 22 } (Pre G A (mW G ad w0 sc ar) (fun _ => True) [.ref (ad 20), .int a1, .int a2, .int a3, .int fw]) (Qw A (some (.int (nI (z + 1)))) G (mW G ad w0 (va_up sc 0 0) (fPartA ar q z a2 a3 fw))) 0 0 A := by
  refine mt_of (by decide) (Nat.le_of_ble_eq_true rfl) ?_
  intro p e s m below meth c ls C hH hA hE hr hmn hl
  have hl : lv_has ls 6 [(0, .ref (ad 20)), (1, .int a1), (2, .int a2), (3, .int a3), (4, .int fw)] := hl
  have hne : ¬ ar 8 q = 6 := by rw [hm, show (6 : Int32) = nI 6 from rfl, nI_eq (by omega) (by omega)]; omega
  refine x_sx C b_Mo_part_0_4 hl (L' := [(0, .ref (ad 20)), (1, .int a1), (2, .int a2), (3, .int a3), (4, .int fw)]) (st' := [.int 3, .int 0, .int a1, .ref (ad 20)]) rfl (fun ls hl => ?_)
  refine x_ro (x_cS C (c_Mo_in l G _ a1 0 3) t_753 t_14 t_751 t_752 hd_Mo_in blind_Pro (pre_ro C hH.1 hH.2.2) (As := [.int a1, .int 0, .int 3]) (rest := [.ref (ad 20)]) rfl hl.1 rfl rfl rfl ⟨Nat.le_of_ble_eq_true rfl, Nat.le_of_ble_eq_true rfl⟩ (Nat.le_of_ble_eq_true rfl) ⟨Nat.zero_le _, Nat.zero_le _⟩ d_Mo_part_4) ?_
  refine lv_if_eq (tgt := 30) C.1 C.2.1 d_Mo_part_7 (by decide) (fun h => absurd h (by rw [hv.1]; first | done | decide)) (fun _ => ?_)
  refine x_sx C b_Mo_part_10_14 hl (L' := [(0, .ref (ad 20)), (1, .int a1), (2, .int a2), (3, .int a3), (4, .int fw)]) (st' := [.int 3, .int (-3), .int a2, .ref (ad 20)]) rfl (fun ls hl => ?_)
  refine x_ro (x_cS C (c_Mo_in l G _ a2 (-3) 3) t_753 t_14 t_751 t_752 hd_Mo_in blind_Pro (pre_ro C hH.1 hH.2.2) (As := [.int a2, .int (-3), .int 3]) (rest := [.ref (ad 20)]) rfl hl.1 rfl rfl rfl ⟨Nat.le_of_ble_eq_true rfl, Nat.le_of_ble_eq_true rfl⟩ (Nat.le_of_ble_eq_true rfl) ⟨Nat.zero_le _, Nat.zero_le _⟩ d_Mo_part_14) ?_
  refine lv_if_eq (tgt := 30) C.1 C.2.1 d_Mo_part_17 (by decide) (fun h => absurd h (by rw [hv.2.1]; first | done | decide)) (fun _ => ?_)
  refine x_sx C b_Mo_part_20_24 hl (L' := [(0, .ref (ad 20)), (1, .int a1), (2, .int a2), (3, .int a3), (4, .int fw)]) (st' := [.int 60, .int 1, .int a3, .ref (ad 20)]) rfl (fun ls hl => ?_)
  refine x_ro (x_cS C (c_Mo_in l G _ a3 1 60) t_753 t_14 t_751 t_752 hd_Mo_in blind_Pro (pre_ro C hH.1 hH.2.2) (As := [.int a3, .int 1, .int 60]) (rest := [.ref (ad 20)]) rfl hl.1 rfl rfl rfl ⟨Nat.le_of_ble_eq_true rfl, Nat.le_of_ble_eq_true rfl⟩ (Nat.le_of_ble_eq_true rfl) ⟨Nat.zero_le _, Nat.zero_le _⟩ d_Mo_part_24) ?_
  refine lv_if_ne (tgt := 34) C.1 C.2.1 d_Mo_part_27 (by decide) (fun _ => ?_) (fun h => absurd h (by rw [hv.2.2]; first | done | decide))
  refine x_sx C b_Mo_part_34_35 hl (L' := [(0, .ref (ad 20)), (1, .int a1), (2, .int a2), (3, .int a3), (4, .int fw)]) (st' := [.ref (ad 20), .ref (ad 20)]) rfl (fun ls hl => ?_)
  refine x_get C hH.1 1000 mW_o 15 (v := .ref (ad 8)) rfl rfl (by decide) t_657 (fun _ z => z) d_Mo_part_35 ?_
  refine x_sx C b_Mo_part_38_39 hl (L' := [(0, .ref (ad 20)), (1, .int a1), (2, .int a2), (3, .int a3), (4, .int fw)]) (st' := [.int a1, .ref (ad 8), .ref (ad 20)]) rfl (fun ls hl => ?_)
  refine x_ald C hH.1 (1001 + 8) (mW_i 8 (by decide) (by decide) rfl rfl rfl) (N := 4) (f := (ar 8)) (j := q) e1 hq (by decide) d_Mo_part_39 ?_
  refine x_sx C b_Mo_part_40_42 hl (L' := [(0, .ref (ad 20)), (1, .int a1), (2, .int a2), (3, .int a3), (4, .int fw)]) (st' := [.int 6, .int (ar 8 q), .ref (ad 20)]) rfl (fun ls hl => ?_)
  refine lv_icmp_ne (tgt := 49) C.1 C.2.1 d_Mo_part_42 (by decide) (fun _ => ?_) (fun h => absurd h hne)
  refine x_sx C b_Mo_part_49_50 hl (L' := [(0, .ref (ad 20)), (1, .int a1), (2, .int a2), (3, .int a3), (4, .int fw)]) (st' := [.int 0, .ref (ad 20)]) rfl (fun ls hl => ?_)
  refine m_put C hH 0 0 rfl (by decide) t_642 rfl rfl rfl rfl d_Mo_part_50 (fun H locs hH => ?_)
  refine x_sx C b_Mo_part_53_54 hl (L' := [(0, .ref (ad 20)), (1, .int a1), (2, .int a2), (3, .int a3), (4, .int fw)]) (st' := [.ref (ad 20)]) rfl (fun ls hl => ?_)
  refine x_get C hH.1 1000 mW_o 0 (v := .int 0) rfl rfl (by decide) t_642 (fun _ z => z) d_Mo_part_54 ?_
  refine lv_if_le (tgt := 62) C.1 C.2.1 d_Mo_part_57 (by decide) (fun _ => ?_) (fun h => absurd (by decide) h)
  refine x_sx C b_Mo_part_62_67 hl (L' := [(0, .ref (ad 20)), (1, .int a1), (2, .int a2), (3, .int a3), (4, .int fw)]) (st' := [.ref (ad 20), .int (6 * a1)]) rfl (fun ls hl => ?_)
  refine x_get C hH.1 1000 mW_o 15 (v := .ref (ad 8)) rfl rfl (by decide) t_657 (fun _ z => z) d_Mo_part_67 ?_
  refine x_sx C b_Mo_part_70_71 hl (L' := [(0, .ref (ad 20)), (1, .int a1), (2, .int a2), (3, .int a3), (4, .int fw)]) (st' := [.int a1, .ref (ad 8), .int (6 * a1)]) rfl (fun ls hl => ?_)
  refine x_ald C hH.1 (1001 + 8) (mW_i 8 (by decide) (by decide) rfl rfl rfl) (N := 4) (f := (ar 8)) (j := q) e1 hq (by decide) d_Mo_part_71 ?_
  refine x_sx C b_Mo_part_72_75 hl (L' := [(5, .int ((6 * a1) + (ar 8 q))), (0, .ref (ad 20)), (1, .int a1), (2, .int a2), (3, .int a3), (4, .int fw)]) (st' := []) rfl (fun ls hl => ?_)
  have hl : lv_has ls 6 [(5, .int (nI (6 * q + z))), (0, .ref (ad 20)), (1, .int a1), (2, .int a2), (3, .int a3), (4, .int fw)] := by rw [← nI_add, ← pk_mul, ← hm, ← e1]; exact hl
  refine x_sx C b_Mo_part_75_76 hl (L' := [(5, .int (nI (6 * q + z))), (0, .ref (ad 20)), (1, .int a1), (2, .int a2), (3, .int a3), (4, .int fw)]) (st' := [.ref (ad 20)]) rfl (fun ls hl => ?_)
  refine x_get C hH.1 1000 mW_o 16 (v := .ref (ad 9)) rfl rfl (by decide) t_658 (fun _ z => z) d_Mo_part_76 ?_
  refine x_sx C b_Mo_part_79_82 hl (L' := [(5, .int (nI (6 * q + z))), (0, .ref (ad 20)), (1, .int a1), (2, .int a2), (3, .int a3), (4, .int fw)]) (st' := [.int a2, .int (nI (6 * q + z)), .ref (ad 9)]) rfl (fun ls hl => ?_)
  refine m_ast C hH 9 (by decide) (by decide) rfl (N := 24) rfl (f := (ar 9)) rfl (j := (6 * q + z)) rfl (by omega) d_Mo_part_82 (fun H locs hH => ?_)
  refine x_sx C b_Mo_part_83_84 hl (L' := [(5, .int (nI (6 * q + z))), (0, .ref (ad 20)), (1, .int a1), (2, .int a2), (3, .int a3), (4, .int fw)]) (st' := [.ref (ad 20)]) rfl (fun ls hl => ?_)
  refine x_get C hH.1 1000 mW_o 17 (v := .ref (ad 10)) rfl rfl (by decide) t_659 (fun _ z => z) d_Mo_part_84 ?_
  refine x_sx C b_Mo_part_87_90 hl (L' := [(5, .int (nI (6 * q + z))), (0, .ref (ad 20)), (1, .int a1), (2, .int a2), (3, .int a3), (4, .int fw)]) (st' := [.int a3, .int (nI (6 * q + z)), .ref (ad 10)]) rfl (fun ls hl => ?_)
  refine m_ast C hH 10 (by decide) (by decide) rfl (N := 24) rfl (f := (ar 10)) rfl (j := (6 * q + z)) rfl (by omega) d_Mo_part_90 (fun H locs hH => ?_)
  refine x_sx C b_Mo_part_91_92 hl (L' := [(5, .int (nI (6 * q + z))), (0, .ref (ad 20)), (1, .int a1), (2, .int a2), (3, .int a3), (4, .int fw)]) (st' := [.ref (ad 20)]) rfl (fun ls hl => ?_)
  refine x_get C hH.1 1000 mW_o 18 (v := .ref (ad 11)) rfl rfl (by decide) t_660 (fun _ z => z) d_Mo_part_92 ?_
  refine x_sx C b_Mo_part_95_99 hl (L' := [(5, .int (nI (6 * q + z))), (0, .ref (ad 20)), (1, .int a1), (2, .int a2), (3, .int a3), (4, .int fw)]) (st' := [.int fw, .int (nI (6 * q + z)), .ref (ad 11)]) rfl (fun ls hl => ?_)
  refine m_zst C hH 11 (by decide) (by decide) rfl (N := 24) rfl (f := (ar 11)) rfl (j := (6 * q + z)) rfl (by omega) (by rcases hfw with z | z <;> rw [z] <;> rfl) d_Mo_part_99 (fun H locs hH => ?_)
  refine x_sx C b_Mo_part_100_101 hl (L' := [(5, .int (nI (6 * q + z))), (0, .ref (ad 20)), (1, .int a1), (2, .int a2), (3, .int a3), (4, .int fw)]) (st' := [.ref (ad 20)]) rfl (fun ls hl => ?_)
  refine x_get C hH.1 1000 mW_o 15 (v := .ref (ad 8)) rfl rfl (by decide) t_657 (fun _ z => z) d_Mo_part_101 ?_
  refine x_sx C b_Mo_part_104_106 hl (L' := [(5, .int (nI (6 * q + z))), (0, .ref (ad 20)), (1, .int a1), (2, .int a2), (3, .int a3), (4, .int fw)]) (st' := [.int a1, .ref (ad 8), .int a1, .ref (ad 8)]) rfl (fun ls hl => ?_)
  refine x_ald C hH.1 (1001 + 8) (mW_i 8 (by decide) (by decide) rfl rfl rfl) (N := 4) (f := (ar 8)) (j := q) e1 hq (by decide) d_Mo_part_106 ?_
  refine x_sx C b_Mo_part_107_109 hl (L' := [(5, .int (nI (6 * q + z))), (0, .ref (ad 20)), (1, .int a1), (2, .int a2), (3, .int a3), (4, .int fw)]) (st' := [.int ((ar 8 q) + 1), .int a1, .ref (ad 8)]) rfl (fun ls hl => ?_)
  refine m_ast C hH 8 (by decide) (by decide) rfl (N := 4) rfl (f := (ar 8)) rfl (j := q) e1 hq d_Mo_part_109 (fun H locs hH => ?_)
  refine x_sx C b_Mo_part_110_111 hl (L' := [(5, .int (nI (6 * q + z))), (0, .ref (ad 20)), (1, .int a1), (2, .int a2), (3, .int a3), (4, .int fw)]) (st' := [.ref (ad 20)]) rfl (fun ls hl => ?_)
  refine x_get C hH.1 1000 mW_o 15 (v := .ref (ad 8)) rfl rfl (by decide) t_657 (fun _ z => z) d_Mo_part_111 ?_
  refine x_sx C b_Mo_part_114_115 hl (L' := [(5, .int (nI (6 * q + z))), (0, .ref (ad 20)), (1, .int a1), (2, .int a2), (3, .int a3), (4, .int fw)]) (st' := [.int a1, .ref (ad 8)]) rfl (fun ls hl => ?_)
  refine x_ald C hH.1 (1001 + 8) (mW_i 8 (by decide) (by decide) rfl rfl rfl) (N := 4) (f := (upd (ar 8) q ((ar 8 q) + 1))) (j := q) e1 hq (by decide) d_Mo_part_115 ?_
  rw [pk_us]
  exact x_irt C hr hH.2.2 ⟨by rw [hm, nI_1], by unfold fPartA; rw [← nI_1, ← hm]; exact hH.1, by unfold fPartA; rw [← nI_1, ← hm]; exact hH.2.1⟩ (Nat.le_refl _) (Nat.le_refl _) d_Mo_part_116
theorem hd_Mo_part : hdP y_Mo_part 4 := ⟨by decide +kernel, by decide +kernel, by decide +kernel⟩
