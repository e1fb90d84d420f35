theorem b_SP_pole_43_44 : decs prog_1_method_11_code [(.iconst 1, 1)] 43 44 = true := by decide +kernel
theorem d_SP_pole_44 : decode prog_1_method_11_code 44 = .ok (.goto 4, 3) := by decide +kernel
theorem b_SP_pole_51_52 : decs prog_1_method_11_code [(.aload_n 0, 1)] 51 52 = true := by decide +kernel
theorem d_SP_pole_52 : decode prog_1_method_11_code 52 = .ok (.getfield 27, 3) := by decide +kernel
theorem b_SP_pole_55_56 : decs prog_1_method_11_code [(.aload_n 0, 1)] 55 56 = true := by decide +kernel
theorem d_SP_pole_56 : decode prog_1_method_11_code 56 = .ok (.getfield 94, 3) := by decide +kernel
theorem b_SP_pole_59_60 : decs prog_1_method_11_code [(.iload_n 1, 1)] 59 60 = true := by decide +kernel
theorem d_SP_pole_60 : decode prog_1_method_11_code 60 = .ok (.iastore, 1) := by decide +kernel
theorem b_SP_pole_61_62 : decs prog_1_method_11_code [(.aload_n 0, 1)] 61 62 = true := by decide +kernel
theorem d_SP_pole_62 : decode prog_1_method_11_code 62 = .ok (.getfield 30, 3) := by decide +kernel
theorem b_SP_pole_65_66 : decs prog_1_method_11_code [(.aload_n 0, 1)] 65 66 = true := by decide +kernel
theorem d_SP_pole_66 : decode prog_1_method_11_code 66 = .ok (.getfield 94, 3) := by decide +kernel
theorem b_SP_pole_69_70 : decs prog_1_method_11_code [(.iload_n 2, 1)] 69 70 = true := by decide +kernel
theorem d_SP_pole_70 : decode prog_1_method_11_code 70 = .ok (.iastore, 1) := by decide +kernel
theorem b_SP_pole_71_73 : decs prog_1_method_11_code [(.aload_n 0, 1), (.dup, 1)] 71 73 = true := by decide +kernel
theorem d_SP_pole_73 : decode prog_1_method_11_code 73 = .ok (.getfield 94, 3) := by decide +kernel
theorem b_SP_pole_76_78 : decs prog_1_method_11_code [(.iconst 1, 1), (.iadd, 1)] 76 78 = true := by decide +kernel
theorem d_SP_pole_78 : decode prog_1_method_11_code 78 = .ok (.putfield 94, 3) := by decide +kernel
theorem b_SP_pole_81_82 : decs prog_1_method_11_code [(.aload_n 0, 1)] 81 82 = true := by decide +kernel
theorem d_SP_pole_82 : decode prog_1_method_11_code 82 = .ok (.getfield 94, 3) := by decide +kernel
theorem b_SP_pole_85_87 : decs prog_1_method_11_code [(.iconst 1, 1), (.isub, 1)] 85 87 = true := by decide +kernel
theorem d_SP_pole_87 : decode prog_1_method_11_code 87 = .ok (.ireturn, 1) := by decide +kernel
set_option maxRecDepth 100000 in
set_option maxHeartbeats 4000000 in
theorem c_SP_pole (l : Launch) (G : GG) (A : Nat → Prop) (rb n : Nat) (md : Int32) (rd sd : Nat → Nat) (ms : Nat → Int32) (fl mn : Nat → Nat) (sc : Nat → Int32) (ar : Nat → Nat → Int32) (b : Bt) (w0 : WF) (np : Nat) (a1 a2 : Int32) (hn : n ≤ 3) (hrb : 100 ≤ rb) (hv : p_in a1 (-1000) 1000 = 1 ∧ p_in a2 (-1000) 1000 = 1) (h6 : sc 6 = nI np) (hnp : np < 20) : Met l y_SP_pole (Cond.code y_SP_pole prog_1_method_11_code 3 (some FieldType.int) :: wt) { frames := 7, cells := 0, slots := 0, locals := 110 } (Pre G A (cW G rb n md rd sd ms fl mn sc ar b w0) (fun _ => True) [.ref (sd 0), .int a1, .int a2]) (Qx1 (X := Unit) A (fun _ => .int (nI np)) (fun _ _ => True) G (fun _ => cW G rb n md rd sd ms fl mn (fPoleS sc) (fPoleA ar np a1 a2) b w0)) 0 0 A := by
  refine mt_of (by decide) (Nat.le_of_ble_eq_true rfl) ?_
  intro p e s m below meth c ls C hH hA hE hr hmn hl
  have hl : lv_has ls 3 [(0, .ref (sd 0)), (1, .int a1), (2, .int a2)] := hl
  refine x_sx C b_SP_pole_0_7 hl (L' := [(0, .ref (sd 0)), (1, .int a1), (2, .int a2)]) (st' := [.int 1000, .int (-1000), .int a1]) rfl (fun ls hl => ?_)
  refine x_ro (x_cS C (c_SP_isIn l G (cW G rb n md rd sd ms fl mn sc ar b w0) a1 (-1000) 1000) t_365 t_1 t_363 t_364 hd_SP_isIn blind_Pro (pre_ro C hH.1 hH.2.2) (As := [.int a1, .int (-1000), .int 1000]) (rest := []) rfl hl.1 rfl rfl rfl ⟨Nat.le_of_ble_eq_true rfl, Nat.le_of_ble_eq_true rfl⟩ (Nat.le_of_ble_eq_true rfl) ⟨Nat.zero_le _, Nat.zero_le _⟩ d_SP_pole_7) ?_
  refine lv_if_eq (tgt := 30) C.1 C.2.1 d_SP_pole_10 (by decide) (fun h => absurd h (by rw [hv.1]; first | done | decide)) (fun _ => ?_)
  refine x_sx C b_SP_pole_13_20 hl (L' := [(0, .ref (sd 0)), (1, .int a1), (2, .int a2)]) (st' := [.int 1000, .int (-1000), .int a2]) rfl (fun ls hl => ?_)
  refine x_ro (x_cS C (c_SP_isIn l G (cW G rb n md rd sd ms fl mn sc ar b w0) a2 (-1000) 1000) t_365 t_1 t_363 t_364 hd_SP_isIn blind_Pro (pre_ro C hH.1 hH.2.2) (As := [.int a2, .int (-1000), .int 1000]) (rest := []) rfl hl.1 rfl rfl rfl ⟨Nat.le_of_ble_eq_true rfl, Nat.le_of_ble_eq_true rfl⟩ (Nat.le_of_ble_eq_true rfl) ⟨Nat.zero_le _, Nat.zero_le _⟩ d_SP_pole_20) ?_
  refine lv_if_eq (tgt := 30) C.1 C.2.1 d_SP_pole_23 (by decide) (fun h => absurd h (by rw [hv.2]; first | done | decide)) (fun _ => ?_)
  refine x_sx C b_SP_pole_26_27 hl (L' := [(0, .ref (sd 0)), (1, .int a1), (2, .int a2)]) (st' := [.int 1]) rfl (fun ls hl => ?_)
  refine x_goto (tgt := 31) C d_SP_pole_27 (by decide) ?_
  refine x_rv (x_cS C (c_SP_need l G (cW G rb n md rd sd ms fl mn sc ar b w0)) t_368 t_1 t_366 t_367 hd_SP_need blind_Pro (pre_ro C hH.1 hH.2.2) (As := [.int 1]) (rest := []) rfl hl.1 rfl rfl rfl ⟨Nat.le_of_ble_eq_true rfl, Nat.le_of_ble_eq_true rfl⟩ (Nat.le_of_ble_eq_true rfl) ⟨Nat.zero_le _, Nat.zero_le _⟩ d_SP_pole_31) ?_
  refine x_sx C b_SP_pole_34_35 hl (L' := [(0, .ref (sd 0)), (1, .int a1), (2, .int a2)]) (st' := [.ref (sd 0)]) rfl (fun ls hl => ?_)
  refine x_get C hH.1 0 ((rW_0 (Or.inl (by omega)) hn).trans (sp_L hn).1) 4 (v := .int (sc 6)) rfl rfl (by decide) t_305 (fun _ z => z) d_SP_pole_35 ?_
  refine x_sx C b_SP_pole_38_40 hl (L' := [(0, .ref (sd 0)), (1, .int a1), (2, .int a2)]) (st' := [.int 20, .int (sc 6)]) rfl (fun ls hl => ?_)
  refine lv_icmp_ge (tgt := 47) C.1 C.2.1 d_SP_pole_40 (by decide) (fun h => absurd h (by rw [h6]; exact nI_ge (b := 20) hnp (by decide))) (fun _ => ?_)
  refine x_sx C b_SP_pole_43_44 hl (L' := [(0, .ref (sd 0)), (1, .int a1), (2, .int a2)]) (st' := [.int 1]) rfl (fun ls hl => ?_)
  refine x_goto (tgt := 48) C d_SP_pole_44 (by decide) ?_
  refine x_rv (x_cS C (c_SP_may l G (cW G rb n md rd sd ms fl mn sc ar b w0)) t_434 t_1 t_432 t_433 hd_SP_may blind_Pro (pre_ro C hH.1 hH.2.2) (As := [.int 1]) (rest := []) rfl hl.1 rfl rfl rfl ⟨Nat.le_of_ble_eq_true rfl, Nat.le_of_ble_eq_true rfl⟩ (Nat.le_of_ble_eq_true rfl) ⟨Nat.zero_le _, Nat.zero_le _⟩ d_SP_pole_48) ?_
  refine x_sx C b_SP_pole_51_52 hl (L' := [(0, .ref (sd 0)), (1, .int a1), (2, .int a2)]) (st' := [.ref (sd 0)]) rfl (fun ls hl => ?_)
  refine x_get C hH.1 0 ((rW_0 (Or.inl (by omega)) hn).trans (sp_L hn).1) 2 (v := .ref (sd 1)) rfl rfl (by decide) t_300 (fun _ z => z) d_SP_pole_52 ?_
  refine x_sx C b_SP_pole_55_56 hl (L' := [(0, .ref (sd 0)), (1, .int a1), (2, .int a2)]) (st' := [.ref (sd 0), .ref (sd 1)]) rfl (fun ls hl => ?_)
  refine x_get C hH.1 0 ((rW_0 (Or.inl (by omega)) hn).trans (sp_L hn).1) 4 (v := .int (sc 6)) rfl rfl (by decide) t_305 (fun _ z => z) d_SP_pole_56 ?_
  refine x_sx C b_SP_pole_59_60 hl (L' := [(0, .ref (sd 0)), (1, .int a1), (2, .int a2)]) (st' := [.int a1, .int (sc 6), .ref (sd 1)]) rfl (fun ls hl => ?_)
  refine x_ast C hH 1 ((rW_0 (Or.inl (by omega)) hn).trans sp_1) (j := np) h6 hnp (by decide) d_SP_pole_60 (fun H locs hH => ?_)
  rw [rW_base hn (by omega) rfl (fun _ _ => rfl) (sp_pX _)] at hH
  refine x_sx C b_SP_pole_61_62 hl (L' := [(0, .ref (sd 0)), (1, .int a1), (2, .int a2)]) (st' := [.ref (sd 0)]) rfl (fun ls hl => ?_)
  refine x_get C hH.1 0 ((rW_0 (Or.inl (by omega)) hn).trans (sp_L hn).1) 3 (v := .ref (sd 2)) rfl rfl (by decide) t_302 (fun _ z => z) d_SP_pole_62 ?_
  refine x_sx C b_SP_pole_65_66 hl (L' := [(0, .ref (sd 0)), (1, .int a1), (2, .int a2)]) (st' := [.ref (sd 0), .ref (sd 2)]) rfl (fun ls hl => ?_)
  refine x_get C hH.1 0 ((rW_0 (Or.inl (by omega)) hn).trans (sp_L hn).1) 4 (v := .int (sc 6)) rfl rfl (by decide) t_305 (fun _ z => z) d_SP_pole_66 ?_
  refine x_sx C b_SP_pole_69_70 hl (L' := [(0, .ref (sd 0)), (1, .int a1), (2, .int a2)]) (st' := [.int a2, .int (sc 6), .ref (sd 2)]) rfl (fun ls hl => ?_)
  refine x_ast C hH 2 ((rW_0 (Or.inl (by omega)) hn).trans sp_2) (j := np) h6 hnp (by decide) d_SP_pole_70 (fun H locs hH => ?_)
  rw [rW_base hn (by omega) rfl (fun _ _ => rfl) (sp_pY _)] at hH
  refine x_sx C b_SP_pole_71_73 hl (L' := [(0, .ref (sd 0)), (1, .int a1), (2, .int a2)]) (st' := [.ref (sd 0), .ref (sd 0)]) rfl (fun ls hl => ?_)
  refine x_get C hH.1 0 ((rW_0 (Or.inl (by omega)) hn).trans (sp_L hn).1) 4 (v := .int (sc 6)) rfl rfl (by decide) t_305 (fun _ z => z) d_SP_pole_73 ?_
  refine x_sx C b_SP_pole_76_78 hl (L' := [(0, .ref (sd 0)), (1, .int a1), (2, .int a2)]) (st' := [.int ((sc 6) + 1), .ref (sd 0)]) rfl (fun ls hl => ?_)
  refine x_put C hH 0 ((rW_0 (Or.inl (by omega)) hn).trans sp_0) 4 (v := .int ((sc 6) + 1)) (show 4 < 10 by decide) rfl (by decide) t_305 (fun _ z => z) rfl rfl rfl d_SP_pole_78 (fun H locs hH => ?_)
  rw [rW_base hn (by omega) rfl (fun _ _ => rfl) (sp_put (rv' := .ref (rd 0)) (sc' := (fPoleS sc)) (fs := (spFs sd (.ref (rd 0)) sc).set 4 (.int ((sc 6) + 1))) rfl)] at hH
  refine x_sx C b_SP_pole_81_82 hl (L' := [(0, .ref (sd 0)), (1, .int a1), (2, .int a2)]) (st' := [.ref (sd 0)]) rfl (fun ls hl => ?_)
  refine x_get C hH.1 0 ((rW_0 (Or.inl (by omega)) hn).trans (sp_L hn).1) 4 (v := .int ((fPoleS sc) 6)) rfl rfl (by decide) t_305 (fun _ z => z) d_SP_pole_82 ?_
  refine x_sx C b_SP_pole_85_87 hl (L' := [(0, .ref (sd 0)), (1, .int a1), (2, .int a2)]) (st' := [.int (((fPoleS sc) 6) - 1)]) rfl (fun ls hl => ?_)
  have e1 : cW G rb n md rd sd ms fl mn (fPoleS sc) (fPoleA ar np a1 a2) b w0 = (rW G rb n md rd sd (spW G sd (.ref (rd 0)) n ms fl mn (fPoleS sc) (va_up (va_up ar 6 (upd (ar 6) np a1)) 7 (upd ((va_up ar 6 (upd (ar 6) np a1)) 7) np a2)) w0) sc ar b) := cw_mix (fun _ _ _ => rfl) (fun _ _ _ => rfl) (fun j h1 h2 => by unfold fPoleS; rw [up_n _ _ (by omega), up_n _ _ (by omega)]) (fun i h1 h2 k _ => by unfold fPoleA; rw [up_n _ _ (by omega), up_n _ _ (by omega)])
  rw [← e1] at hH
  have e9 : fPoleS sc 6 - 1 = nI np := by show sc 6 + 1 - 1 = nI np; rw [h6, nI_1, nI_pred]
  exact x_irt C hr hH.2.2 ⟨(), (by rw [e9]), trivial, hH.1, hH.2.1⟩ (Nat.le_of_ble_eq_true rfl) (Nat.le_of_ble_eq_true rfl) d_SP_pole_87
theorem hd_SP_pole : hdP y_SP_pole 2 := ⟨by decide +kernel, by decide +kernel, by decide +kernel⟩
theorem b_SP_go_39_40 : decs prog_1_method_12_code [(.iconst 1, 1)] 39 40 = true := by decide +kernel
theorem d_SP_go_40 : decode prog_1_method_12_code 40 = .ok (.goto 4, 3) := by decide +kernel
theorem b_SP_go_47_48 : decs prog_1_method_12_code [(.aload_n 0, 1)] 47 48 = true := by decide +kernel
theorem d_SP_go_48 : decode prog_1_method_12_code 48 = .ok (.getfield 46, 3) := by decide +kernel
theorem b_SP_go_51_54 : decs prog_1_method_12_code [(.iload_n 1, 1), (.iload_n 2, 1), (.iload_n 3, 1)] 51 54 = true := by decide +kernel
theorem d_SP_go_54 : decode prog_1_method_12_code 54 = .ok (.invokevirtual 101, 3) := by decide +kernel
theorem b_SP_go_57_58 : decs prog_1_method_12_code [(.aload_n 0, 1)] 57 58 = true := by decide +kernel
theorem d_SP_go_58 : decode prog_1_method_12_code 58 = .ok (.getfield 46, 3) := by decide +kernel
theorem d_SP_go_61 : decode prog_1_method_12_code 61 = .ok (.getfield 105, 3) := by decide +kernel
theorem d_SP_go_64 : decode prog_1_method_12_code 64 = .ok (.ireturn, 1) := by decide +kernel
set_option maxRecDepth 100000 in
set_option maxHeartbeats 4000000 in
theorem c_SP_go (l : Launch) (G : GG) (A : Nat → Prop) (rb n : Nat) (md : Int32) (rd sd : Nat → Nat) (ms : Nat → Int32) (fl mn : Nat → Nat) (sc : Nat → Int32) (ar : Nat → Nat → Int32) (b : Bt) (w0 : WF) (np N : Nat) (a1 fw : Int32) (K : SA → Prop) (hn : n ≤ 3) (hrb : 100 ≤ rb) (hn0 : 0 < n) (hN : N < 2 ^ 31) (hv : p_in a1 (-3) 3 = 1 ∧ p_in (nI N) 1 200 = 1) (hB : BR b (ar 17)) (hK : Kc n np K) (hk0 : K (sc, ar)) : Met l y_SP_go (Cond.code y_SP_go prog_1_method_12_code 4 (some FieldType.int) :: wt) { frames := 9, cells := 6, slots := 256, locals := 233 } (Pre G A (cW G rb n md rd sd ms fl mn sc ar b w0) (fun _ => True) [.ref (sd 0), .int a1, .int (nI N), .int fw]) (Qx1 (X := Bt) A (fun x => .int ((goI (sc, ar) a1 fw N).1 7)) (fun x _ => BR x ((goI (sc, ar) a1 fw N).2 17)) G (fun x => cW G rb n md rd sd ms fl mn (goI (sc, ar) a1 fw N).1 (goI (sc, ar) a1 fw N).2 x w0)) 6 256 A := by
  refine mt_of (by decide) (Nat.le_of_ble_eq_true rfl) ?_
  intro p e s m below meth c ls C hH hA hE hr hmn hl
  have hl : lv_has ls 4 [(0, .ref (sd 0)), (1, .int a1), (2, .int (nI N)), (3, .int fw)] := hl
  refine x_sx C b_SP_go_0_4 hl (L' := [(0, .ref (sd 0)), (1, .int a1), (2, .int (nI N)), (3, .int fw)]) (st' := [.int 3, .int (-3), .int a1]) rfl (fun ls hl => ?_)
  refine x_ro (x_cS C (c_SP_isIn l G (cW G rb n md rd sd ms fl mn sc ar b w0) a1 (-3) 3) t_365 t_1 t_363 t_364 hd_SP_isIn blind_Pro (pre_ro C hH.1 hH.2.2) (As := [.int a1, .int (-3), .int 3]) (rest := []) rfl hl.1 rfl rfl rfl ⟨Nat.le_of_ble_eq_true rfl, Nat.le_of_ble_eq_true rfl⟩ (Nat.le_of_ble_eq_true rfl) ⟨Nat.zero_le _, Nat.zero_le _⟩ d_SP_go_4) ?_
  refine lv_if_eq (tgt := 25) C.1 C.2.1 d_SP_go_7 (by decide) (fun h => absurd h (by rw [hv.1]; first | done | decide)) (fun _ => ?_)
  refine x_sx C b_SP_go_10_15 hl (L' := [(0, .ref (sd 0)), (1, .int a1), (2, .int (nI N)), (3, .int fw)]) (st' := [.int 200, .int 1, .int (nI N)]) rfl (fun ls hl => ?_)
  refine x_ro (x_cS C (c_SP_isIn l G (cW G rb n md rd sd ms fl mn sc ar b w0) (nI N) 1 200) t_365 t_1 t_363 t_364 hd_SP_isIn blind_Pro (pre_ro C hH.1 hH.2.2) (As := [.int (nI N), .int 1, .int 200]) (rest := []) rfl hl.1 rfl rfl rfl ⟨Nat.le_of_ble_eq_true rfl, Nat.le_of_ble_eq_true rfl⟩ (Nat.le_of_ble_eq_true rfl) ⟨Nat.zero_le _, Nat.zero_le _⟩ d_SP_go_15) ?_
  refine lv_if_eq (tgt := 25) C.1 C.2.1 d_SP_go_18 (by decide) (fun h => absurd h (by rw [hv.2]; first | done | decide)) (fun _ => ?_)
  refine x_sx C b_SP_go_21_22 hl (L' := [(0, .ref (sd 0)), (1, .int a1), (2, .int (nI N)), (3, .int fw)]) (st' := [.int 1]) rfl (fun ls hl => ?_)
  refine x_goto (tgt := 26) C d_SP_go_22 (by decide) ?_
  refine x_rv (x_cS C (c_SP_need l G (cW G rb n md rd sd ms fl mn sc ar b w0)) t_368 t_1 t_366 t_367 hd_SP_need blind_Pro (pre_ro C hH.1 hH.2.2) (As := [.int 1]) (rest := []) rfl hl.1 rfl rfl rfl ⟨Nat.le_of_ble_eq_true rfl, Nat.le_of_ble_eq_true rfl⟩ (Nat.le_of_ble_eq_true rfl) ⟨Nat.zero_le _, Nat.zero_le _⟩ d_SP_go_26) ?_
  refine x_sx C b_SP_go_29_30 hl (L' := [(0, .ref (sd 0)), (1, .int a1), (2, .int (nI N)), (3, .int fw)]) (st' := [.ref (sd 0)]) rfl (fun ls hl => ?_)
  refine x_get C hH.1 0 ((rW_0 (Or.inl (by omega)) hn).trans (sp_L hn).1) 0 (v := .ref (sd 3)) rfl rfl (by decide) t_298 (fun _ z => z) d_SP_go_30 ?_
  refine x_ro (x_cV C hH.1 ((rW_0 (Or.inl (by omega)) hn).trans sp_3) rfl (c_AL_isEmpty l G (cW G rb n md rd sd ms fl mn sc ar b w0) 3 (sd 3) (if n = 0 then G.2.2 1 else sd 4) (nI n) (ms 0) ((rW_0 (Or.inl (by omega)) hn).trans sp_3)) t_514 t_4 t_511 t_512 t_513 hd_AL_isEmpty blind_Pro (pre_ro C hH.1 hH.2.2) (As := []) (rest := []) rfl hl.1 rfl rfl rfl ⟨Nat.le_of_ble_eq_true rfl, Nat.le_of_ble_eq_true rfl⟩ (Nat.le_of_ble_eq_true rfl) ⟨Nat.zero_le _, Nat.zero_le _⟩ d_SP_go_33) ?_
  refine lv_if_ne (tgt := 43) C.1 C.2.1 d_SP_go_36 (by decide) (fun h => absurd (if_neg (nI_ne0 hn0 (by omega))) h) (fun _ => ?_)
  refine x_sx C b_SP_go_39_40 hl (L' := [(0, .ref (sd 0)), (1, .int a1), (2, .int (nI N)), (3, .int fw)]) (st' := [.int 1]) rfl (fun ls hl => ?_)
  refine x_goto (tgt := 44) C d_SP_go_40 (by decide) ?_
  refine x_rv (x_cS C (c_SP_may l G (cW G rb n md rd sd ms fl mn sc ar b w0)) t_434 t_1 t_432 t_433 hd_SP_may blind_Pro (pre_ro C hH.1 hH.2.2) (As := [.int 1]) (rest := []) rfl hl.1 rfl rfl rfl ⟨Nat.le_of_ble_eq_true rfl, Nat.le_of_ble_eq_true rfl⟩ (Nat.le_of_ble_eq_true rfl) ⟨Nat.zero_le _, Nat.zero_le _⟩ d_SP_go_44) ?_
  refine W.know (fun k1 k2 _ _ => ?_)
  refine x_sx C b_SP_go_47_48 hl (L' := [(0, .ref (sd 0)), (1, .int a1), (2, .int (nI N)), (3, .int fw)]) (st' := [.ref (sd 0)]) rfl (fun ls hl => ?_)
  refine x_get C hH.1 0 ((rW_0 (Or.inl (by omega)) hn).trans (sp_L hn).1) 9 (v := .ref (rd 0)) rfl rfl (by decide) t_314 (fun _ z => z) d_SP_go_48 ?_
  refine x_sx C b_SP_go_51_54 hl (L' := [(0, .ref (sd 0)), (1, .int a1), (2, .int (nI N)), (3, .int fw)]) (st' := [.int fw, .int (nI N), .int a1, .ref (rd 0)]) rfl (fun ls hl => ?_)
  have htu := p_inE.mp hv.1
  refine x_q0 (x_cV C hH.1 rW_o rfl (c_Run_go l G A rb n md rd sd (spW G sd (.ref (rd 0)) n ms fl mn sc ar w0) (.ref (rd 0)) sc ar b np N a1 fw K s.heap.size (hTot s.heap) hn0 hn hrb hN (sp_L hn) hB hK hk0 htu) t_518 t_9 t_515 t_516 t_517 hd_Run_go blind_Pre (pre_mt C hH hA ⟨rfl, rfl⟩) (As := [.int a1, .int (nI N), .int fw]) (rest := []) rfl hl.1 rfl rfl rfl ⟨Nat.le_of_ble_eq_true rfl, Nat.le_of_ble_eq_true rfl⟩ (Nat.le_of_ble_eq_true rfl) ⟨(by show 0 + pc6 b.2.1 ≤ 6; have := pc6_le b.2.1; omega), (by show 0 + ps6 b.2.1 ≤ 256; have := ps6_le b.2.1; omega)⟩ d_SP_go_54) hH.2.2 (fun x H locs hx hH hz => ?_)
  refine x_sx C b_SP_go_57_58 hl (L' := [(0, .ref (sd 0)), (1, .int a1), (2, .int (nI N)), (3, .int fw)]) (st' := [.ref (sd 0)]) rfl (fun ls hl => ?_)
  refine x_get C hH.1 0 ((rW_0 (Or.inl (by omega)) hn).trans (sp_L hn).1) 9 (v := .ref (rd 0)) rfl rfl (by decide) t_314 (fun _ z => z) d_SP_go_58 ?_
  refine x_get C hH.1 rb rW_o 2 (v := .int ((goI (sc, ar) a1 fw N).1 7)) rfl rfl (by decide) t_270 (fun _ z => z) d_SP_go_61 ?_
  have hH : Hw G A s (cW G rb n md rd sd ms fl mn (goI (sc, ar) a1 fw N).1 (goI (sc, ar) a1 fw N).2 x w0) H locs := by
    unfold cW
    rw [cw_mix (sc1 := sc) (ar1 := ar) (fun j h1 h2 => goI_sc _ _ _ (sc, ar) (by omega) (by omega) (by omega) (by omega) (by omega) (by omega)) (fun i h1 h2 => goI_ar _ _ _ (sc, ar) (by omega) (by omega) (by omega) (by omega) (by omega) (by omega)) (fun _ _ _ => rfl) (fun _ _ _ _ _ => rfl)]
    exact hH
  exact x_irt C hr hH.2.2 ⟨x, rfl, hx.1, hH.1, hH.2.1⟩ (by have := pc6_le b.2.1; omega) (by have := ps6_le b.2.1; omega) d_SP_go_64
theorem hd_SP_go : hdP y_SP_go 3 := ⟨by decide +kernel, by decide +kernel, by decide +kernel⟩
/-- a run's constructor, where the component's place has another name -/
theorem c_Run_init_a (l : Launch) (G : GG) (A : Nat → Prop) (w0 : WF) (rb n a ds : Nat) (ms : Int32) (fsh : Nat → Option Nat) (sd : Nat → Nat) (rv : Value) (sc : Nat → Int32) (ar : Nat → Nat → Int32) (np : Nat) (h1 : sc 1 = nI n) (hn : n ≤ 3) (hrb : 100 ≤ rb) (hr0 : w0 rb = some (a, .inr (4, [.null, .null, .int 0, .int 0, .int 0, .int 0, .int 0, .null]))) (hL : spL G w0 sd rv n sc ar) (hs3 : w0 3 = some (sd 3, .inr (6, [.ref ds, .int (nI n), .int ms]))) (hs4 : 0 < n → w0 4 = some (ds, .inl (G.2.1 3, 10, .inr (.inr (.inr (.inr fsh))))) ∧ ∀ k, k < n → fsh k = some (sd (20 + k))) (h6 : sc 6 = nI np) (hnp : np ≤ 20) (hg : ∀ k, k < n → rgC (bgI (bgS sc) ar 3) k)  {sp0 : Nat} (hs0 : sd 0 = sp0) : Met l y_Run_init (Cond.code y_Run_init prog_4_method_1_code 4 none :: wt) { frames := 7, cells := 13, slots := 292, locals := 183 } (Pre G A w0 (fun _ => True) [.ref a, .ref sp0]) (Qx0 (X := (Nat → Nat) × Bt) A (fun x H => x.1 0 = a ∧ BR x.2 ((fBegin (sc, ar)).2 17)) G (fun x => rW G rb n (nI n) x.1 sd w0 (fBegin (sc, ar)).1 (fBegin (sc, ar)).2 x.2)) 13 292 A := by
  subst hs0
  exact c_Run_init l G A w0 rb n a ds ms fsh sd rv sc ar np h1 hn hrb hr0 hL hs3 hs4 h6 hnp hg
theorem b_SP_step_10_11 : decs prog_1_method_10_code [(.aload_n 0, 1)] 10 11 = true := by decide +kernel
theorem d_SP_step_11 : decode prog_1_method_10_code 11 = .ok (.getfield 33, 3) := by decide +kernel
theorem b_SP_step_14_17 : decs prog_1_method_10_code [(.istore_n 2, 1), (.aload_n 0, 1), (.iload_n 1, 1)] 14 17 = true := by decide +kernel
theorem d_SP_step_17 : decode prog_1_method_10_code 17 = .ok (.putfield 33, 3) := by decide +kernel
theorem b_SP_step_20_21 : decs prog_1_method_10_code [(.aload_n 0, 1)] 20 21 = true := by decide +kernel
theorem d_SP_step_21 : decode prog_1_method_10_code 21 = .ok (.new 41, 3) := by decide +kernel
theorem b_SP_step_24_26 : decs prog_1_method_10_code [(.dup, 1), (.aload_n 0, 1)] 24 26 = true := by decide +kernel
theorem d_SP_step_26 : decode prog_1_method_10_code 26 = .ok (.invokespecial 43, 3) := by decide +kernel
theorem d_SP_step_29 : decode prog_1_method_10_code 29 = .ok (.putfield 46, 3) := by decide +kernel
theorem b_SP_step_32_33 : decs prog_1_method_10_code [(.iload_n 2, 1)] 32 33 = true := by decide +kernel
theorem d_SP_step_33 : decode prog_1_method_10_code 33 = .ok (.ireturn, 1) := by decide +kernel
set_option maxRecDepth 100000 in
set_option maxHeartbeats 4000000 in
theorem c_SP_step (l : Launch) (G : GG) (A : Nat → Prop) (rb n : Nat) (md : Int32) (rd sd : Nat → Nat) (ms : Nat → Int32) (fl mn : Nat → Nat) (sc : Nat → Int32) (ar : Nat → Nat → Int32) (b : Bt) (w0 : WF) (np : Nat) (a1 : Int32) (hn : n ≤ 3) (hrb : 100 ≤ rb) (hrbE : rb = 100 ∨ rb = 200) (hw : ∀ m, 100 ≤ m → m < 300 → w0 m = none) (hv : p_in a1 1 20 = 1) (h1 : sc 1 = nI n) (h6 : sc 6 = nI np) (hnp : np ≤ 20) (hg : ∀ k, k < n → rgC (bgI (bgS (fStepS sc a1)) ar 3) k) : Met l y_SP_step (Cond.code y_SP_step prog_1_method_10_code 3 (some FieldType.int) :: wt) { frames := 8, cells := 14, slots := 300, locals := 206 } (Pre G A (cW G rb n md rd sd ms fl mn sc ar b w0) (fun _ => True) [.ref (sd 0), .int a1]) (Qx1 (X := (Nat → Nat) × Bt) A (fun x => .int (sc 5)) (fun x _ => BR x.2 ((fBegin (fStepS sc a1, ar)).2 17)) G (fun x => cW G (300 - rb) n (nI n) x.1 sd ms fl mn (fBegin (fStepS sc a1, ar)).1 (fBegin (fStepS sc a1, ar)).2 x.2 w0)) 14 300 A := by
  refine mt_of (by decide) (Nat.le_of_ble_eq_true rfl) ?_
  intro p e s m below meth c ls C hH hA hE hr hmn hl
  have hl : lv_has ls 3 [(0, .ref (sd 0)), (1, .int a1)] := hl
  refine x_sx C b_SP_step_0_4 hl (L' := [(0, .ref (sd 0)), (1, .int a1)]) (st' := [.int 20, .int 1, .int a1]) rfl (fun ls hl => ?_)
  refine x_ro (x_cS C (c_SP_isIn l G (cW G rb n md rd sd ms fl mn sc ar b w0) a1 1 20) t_365 t_1 t_363 t_364 hd_SP_isIn blind_Pro (pre_ro C hH.1 hH.2.2) (As := [.int a1, .int 1, .int 20]) (rest := []) rfl hl.1 rfl rfl rfl ⟨Nat.le_of_ble_eq_true rfl, Nat.le_of_ble_eq_true rfl⟩ (Nat.le_of_ble_eq_true rfl) ⟨Nat.zero_le _, Nat.zero_le _⟩ d_SP_step_4) ?_
  rw [hv]
  refine x_rv (x_cS C (c_SP_need l G (cW G rb n md rd sd ms fl mn sc ar b w0)) t_368 t_1 t_366 t_367 hd_SP_need blind_Pro (pre_ro C hH.1 hH.2.2) (As := [.int 1]) (rest := []) rfl hl.1 rfl rfl rfl ⟨Nat.le_of_ble_eq_true rfl, Nat.le_of_ble_eq_true rfl⟩ (Nat.le_of_ble_eq_true rfl) ⟨Nat.zero_le _, Nat.zero_le _⟩ d_SP_step_7) ?_
  refine x_sx C b_SP_step_10_11 hl (L' := [(0, .ref (sd 0)), (1, .int a1)]) (st' := [.ref (sd 0)]) rfl (fun ls hl => ?_)
  refine x_get C hH.1 0 ((rW_0 (Or.inl (by omega)) hn).trans (sp_L hn).1) 8 (v := .int (sc 5)) rfl rfl (by decide) t_312 (fun _ z => z) d_SP_step_11 ?_
  refine x_sx C b_SP_step_14_17 hl (L' := [(2, .int (sc 5)), (0, .ref (sd 0)), (1, .int a1)]) (st' := [.int a1, .ref (sd 0)]) rfl (fun ls hl => ?_)
  refine x_put C hH 0 ((rW_0 (Or.inl (by omega)) hn).trans sp_0) 8 (v := .int a1) (show 8 < 10 by decide) rfl (by decide) t_312 (fun _ z => z) rfl rfl rfl d_SP_step_17 (fun H locs hH => ?_)
  rw [rW_base hn (by omega) rfl (fun _ _ => rfl) (sp_put (rv' := .ref (rd 0)) (sc' := (fStepS sc a1)) (fs := (spFs sd (.ref (rd 0)) sc).set 8 (.int a1)) rfl)] at hH
  refine x_sx C b_SP_step_20_21 hl (L' := [(2, .int (sc 5)), (0, .ref (sd 0)), (1, .int a1)]) (st' := [.ref (sd 0)]) rfl (fun ls hl => ?_)
  have hH : Hw G A s (rW G rb n md rd sd (spW G sd (.ref (rd 0)) n ms fl mn (fStepS sc a1) ar w0) sc ar b) H _ := hH
  refine x_newN C hH hA (300 - rb) 4 rfl 8 rfl t_115 t_116 t_9 (fs := [.null, .null, .int 0, .int 0, .int 0, .int 0, .int 0, .null]) (by decide) (by show 0 + 1 ≤ 14; omega) (by show 0 + 8 ≤ 300; omega) d_SP_step_21 (fun a H hH => ?_)
  refine x_sx C b_SP_step_24_26 hl (L' := [(2, .int (sc 5)), (0, .ref (sd 0)), (1, .int a1)]) (st' := [.ref (sd 0), .ref a, .ref a, .ref (sd 0)]) rfl (fun ls hl => ?_)
  refine x_q0 (x_cI C (c_Run_init l G A (va_up (rW G rb n md rd sd (spW G sd (.ref (rd 0)) n ms fl mn (fStepS sc a1) ar w0) sc ar b) (300 - rb) (some (a, .inr (4, [.null, .null, .int 0, .int 0, .int 0, .int 0, .int 0, .null])))) (300 - rb) n a (if n = 0 then G.2.2 1 else sd 4) (ms 0) (shD sd n) sd (.ref (rd 0)) (fStepS sc a1) ar np h1 hn (by omega) (up_s _ _ _) (spL_up (spL_rW (sp_L hn) (by omega) hn hn) (by omega) hn) ((up_n _ _ (by omega)).trans ((rW_out hn (by omega)).trans sp_3)) (fun h0 => ⟨(up_n _ _ (by omega)).trans ((rW_out hn (by omega)).trans (by rw [if_neg (by omega)]; exact sp_4 h0)), fun k hk => if_pos hk⟩) h6 hnp hg) t_119 t_9 t_117 t_118 rfl hd_Run_init blind_Pre (pre_mt C hH hA trivial) (As := [.ref (sd 0)]) (rest := [.ref a, .ref (sd 0)]) rfl hl.1 rfl rfl rfl ⟨Nat.le_of_ble_eq_true rfl, Nat.le_of_ble_eq_true rfl⟩ (Nat.le_of_ble_eq_true rfl) ⟨(by show 0 + 1 + 13 ≤ 14; omega), (by show 0 + 8 + 292 ≤ 300; omega)⟩ d_SP_step_26) hH.2.2 (fun x H locs hx hH hz => ?_)
  refine x_put C hH 0 ((rW_out hn (by omega)).trans ((up_n _ _ (by omega)).trans ((rW_out hn (by omega)).trans sp_0))) 9 (v := .ref a) (show 9 < 10 by decide) rfl (by decide) t_314 (fun _ z => z) rfl rfl rfl d_SP_step_29 (fun H locs hH => ?_)
  have hH : Hw G A s (cW G (300 - rb) n (nI n) x.1 sd ms fl mn (fBegin ((fStepS sc a1), ar)).1 (fBegin ((fStepS sc a1), ar)).2 x.2 w0) H locs := hH.less (new_less hn hn hrbE rfl hw hx.1 (fun j h1 h2 => fBegin_sc ((fStepS sc a1), ar) (by omega) (by omega) (by omega) (by omega) (by omega) (by omega)) (fun i h1 h2 => fBegin_ar ((fStepS sc a1), ar) (by omega) (by omega) (by omega) (by omega) (by omega) (by omega)) rfl)
  refine x_sx C b_SP_step_32_33 hl (L' := [(2, .int (sc 5)), (0, .ref (sd 0)), (1, .int a1)]) (st' := [.int (sc 5)]) rfl (fun ls hl => ?_)
  exact x_irt C hr hH.2.2 ⟨x, rfl, hx.2, hH.1, hH.2.1⟩ (Nat.le_of_ble_eq_true rfl) (Nat.le_of_ble_eq_true rfl) d_SP_step_33
theorem hd_SP_step : hdP y_SP_step 1 := ⟨by decide +kernel, by decide +kernel, by decide +kernel⟩
theorem b_SP_start_44_46 : decs prog_1_method_9_code [(.aload_n 0, 1), (.iload_n 1, 1)] 44 46 = true := by decide +kernel
theorem d_SP_start_46 : decode prog_1_method_9_code 46 = .ok (.putfield 85, 3) := by decide +kernel
theorem b_SP_start_49_51 : decs prog_1_method_9_code [(.aload_n 0, 1), (.iload_n 2, 1)] 49 51 = true := by decide +kernel
theorem d_SP_start_51 : decode prog_1_method_9_code 51 = .ok (.putfield 88, 3) := by decide +kernel
theorem b_SP_start_54_56 : decs prog_1_method_9_code [(.aload_n 0, 1), (.iload_n 3, 1)] 54 56 = true := by decide +kernel
theorem d_SP_start_56 : decode prog_1_method_9_code 56 = .ok (.putfield 91, 3) := by decide +kernel
theorem b_SP_start_59_60 : decs prog_1_method_9_code [(.aload_n 0, 1)] 59 60 = true := by decide +kernel
theorem d_SP_start_60 : decode prog_1_method_9_code 60 = .ok (.new 41, 3) := by decide +kernel
theorem b_SP_start_63_65 : decs prog_1_method_9_code [(.dup, 1), (.aload_n 0, 1)] 63 65 = true := by decide +kernel
theorem d_SP_start_65 : decode prog_1_method_9_code 65 = .ok (.invokespecial 43, 3) := by decide +kernel
theorem d_SP_start_68 : decode prog_1_method_9_code 68 = .ok (.putfield 46, 3) := by decide +kernel
theorem d_SP_start_71 : decode prog_1_method_9_code 71 = .ok (.return_, 1) := by decide +kernel
set_option maxRecDepth 100000 in
set_option maxHeartbeats 4000000 in
theorem c_SP_start (l : Launch) (G : GG) (A : Nat → Prop) (rb n : Nat) (md : Int32) (rd sd : Nat → Nat) (ms : Nat → Int32) (fl mn : Nat → Nat) (sc : Nat → Int32) (ar : Nat → Nat → Int32) (b : Bt) (w0 : WF) (np : Nat) (a1 a2 a3 : Int32) (hn : n ≤ 3) (hrb : 100 ≤ rb) (hrbE : rb = 100 ∨ rb = 200) (hw : ∀ m, 100 ≤ m → m < 300 → w0 m = none) (hv : p_in a1 (-1000) 1000 = 1 ∧ p_in a2 (-1000) 1000 = 1 ∧ p_in a3 0 63 = 1) (h1 : sc 1 = nI n) (h6 : sc 6 = nI np) (hnp : np ≤ 20) (hg : ∀ k, k < n → rgC (bgI (bgS (fStartS sc a1 a2 a3)) ar 3) k) : Met l y_SP_start (Cond.code y_SP_start prog_1_method_9_code 4 none :: wt) { frames := 8, cells := 14, slots := 300, locals := 206 } (Pre G A (cW G rb n md rd sd ms fl mn sc ar b w0) (fun _ => True) [.ref (sd 0), .int a1, .int a2, .int a3]) (Qx0 (X := (Nat → Nat) × Bt) A (fun x _ => BR x.2 ((fBegin (fStartS sc a1 a2 a3, ar)).2 17)) G (fun x => cW G (300 - rb) n (nI n) x.1 sd ms fl mn (fBegin (fStartS sc a1 a2 a3, ar)).1 (fBegin (fStartS sc a1 a2 a3, ar)).2 x.2 w0)) 14 300 A := by
  refine mt_of (by decide) (Nat.le_of_ble_eq_true rfl) ?_
  intro p e s m below meth c ls C hH hA hE hr hmn hl
  have hl : lv_has ls 4 [(0, .ref (sd 0)), (1, .int a1), (2, .int a2), (3, .int a3)] := hl
  refine x_sx C b_SP_start_0_7 hl (L' := [(0, .ref (sd 0)), (1, .int a1), (2, .int a2), (3, .int a3)]) (st' := [.int 1000, .int (-1000), .int a1]) rfl (fun ls hl => ?_)
  refine x_ro (x_cS C (c_SP_isIn l G (cW G rb n md rd sd ms fl mn sc ar b w0) a1 (-1000) 1000) t_365 t_1 t_363 t_364 hd_SP_isIn blind_Pro (pre_ro C hH.1 hH.2.2) (As := [.int a1, .int (-1000), .int 1000]) (rest := []) rfl hl.1 rfl rfl rfl ⟨Nat.le_of_ble_eq_true rfl, Nat.le_of_ble_eq_true rfl⟩ (Nat.le_of_ble_eq_true rfl) ⟨Nat.zero_le _, Nat.zero_le _⟩ d_SP_start_7) ?_
  refine lv_if_eq (tgt := 40) C.1 C.2.1 d_SP_start_10 (by decide) (fun h => absurd h (by rw [hv.1]; first | done | decide)) (fun _ => ?_)
  refine x_sx C b_SP_start_13_20 hl (L' := [(0, .ref (sd 0)), (1, .int a1), (2, .int a2), (3, .int a3)]) (st' := [.int 1000, .int (-1000), .int a2]) rfl (fun ls hl => ?_)
  refine x_ro (x_cS C (c_SP_isIn l G (cW G rb n md rd sd ms fl mn sc ar b w0) a2 (-1000) 1000) t_365 t_1 t_363 t_364 hd_SP_isIn blind_Pro (pre_ro C hH.1 hH.2.2) (As := [.int a2, .int (-1000), .int 1000]) (rest := []) rfl hl.1 rfl rfl rfl ⟨Nat.le_of_ble_eq_true rfl, Nat.le_of_ble_eq_true rfl⟩ (Nat.le_of_ble_eq_true rfl) ⟨Nat.zero_le _, Nat.zero_le _⟩ d_SP_start_20) ?_
  refine lv_if_eq (tgt := 40) C.1 C.2.1 d_SP_start_23 (by decide) (fun h => absurd h (by rw [hv.2.1]; first | done | decide)) (fun _ => ?_)
  refine x_sx C b_SP_start_26_30 hl (L' := [(0, .ref (sd 0)), (1, .int a1), (2, .int a2), (3, .int a3)]) (st' := [.int 63, .int 0, .int a3]) rfl (fun ls hl => ?_)
  refine x_ro (x_cS C (c_SP_isIn l G (cW G rb n md rd sd ms fl mn sc ar b w0) a3 0 63) t_365 t_1 t_363 t_364 hd_SP_isIn blind_Pro (pre_ro C hH.1 hH.2.2) (As := [.int a3, .int 0, .int 63]) (rest := []) rfl hl.1 rfl rfl rfl ⟨Nat.le_of_ble_eq_true rfl, Nat.le_of_ble_eq_true rfl⟩ (Nat.le_of_ble_eq_true rfl) ⟨Nat.zero_le _, Nat.zero_le _⟩ d_SP_start_30) ?_
  refine lv_if_eq (tgt := 40) C.1 C.2.1 d_SP_start_33 (by decide) (fun h => absurd h (by rw [hv.2.2]; first | done | decide)) (fun _ => ?_)
  refine x_sx C b_SP_start_36_37 hl (L' := [(0, .ref (sd 0)), (1, .int a1), (2, .int a2), (3, .int a3)]) (st' := [.int 1]) rfl (fun ls hl => ?_)
  refine x_goto (tgt := 41) C d_SP_start_37 (by decide) ?_
  refine x_rv (x_cS C (c_SP_need l G (cW G rb n md rd sd ms fl mn sc ar b w0)) t_368 t_1 t_366 t_367 hd_SP_need blind_Pro (pre_ro C hH.1 hH.2.2) (As := [.int 1]) (rest := []) rfl hl.1 rfl rfl rfl ⟨Nat.le_of_ble_eq_true rfl, Nat.le_of_ble_eq_true rfl⟩ (Nat.le_of_ble_eq_true rfl) ⟨Nat.zero_le _, Nat.zero_le _⟩ d_SP_start_41) ?_
  refine x_sx C b_SP_start_44_46 hl (L' := [(0, .ref (sd 0)), (1, .int a1), (2, .int a2), (3, .int a3)]) (st' := [.int a1, .ref (sd 0)]) rfl (fun ls hl => ?_)
  refine x_put C hH 0 ((rW_0 (Or.inl (by omega)) hn).trans sp_0) 5 (v := .int a1) (show 5 < 10 by decide) rfl (by decide) t_307 (fun _ z => z) rfl rfl rfl d_SP_start_46 (fun H locs hH => ?_)
  rw [rW_base hn (by omega) rfl (fun _ _ => rfl) (sp_put (rv' := .ref (rd 0)) (sc' := (va_up sc 2 a1)) (fs := (spFs sd (.ref (rd 0)) sc).set 5 (.int a1)) rfl)] at hH
  refine x_sx C b_SP_start_49_51 hl (L' := [(0, .ref (sd 0)), (1, .int a1), (2, .int a2), (3, .int a3)]) (st' := [.int a2, .ref (sd 0)]) rfl (fun ls hl => ?_)
  refine x_put C hH 0 ((rW_0 (Or.inl (by omega)) hn).trans sp_0) 6 (v := .int a2) (show 6 < 10 by decide) rfl (by decide) t_309 (fun _ z => z) rfl rfl rfl d_SP_start_51 (fun H locs hH => ?_)
  rw [rW_base hn (by omega) rfl (fun _ _ => rfl) (sp_put (rv' := .ref (rd 0)) (sc' := (va_up (va_up sc 2 a1) 3 a2)) (fs := (spFs sd (.ref (rd 0)) (va_up sc 2 a1)).set 6 (.int a2)) rfl)] at hH
  refine x_sx C b_SP_start_54_56 hl (L' := [(0, .ref (sd 0)), (1, .int a1), (2, .int a2), (3, .int a3)]) (st' := [.int a3, .ref (sd 0)]) rfl (fun ls hl => ?_)
  refine x_put C hH 0 ((rW_0 (Or.inl (by omega)) hn).trans sp_0) 7 (v := .int a3) (show 7 < 10 by decide) rfl (by decide) t_311 (fun _ z => z) rfl rfl rfl d_SP_start_56 (fun H locs hH => ?_)
  rw [rW_base hn (by omega) rfl (fun _ _ => rfl) (sp_put (rv' := .ref (rd 0)) (sc' := (fStartS sc a1 a2 a3)) (fs := (spFs sd (.ref (rd 0)) (va_up (va_up sc 2 a1) 3 a2)).set 7 (.int a3)) rfl)] at hH
  refine x_sx C b_SP_start_59_60 hl (L' := [(0, .ref (sd 0)), (1, .int a1), (2, .int a2), (3, .int a3)]) (st' := [.ref (sd 0)]) rfl (fun ls hl => ?_)
  have hH : Hw G A s (rW G rb n md rd sd (spW G sd (.ref (rd 0)) n ms fl mn (fStartS sc a1 a2 a3) ar w0) sc ar b) H _ := hH
  refine x_newN C hH hA (300 - rb) 4 rfl 8 rfl t_115 t_116 t_9 (fs := [.null, .null, .int 0, .int 0, .int 0, .int 0, .int 0, .null]) (by decide) (by show 0 + 1 ≤ 14; omega) (by show 0 + 8 ≤ 300; omega) d_SP_start_60 (fun a H hH => ?_)
  refine x_sx C b_SP_start_63_65 hl (L' := [(0, .ref (sd 0)), (1, .int a1), (2, .int a2), (3, .int a3)]) (st' := [.ref (sd 0), .ref a, .ref a, .ref (sd 0)]) rfl (fun ls hl => ?_)
  refine x_q0 (x_cI C (c_Run_init l G A (va_up (rW G rb n md rd sd (spW G sd (.ref (rd 0)) n ms fl mn (fStartS sc a1 a2 a3) ar w0) sc ar b) (300 - rb) (some (a, .inr (4, [.null, .null, .int 0, .int 0, .int 0, .int 0, .int 0, .null])))) (300 - rb) n a (if n = 0 then G.2.2 1 else sd 4) (ms 0) (shD sd n) sd (.ref (rd 0)) (fStartS sc a1 a2 a3) ar np h1 hn (by omega) (up_s _ _ _) (spL_up (spL_rW (sp_L hn) (by omega) hn hn) (by omega) hn) ((up_n _ _ (by omega)).trans ((rW_out hn (by omega)).trans sp_3)) (fun h0 => ⟨(up_n _ _ (by omega)).trans ((rW_out hn (by omega)).trans (by rw [if_neg (by omega)]; exact sp_4 h0)), fun k hk => if_pos hk⟩) h6 hnp hg) t_119 t_9 t_117 t_118 rfl hd_Run_init blind_Pre (pre_mt C hH hA trivial) (As := [.ref (sd 0)]) (rest := [.ref a, .ref (sd 0)]) rfl hl.1 rfl rfl rfl ⟨Nat.le_of_ble_eq_true rfl, Nat.le_of_ble_eq_true rfl⟩ (Nat.le_of_ble_eq_true rfl) ⟨(by show 0 + 1 + 13 ≤ 14; omega), (by show 0 + 8 + 292 ≤ 300; omega)⟩ d_SP_start_65) hH.2.2 (fun x H locs hx hH hz => ?_)
  refine x_put C hH 0 ((rW_out hn (by omega)).trans ((up_n _ _ (by omega)).trans ((rW_out hn (by omega)).trans sp_0))) 9 (v := .ref a) (show 9 < 10 by decide) rfl (by decide) t_314 (fun _ z => z) rfl rfl rfl d_SP_start_68 (fun H locs hH => ?_)
  have hH : Hw G A s (cW G (300 - rb) n (nI n) x.1 sd ms fl mn (fBegin ((fStartS sc a1 a2 a3), ar)).1 (fBegin ((fStartS sc a1 a2 a3), ar)).2 x.2 w0) H locs := hH.less (new_less hn hn hrbE rfl hw hx.1 (fun j h1 h2 => fBegin_sc ((fStartS sc a1 a2 a3), ar) (by omega) (by omega) (by omega) (by omega) (by omega) (by omega)) (fun i h1 h2 => fBegin_ar ((fStartS sc a1 a2 a3), ar) (by omega) (by omega) (by omega) (by omega) (by omega) (by omega)) rfl)
  exact x_vrt C hr hH.2.2 ⟨x, rfl, hx.2, hH.1, hH.2.1⟩ (Nat.le_of_ble_eq_true rfl) (Nat.le_of_ble_eq_true rfl) d_SP_start_71
theorem hd_SP_start : hdP y_SP_start 3 := ⟨by decide +kernel, by decide +kernel, by decide +kernel⟩
