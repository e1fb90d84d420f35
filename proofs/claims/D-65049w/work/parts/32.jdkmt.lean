/-! The JDK's methods that write. -/
theorem b_AbC_init_0_1 : decs prog_20_method_1_code [(.aload_n 0, 1)] 0 1 = true := by decide +kernel
theorem d_AbC_init_1 : decode prog_20_method_1_code 1 = .ok (.invokespecial 1, 3) := by decide +kernel
theorem d_AbC_init_4 : decode prog_20_method_1_code 4 = .ok (.return_, 1) := by decide +kernel
set_option maxRecDepth 100000 in
theorem c_AbC_init (l : Launch) (G : GG) (w : WF) (a : Nat) : Met l y_AbC_init (Cond.code y_AbC_init prog_20_method_1_code 1 none :: wt) { frames := 1, cells := 0, slots := 0, locals := 20 } (Pro G w [.ref a]) (Qrv) 0 0 (fun _ => False) := by
  refine ro_of (by decide +kernel) (Nat.le_of_ble_eq_true rfl) ?_
  intro p e s m below meth c ls C hP hr hl
  have hl : lv_has ls 1 [(0, .ref a)] := hl
  refine x_sx C b_AbC_init_0_1 hl (L' := [(0, .ref a)]) (st' := [.ref a]) rfl (fun ls hl => ?_)
  refine x_obj (rest := []) C t_43 hl.1 (Nat.le_of_ble_eq_true rfl) (Nat.le_of_ble_eq_true rfl) d_AbC_init_1 ?_
  exact x_vro C hr d_AbC_init_4
theorem hd_AbC_init : hdP y_AbC_init 0 := ⟨by decide +kernel, by decide +kernel, by decide +kernel⟩
theorem b_AbL_init_0_1 : decs prog_21_method_1_code [(.aload_n 0, 1)] 0 1 = true := by decide +kernel
theorem d_AbL_init_1 : decode prog_21_method_1_code 1 = .ok (.invokespecial 1, 3) := by decide +kernel
theorem b_AbL_init_4_6 : decs prog_21_method_1_code [(.aload_n 0, 1), (.iconst 0, 1)] 4 6 = true := by decide +kernel
theorem d_AbL_init_6 : decode prog_21_method_1_code 6 = .ok (.putfield 7, 3) := by decide +kernel
theorem d_AbL_init_9 : decode prog_21_method_1_code 9 = .ok (.return_, 1) := by decide +kernel
set_option maxRecDepth 100000 in
set_option maxHeartbeats 4000000 in
theorem c_AbL_init (l : Launch) (G : GG) (A : Nat → Prop) (w : WF) (na a : Nat) (he : w na = some (a, .inr (6, [.null, .int 0, .int 0]))) : Met l y_AbL_init (Cond.code y_AbL_init prog_21_method_1_code 1 none :: wt) { frames := 2, cells := 0, slots := 0, locals := 40 } (Pre G A w (fun _ => True) [.ref a]) (Qx0 (X := Unit) A (fun _ _ => True) G (fun _ => w)) 0 0 A := by
  refine mt_of (by decide) (Nat.le_of_ble_eq_true rfl) ?_
  intro p e s m below meth c ls C hH hA hE hr hmn hl
  have hl : lv_has ls 1 [(0, .ref a)] := hl
  refine x_sx C b_AbL_init_0_1 hl (L' := [(0, .ref a)]) (st' := [.ref a]) rfl (fun ls hl => ?_)
  refine x_rv (x_cI C (c_AbC_init l G w a) t_42 t_2 t_40 t_41 rfl hd_AbC_init blind_Pro (pre_ro C hH.1 hH.2.2) (As := []) (rest := []) rfl hl.1 rfl rfl rfl ⟨Nat.le_of_ble_eq_true rfl, Nat.le_of_ble_eq_true rfl⟩ (Nat.le_of_ble_eq_true rfl) ⟨Nat.zero_le _, Nat.zero_le _⟩ d_AbL_init_1) ?_
  refine x_sx C b_AbL_init_4_6 hl (L' := [(0, .ref a)]) (st' := [.int 0, .ref a]) rfl (fun ls hl => ?_)
  refine x_put C hH na he 2 (v := .int 0) (by simp) rfl (by decide) t_48 (fun _ z => z) rfl rfl rfl d_AbL_init_6 (fun H locs hH => ?_)
  have hH : Hw G A s (va_up w na (some (a, .inr (6, [.null, .int 0, .int 0])))) H _ := hH
  have g1 : (va_up w na (some (a, .inr (6, [.null, .int 0, .int 0])))) na = (some (a, .inr (6, [.null, .int 0, .int 0]))) := up_s _ _ _
  rw [up_idd w he] at hH
  exact x_vrt C hr hH.2.2 ⟨(), rfl, trivial, hH.1, hH.2.1⟩ (Nat.le_of_ble_eq_true rfl) (Nat.le_of_ble_eq_true rfl) d_AbL_init_9
theorem hd_AbL_init : hdP y_AbL_init 0 := ⟨by decide +kernel, by decide +kernel, by decide +kernel⟩
theorem b_AL_init_0_1 : decs prog_22_method_2_code [(.aload_n 0, 1)] 0 1 = true := by decide +kernel
theorem d_AL_init_1 : decode prog_22_method_2_code 1 = .ok (.invokespecial 1, 3) := by decide +kernel
theorem b_AL_init_4_5 : decs prog_22_method_2_code [(.aload_n 0, 1)] 4 5 = true := by decide +kernel
theorem d_AL_init_5 : decode prog_22_method_2_code 5 = .ok (.getstatic 39, 3) := by decide +kernel
theorem d_AL_init_8 : decode prog_22_method_2_code 8 = .ok (.putfield 9, 3) := by decide +kernel
theorem d_AL_init_11 : decode prog_22_method_2_code 11 = .ok (.return_, 1) := by decide +kernel
set_option maxRecDepth 100000 in
set_option maxHeartbeats 4000000 in
theorem c_AL_init (l : Launch) (G : GG) (A : Nat → Prop) (w : WF) (na a : Nat) (he : w na = some (a, .inr (6, [.null, .int 0, .int 0]))) : Met l y_AL_init (Cond.code y_AL_init prog_22_method_2_code 1 none :: wt) { frames := 3, cells := 0, slots := 0, locals := 60 } (Pre G A w (fun _ => True) [.ref a]) (Qx0 (X := Unit) A (fun _ _ => True) G (fun _ => (va_up w na (some (a, .inr (6, [.ref (G.2.2 1), .int 0, .int 0])))))) 0 0 A := by
  refine mt_of (by decide) (Nat.le_of_ble_eq_true rfl) ?_
  intro p e s m below meth c ls C hH hA hE hr hmn hl
  have hl : lv_has ls 1 [(0, .ref a)] := hl
  refine x_sx C b_AL_init_0_1 hl (L' := [(0, .ref a)]) (st' := [.ref a]) rfl (fun ls hl => ?_)
  refine x_q0 (x_cI C (c_AbL_init l G A w na a he) t_39 t_3 t_37 t_38 rfl hd_AbL_init blind_Pre (pre_mt C hH hA trivial) (As := []) (rest := []) rfl hl.1 rfl rfl rfl ⟨Nat.le_of_ble_eq_true rfl, Nat.le_of_ble_eq_true rfl⟩ (Nat.le_of_ble_eq_true rfl) ⟨Nat.zero_le _, Nat.zero_le _⟩ d_AL_init_1) hH.2.2 (fun _ H locs hx hH hz => ?_)
  refine x_sx C b_AL_init_4_5 hl (L' := [(0, .ref a)]) (st' := [.ref a]) rfl (fun ls hl => ?_)
  refine x_gs C C.Z.2.2.2.1 hH.2.2 t_44 (fun _ z => z) d_AL_init_5 ?_
  refine x_put C hH na he 0 (v := .ref (G.2.2 1)) (by simp) rfl (by decide) t_46 (fun _ z => z) rfl rfl rfl d_AL_init_8 (fun H locs hH => ?_)
  have hH : Hw G A s (va_up w na (some (a, .inr (6, [.ref (G.2.2 1), .int 0, .int 0])))) H _ := hH
  have g1 : (va_up w na (some (a, .inr (6, [.ref (G.2.2 1), .int 0, .int 0])))) na = (some (a, .inr (6, [.ref (G.2.2 1), .int 0, .int 0]))) := up_s _ _ _
  exact x_vrt C hr hH.2.2 ⟨(), rfl, trivial, hH.1, hH.2.1⟩ (Nat.le_of_ble_eq_true rfl) (Nat.le_of_ble_eq_true rfl) d_AL_init_11
theorem hd_AL_init : hdP y_AL_init 0 := ⟨by decide +kernel, by decide +kernel, by decide +kernel⟩
theorem b_AL_grow_2_0_1 : decs prog_22_method_6_code [(.aload_n 0, 1)] 0 1 = true := by decide +kernel
theorem d_AL_grow_2_1 : decode prog_22_method_6_code 1 = .ok (.getfield 9, 3) := by decide +kernel
theorem d_AL_grow_2_4 : decode prog_22_method_6_code 4 = .ok (.arraylength, 1) := by decide +kernel
theorem b_AL_grow_2_5_7 : decs prog_22_method_6_code [(.istore_n 2, 1), (.iload_n 2, 1)] 5 7 = true := by decide +kernel
theorem d_AL_grow_2_7 : decode prog_22_method_6_code 7 = .ok (.ifCond .gt 13, 3) := by decide +kernel
theorem b_AL_grow_2_10_11 : decs prog_22_method_6_code [(.aload_n 0, 1)] 10 11 = true := by decide +kernel
theorem d_AL_grow_2_11 : decode prog_22_method_6_code 11 = .ok (.getfield 9, 3) := by decide +kernel
theorem d_AL_grow_2_14 : decode prog_22_method_6_code 14 = .ok (.getstatic 39, 3) := by decide +kernel
theorem d_AL_grow_2_17 : decode prog_22_method_6_code 17 = .ok (.if_acmp .eq 28, 3) := by decide +kernel
theorem b_AL_grow_2_45_49 : decs prog_22_method_6_code [(.aload_n 0, 1), (.bipush 10, 2), (.iload_n 1, 1)] 45 49 = true := by decide +kernel
theorem d_AL_grow_2_49 : decode prog_22_method_6_code 49 = .ok (.invokestatic 79, 3) := by decide +kernel
theorem d_AL_grow_2_52 : decode prog_22_method_6_code 52 = .ok (.anewarray 7, 3) := by decide +kernel
theorem b_AL_grow_2_55_56 : decs prog_22_method_6_code [(.dup_x1, 1)] 55 56 = true := by decide +kernel
theorem d_AL_grow_2_56 : decode prog_22_method_6_code 56 = .ok (.putfield 9, 3) := by decide +kernel
theorem d_AL_grow_2_59 : decode prog_22_method_6_code 59 = .ok (.areturn, 1) := by decide +kernel
set_option maxRecDepth 100000 in
set_option maxHeartbeats 4000000 in
theorem c_AL_grow_2 (l : Launch) (G : GG) (A : Nat → Prop) (w : WF) (na nd a : Nat) (md : Int32) (k : Int32) (hnn : na ≠ nd) (he : w na = some (a, .inr (6, [.ref (G.2.2 1), .int 0, .int md]))) (hk : p_max 10 k = nI 10) : Met l y_AL_grow_2 (Cond.code y_AL_grow_2 prog_22_method_6_code 4 (some (FieldType.array (FieldType.object "java/lang/Object"))) :: wt) { frames := 1, cells := 1, slots := 10, locals := 21 } (Pre G A w (fun _ => True) [.ref a, .int k]) (Qx1 (X := Nat) A (fun d => .ref d) (fun _ _ => True) G (fun d => (va_up (va_up w nd (some (d, .inl (G.2.1 3, 10, .inr (.inr (.inr (.inr (fun _ => none)))))))) na (some (a, .inr (6, [.ref d, .int 0, .int md])))))) 1 10 A := by
  refine mt_of (by decide) (Nat.le_of_ble_eq_true rfl) ?_
  intro p e s m below meth c ls C hH hA hE hr hmn hl
  have hl : lv_has ls 4 [(0, .ref a), (1, .int k)] := hl
  refine x_sx C b_AL_grow_2_0_1 hl (L' := [(0, .ref a), (1, .int k)]) (st' := [.ref a]) rfl (fun ls hl => ?_)
  refine x_get C hH.1 na he 0 (v := .ref (G.2.2 1)) rfl rfl (by decide) t_46 (fun _ z => z) d_AL_grow_2_1 ?_
  refine va_tlen C.1 C.2.1 C.Z.2.2.2.2.1 hH.2.2 (v := 0) rfl d_AL_grow_2_4 ?_
  refine x_sx C b_AL_grow_2_5_7 hl (L' := [(2, .int 0), (0, .ref a), (1, .int k)]) (st' := [.int 0]) rfl (fun ls hl => ?_)
  refine lv_if_gt (tgt := 20) C.1 C.2.1 d_AL_grow_2_7 (by decide) (fun h => absurd h (by decide)) (fun _ => ?_)
  refine x_sx C b_AL_grow_2_10_11 hl (L' := [(2, .int 0), (0, .ref a), (1, .int k)]) (st' := [.ref a]) rfl (fun ls hl => ?_)
  refine x_get C hH.1 na he 0 (v := .ref (G.2.2 1)) rfl rfl (by decide) t_46 (fun _ z => z) d_AL_grow_2_11 ?_
  refine x_gs C C.Z.2.2.2.1 hH.2.2 t_44 (fun _ z => z) d_AL_grow_2_14 ?_
  refine lv_acmp_eq (rx := some (G.2.2 1)) (ry := some (G.2.2 1)) (tgt := 45) C.1 C.2.1 d_AL_grow_2_17 (by decide) (fun _ => ?_) (fun h => absurd rfl h)
  refine x_sx C b_AL_grow_2_45_49 hl (L' := [(2, .int 0), (0, .ref a), (1, .int k)]) (st' := [.int k, .int 10, .ref a]) rfl (fun ls hl => ?_)
  refine x_ro (x_cS C (c_Math_max l G w 10 k) t_79 t_6 t_113 t_78 hd_Math_max blind_Pro (pre_ro C hH.1 hH.2.2) (As := [.int 10, .int k]) (rest := [.ref a]) rfl hl.1 rfl rfl rfl ⟨Nat.le_of_ble_eq_true rfl, Nat.le_of_ble_eq_true rfl⟩ (Nat.le_of_ble_eq_true rfl) ⟨Nat.zero_le _, Nat.zero_le _⟩ d_AL_grow_2_49) ?_
  refine x_newq C hH hA nd (N := 10) hk (by decide) t_114 (Nat.le_of_ble_eq_true rfl) (Nat.le_of_ble_eq_true rfl) d_AL_grow_2_52 (fun d H hH => ?_)
  have hH : Hw G A s (va_up w nd (some (d, .inl (G.2.1 3, 10, .inr (.inr (.inr (.inr ((fun _ => none))))))))) H _ := hH
  have g1 : (va_up w nd (some (d, .inl (G.2.1 3, 10, .inr (.inr (.inr (.inr ((fun _ => none))))))))) na = (some (a, .inr (6, [.ref (G.2.2 1), .int 0, .int md]))) := (up_n _ _ (by omega)).trans he
  have g2 : (va_up w nd (some (d, .inl (G.2.1 3, 10, .inr (.inr (.inr (.inr ((fun _ => none))))))))) nd = (some (d, .inl (G.2.1 3, 10, .inr (.inr (.inr (.inr ((fun _ => none)))))))) := up_s _ _ _
  refine x_sx C b_AL_grow_2_55_56 hl (L' := [(2, .int 0), (0, .ref a), (1, .int k)]) (st' := [.ref d, .ref a, .ref d]) rfl (fun ls hl => ?_)
  refine x_put C hH na g1 0 (v := .ref d) (by simp) rfl (by decide) t_46 (fun _ z => z) rfl rfl rfl d_AL_grow_2_56 (fun H locs hH => ?_)
  have hH : Hw G A s (va_up (va_up w nd (some (d, .inl (G.2.1 3, 10, .inr (.inr (.inr (.inr ((fun _ => none))))))))) na (some (a, .inr (6, [.ref d, .int 0, .int md])))) H _ := hH
  have g3 : (va_up (va_up w nd (some (d, .inl (G.2.1 3, 10, .inr (.inr (.inr (.inr ((fun _ => none))))))))) na (some (a, .inr (6, [.ref d, .int 0, .int md])))) na = (some (a, .inr (6, [.ref d, .int 0, .int md]))) := up_s _ _ _
  have g4 : (va_up (va_up w nd (some (d, .inl (G.2.1 3, 10, .inr (.inr (.inr (.inr ((fun _ => none))))))))) na (some (a, .inr (6, [.ref d, .int 0, .int md])))) nd = (some (d, .inl (G.2.1 3, 10, .inr (.inr (.inr (.inr ((fun _ => none)))))))) := (up_n _ _ (by omega)).trans g2
  exact x_art C hr (Or.inr ⟨_, rfl⟩) (Or.inr ⟨_, rfl⟩) hH.2.2 ⟨d, rfl, trivial, hH.1, hH.2.1⟩ (Nat.le_of_ble_eq_true rfl) (Nat.le_of_ble_eq_true rfl) d_AL_grow_2_59
theorem hd_AL_grow_2 : hdP y_AL_grow_2 1 := ⟨by decide +kernel, by decide +kernel, by decide +kernel⟩
theorem b_AL_grow_0_2 : decs prog_22_method_7_code [(.aload_n 0, 1), (.aload_n 0, 1)] 0 2 = true := by decide +kernel
theorem d_AL_grow_2 : decode prog_22_method_7_code 2 = .ok (.getfield 48, 3) := by decide +kernel
theorem b_AL_grow_5_7 : decs prog_22_method_7_code [(.iconst 1, 1), (.iadd, 1)] 5 7 = true := by decide +kernel
theorem d_AL_grow_7 : decode prog_22_method_7_code 7 = .ok (.invokevirtual 69, 3) := by decide +kernel
theorem d_AL_grow_10 : decode prog_22_method_7_code 10 = .ok (.areturn, 1) := by decide +kernel
set_option maxRecDepth 100000 in
set_option maxHeartbeats 4000000 in
theorem c_AL_grow (l : Launch) (G : GG) (A : Nat → Prop) (w : WF) (na nd a : Nat) (md : Int32) (hnn : na ≠ nd) (he : w na = some (a, .inr (6, [.ref (G.2.2 1), .int 0, .int md]))) : Met l y_AL_grow (Cond.code y_AL_grow prog_22_method_7_code 1 (some (FieldType.array (FieldType.object "java/lang/Object"))) :: wt) { frames := 2, cells := 1, slots := 10, locals := 44 } (Pre G A w (fun _ => True) [.ref a]) (Qx1 (X := Nat) A (fun d => .ref d) (fun _ _ => True) G (fun d => (va_up (va_up w nd (some (d, .inl (G.2.1 3, 10, .inr (.inr (.inr (.inr (fun _ => none)))))))) na (some (a, .inr (6, [.ref d, .int 0, .int md])))))) 1 10 A := by
  refine mt_of (by decide) (Nat.le_of_ble_eq_true rfl) ?_
  intro p e s m below meth c ls C hH hA hE hr hmn hl
  have hl : lv_has ls 1 [(0, .ref a)] := hl
  refine x_sx C b_AL_grow_0_2 hl (L' := [(0, .ref a)]) (st' := [.ref a, .ref a]) rfl (fun ls hl => ?_)
  refine x_get C hH.1 na he 1 (v := .int 0) rfl rfl (by decide) t_47 (fun _ z => z) d_AL_grow_2 ?_
  refine x_sx C b_AL_grow_5_7 hl (L' := [(0, .ref a)]) (st' := [.int (0 + 1), .ref a]) rfl (fun ls hl => ?_)
  refine x_q1 (x_cV C hH.1 he rfl (c_AL_grow_2 l G A w na nd a md (0 + 1) hnn he (by decide)) t_73 t_4 t_70 t_72 ts_2 hd_AL_grow_2 blind_Pre (pre_mt C hH hA trivial) (As := [.int (0 + 1)]) (rest := []) rfl hl.1 rfl rfl rfl ⟨Nat.le_of_ble_eq_true rfl, Nat.le_of_ble_eq_true rfl⟩ (Nat.le_of_ble_eq_true rfl) ⟨(Nat.le_of_ble_eq_true rfl), (Nat.le_of_ble_eq_true rfl)⟩ d_AL_grow_7) hH.2.2 (fun d H locs hx hH hz => ?_)
  exact x_art C hr (Or.inr ⟨_, rfl⟩) (Or.inr ⟨_, rfl⟩) hH.2.2 ⟨d, rfl, trivial, hH.1, hH.2.1⟩ (Nat.le_of_ble_eq_true rfl) (Nat.le_of_ble_eq_true rfl) d_AL_grow_10
theorem hd_AL_grow : hdP y_AL_grow 0 := ⟨by decide +kernel, by decide +kernel, by decide +kernel⟩
theorem b_AL_add_2_0_2 : decs prog_22_method_24_code [(.iload_n 3, 1), (.aload_n 2, 1)] 0 2 = true := by decide +kernel
theorem d_AL_add_2_2 : decode prog_22_method_24_code 2 = .ok (.arraylength, 1) := by decide +kernel
theorem d_AL_add_2_3 : decode prog_22_method_24_code 3 = .ok (.if_icmp .ne 8, 3) := by decide +kernel
theorem b_AL_add_2_6_7 : decs prog_22_method_24_code [(.aload_n 0, 1)] 6 7 = true := by decide +kernel
theorem d_AL_add_2_7 : decode prog_22_method_24_code 7 = .ok (.invokevirtual 129, 3) := by decide +kernel
theorem b_AL_add_2_10_14 : decs prog_22_method_24_code [(.astore_n 2, 1), (.aload_n 2, 1), (.iload_n 3, 1), (.aload_n 1, 1)] 10 14 = true := by decide +kernel
theorem d_AL_add_2_14 : decode prog_22_method_24_code 14 = .ok (.aastore, 1) := by decide +kernel
theorem b_AL_add_2_15_19 : decs prog_22_method_24_code [(.aload_n 0, 1), (.iload_n 3, 1), (.iconst 1, 1), (.iadd, 1)] 15 19 = true := by decide +kernel
theorem d_AL_add_2_19 : decode prog_22_method_24_code 19 = .ok (.putfield 48, 3) := by decide +kernel
theorem d_AL_add_2_22 : decode prog_22_method_24_code 22 = .ok (.return_, 1) := by decide +kernel
set_option maxRecDepth 100000 in
set_option maxHeartbeats 4000000 in
theorem c_AL_add_2_e (l : Launch) (G : GG) (A : Nat → Prop) (w : WF) (na nd a : Nat) (md : Int32) (nv v ci : Nat) (vs : List Value) (q : vw_C) (hnn : na ≠ nd) (he : w na = some (a, .inr (6, [.ref (G.2.2 1), .int 0, .int md]))) (hv : w nv = some (v, .inr (ci, vs))) (hq : classes[ci]? = some q) (hca : Cond.castable q.1 "java/lang/Object" ∈ wt) (hva : nv ≠ na) (hvd : nv ≠ nd) : Met l y_AL_add_2 (Cond.code y_AL_add_2 prog_22_method_24_code 4 none :: wt) { frames := 3, cells := 1, slots := 10, locals := 64 } (Pre G A w (fun _ => True) [.ref a, .ref v, .ref (G.2.2 1), .int 0]) (Qx0 (X := Nat) A (fun _ _ => True) G (fun d => (va_up (va_up w nd (some (d, .inl (G.2.1 3, 10, .inr (.inr (.inr (.inr (va_up (fun _ => none) 0 (some v))))))))) na (some (a, .inr (6, [.ref d, .int (0 + 1), .int md])))))) 1 10 A := by
  refine mt_of (by decide) (Nat.le_of_ble_eq_true rfl) ?_
  intro p e s m below meth c ls C hH hA hE hr hmn hl
  have hl : lv_has ls 4 [(0, .ref a), (1, .ref v), (2, .ref (G.2.2 1)), (3, .int 0)] := hl
  refine x_sx C b_AL_add_2_0_2 hl (L' := [(0, .ref a), (1, .ref v), (2, .ref (G.2.2 1)), (3, .int 0)]) (st' := [.ref (G.2.2 1), .int 0]) rfl (fun ls hl => ?_)
  refine va_tlen C.1 C.2.1 C.Z.2.2.2.2.1 hH.2.2 (v := 0) rfl d_AL_add_2_2 ?_
  refine lv_icmp_ne (tgt := 11) C.1 C.2.1 d_AL_add_2_3 (by decide) (fun h => absurd (by decide) h) (fun _ => ?_)
  refine x_sx C b_AL_add_2_6_7 hl (L' := [(0, .ref a), (1, .ref v), (2, .ref (G.2.2 1)), (3, .int 0)]) (st' := [.ref a]) rfl (fun ls hl => ?_)
  refine x_q1 (x_cV C hH.1 he rfl (c_AL_grow l G A w na nd a md hnn he) t_69 t_4 t_66 t_68 ts_1 hd_AL_grow blind_Pre (pre_mt C hH hA trivial) (As := []) (rest := []) rfl hl.1 rfl rfl rfl ⟨Nat.le_of_ble_eq_true rfl, Nat.le_of_ble_eq_true rfl⟩ (Nat.le_of_ble_eq_true rfl) ⟨(Nat.le_of_ble_eq_true rfl), (Nat.le_of_ble_eq_true rfl)⟩ d_AL_add_2_7) hH.2.2 (fun d H locs hx hH hz => ?_)
  have g1 : (va_up (va_up w nd (some (d, .inl (G.2.1 3, 10, .inr (.inr (.inr (.inr (fun _ => none)))))))) na (some (a, .inr (6, [.ref d, .int 0, .int md])))) na = (some (a, .inr (6, [.ref d, .int 0, .int md]))) := up_s _ _ _
  have g2 : (va_up (va_up w nd (some (d, .inl (G.2.1 3, 10, .inr (.inr (.inr (.inr (fun _ => none)))))))) na (some (a, .inr (6, [.ref d, .int 0, .int md])))) nd = (some (d, .inl (G.2.1 3, 10, .inr (.inr (.inr (.inr ((fun _ => none)))))))) := (up_n _ _ (Ne.symm hnn)).trans (up_s _ _ _)
  have hv : (va_up (va_up w nd (some (d, .inl (G.2.1 3, 10, .inr (.inr (.inr (.inr (fun _ => none)))))))) na (some (a, .inr (6, [.ref d, .int 0, .int md])))) nv = some (v, .inr (ci, vs)) := (up_n _ _ hva).trans ((up_n _ _ hvd).trans hv)
  refine x_sx C b_AL_add_2_10_14 hl (L' := [(2, .ref d), (0, .ref a), (1, .ref v), (3, .int 0)]) (st' := [.ref v, .int 0, .ref d]) rfl (fun ls hl => ?_)
  refine x_qst C hH nd nv g2 hv hq hca (j := 0) rfl (by decide) (by decide) d_AL_add_2_14 (fun H locs hH => ?_)
  have hH : Hw G A s (va_up (va_up (va_up w nd (some (d, .inl (G.2.1 3, 10, .inr (.inr (.inr (.inr (fun _ => none)))))))) na (some (a, .inr (6, [.ref d, .int 0, .int md])))) nd (some (d, .inl (G.2.1 3, 10, .inr (.inr (.inr (.inr ((va_up (fun _ => none) 0 (some v)))))))))) H _ := hH
  have g3 : (va_up (va_up (va_up w nd (some (d, .inl (G.2.1 3, 10, .inr (.inr (.inr (.inr (fun _ => none)))))))) na (some (a, .inr (6, [.ref d, .int 0, .int md])))) nd (some (d, .inl (G.2.1 3, 10, .inr (.inr (.inr (.inr ((va_up (fun _ => none) 0 (some v)))))))))) na = (some (a, .inr (6, [.ref d, .int 0, .int md]))) := (up_n _ _ (by omega)).trans g1
  have g4 : (va_up (va_up (va_up w nd (some (d, .inl (G.2.1 3, 10, .inr (.inr (.inr (.inr (fun _ => none)))))))) na (some (a, .inr (6, [.ref d, .int 0, .int md])))) nd (some (d, .inl (G.2.1 3, 10, .inr (.inr (.inr (.inr ((va_up (fun _ => none) 0 (some v)))))))))) nd = (some (d, .inl (G.2.1 3, 10, .inr (.inr (.inr (.inr ((va_up (fun _ => none) 0 (some v))))))))) := up_s _ _ _
  refine x_sx C b_AL_add_2_15_19 hl (L' := [(2, .ref d), (0, .ref a), (1, .ref v), (3, .int 0)]) (st' := [.int (0 + 1), .ref a]) rfl (fun ls hl => ?_)
  refine x_put C hH na g3 1 (v := .int (0 + 1)) (by simp) rfl (by decide) t_47 (fun _ z => z) rfl rfl rfl d_AL_add_2_19 (fun H locs hH => ?_)
  have hH : Hw G A s (va_up (va_up (va_up (va_up w nd (some (d, .inl (G.2.1 3, 10, .inr (.inr (.inr (.inr (fun _ => none)))))))) na (some (a, .inr (6, [.ref d, .int 0, .int md])))) nd (some (d, .inl (G.2.1 3, 10, .inr (.inr (.inr (.inr ((va_up (fun _ => none) 0 (some v)))))))))) na (some (a, .inr (6, [.ref d, .int (0 + 1), .int md])))) H _ := hH
  have g5 : (va_up (va_up (va_up (va_up w nd (some (d, .inl (G.2.1 3, 10, .inr (.inr (.inr (.inr (fun _ => none)))))))) na (some (a, .inr (6, [.ref d, .int 0, .int md])))) nd (some (d, .inl (G.2.1 3, 10, .inr (.inr (.inr (.inr ((va_up (fun _ => none) 0 (some v)))))))))) na (some (a, .inr (6, [.ref d, .int (0 + 1), .int md])))) na = (some (a, .inr (6, [.ref d, .int (0 + 1), .int md]))) := up_s _ _ _
  have g6 : (va_up (va_up (va_up (va_up w nd (some (d, .inl (G.2.1 3, 10, .inr (.inr (.inr (.inr (fun _ => none)))))))) na (some (a, .inr (6, [.ref d, .int 0, .int md])))) nd (some (d, .inl (G.2.1 3, 10, .inr (.inr (.inr (.inr ((va_up (fun _ => none) 0 (some v)))))))))) na (some (a, .inr (6, [.ref d, .int (0 + 1), .int md])))) nd = (some (d, .inl (G.2.1 3, 10, .inr (.inr (.inr (.inr ((va_up (fun _ => none) 0 (some v))))))))) := (up_n _ _ (by omega)).trans g4
  have e1 : (va_up (va_up (va_up (va_up w nd (some (d, .inl (G.2.1 3, 10, .inr (.inr (.inr (.inr (fun _ => none)))))))) na (some (a, .inr (6, [.ref d, .int 0, .int md])))) nd (some (d, .inl (G.2.1 3, 10, .inr (.inr (.inr (.inr ((va_up (fun _ => none) 0 (some v)))))))))) na (some (a, .inr (6, [.ref d, .int (0 + 1), .int md])))) = (va_up (va_up w nd (some (d, .inl (G.2.1 3, 10, .inr (.inr (.inr (.inr (va_up (fun _ => none) 0 (some v))))))))) na (some (a, .inr (6, [.ref d, .int (0 + 1), .int md])))) := by funext i; unfold va_up; (repeat' split) <;> first | rfl | omega
  rw [e1] at hH
  exact x_vrt C hr hH.2.2 ⟨d, rfl, trivial, hH.1, hH.2.1⟩ (Nat.le_of_ble_eq_true rfl) (Nat.le_of_ble_eq_true rfl) d_AL_add_2_22
theorem hd_AL_add_2 : hdP y_AL_add_2 3 := ⟨by decide +kernel, by decide +kernel, by decide +kernel⟩
theorem b_AL_add_0_2 : decs prog_22_method_25_code [(.aload_n 0, 1), (.dup, 1)] 0 2 = true := by decide +kernel
theorem d_AL_add_2 : decode prog_22_method_25_code 2 = .ok (.getfield 63, 3) := by decide +kernel
theorem b_AL_add_5_7 : decs prog_22_method_25_code [(.iconst 1, 1), (.iadd, 1)] 5 7 = true := by decide +kernel
theorem d_AL_add_7 : decode prog_22_method_25_code 7 = .ok (.putfield 63, 3) := by decide +kernel
theorem b_AL_add_10_13 : decs prog_22_method_25_code [(.aload_n 0, 1), (.aload_n 1, 1), (.aload_n 0, 1)] 10 13 = true := by decide +kernel
theorem d_AL_add_13 : decode prog_22_method_25_code 13 = .ok (.getfield 9, 3) := by decide +kernel
theorem b_AL_add_16_17 : decs prog_22_method_25_code [(.aload_n 0, 1)] 16 17 = true := by decide +kernel
theorem d_AL_add_17 : decode prog_22_method_25_code 17 = .ok (.getfield 48, 3) := by decide +kernel
theorem d_AL_add_20 : decode prog_22_method_25_code 20 = .ok (.invokevirtual 131, 3) := by decide +kernel
theorem b_AL_add_23_24 : decs prog_22_method_25_code [(.iconst 1, 1)] 23 24 = true := by decide +kernel
theorem d_AL_add_24 : decode prog_22_method_25_code 24 = .ok (.ireturn, 1) := by decide +kernel
set_option maxRecDepth 100000 in
set_option maxHeartbeats 4000000 in
theorem c_AL_add_e (l : Launch) (G : GG) (A : Nat → Prop) (w : WF) (na nd a : Nat) (md : Int32) (nv v ci : Nat) (vs : List Value) (q : vw_C) (hnn : na ≠ nd) (he : w na = some (a, .inr (6, [.ref (G.2.2 1), .int 0, .int md]))) (hv : w nv = some (v, .inr (ci, vs))) (hq : classes[ci]? = some q) (hca : Cond.castable q.1 "java/lang/Object" ∈ wt) (hva : nv ≠ na) (hvd : nv ≠ nd) : Met l y_AL_add (Cond.code y_AL_add prog_22_method_25_code 2 (some FieldType.boolean) :: wt) { frames := 4, cells := 1, slots := 10, locals := 87 } (Pre G A w (fun _ => True) [.ref a, .ref v]) (Qx1 (X := Nat) A (fun d => .int 1) (fun _ _ => True) G (fun d => (va_up (va_up w nd (some (d, .inl (G.2.1 3, 10, .inr (.inr (.inr (.inr (va_up (fun _ => none) 0 (some v))))))))) na (some (a, .inr (6, [.ref d, .int (0 + 1), .int (md + 1)])))))) 1 10 A := by
  refine mt_of (by decide) (Nat.le_of_ble_eq_true rfl) ?_
  intro p e s m below meth c ls C hH hA hE hr hmn hl
  have hl : lv_has ls 2 [(0, .ref a), (1, .ref v)] := hl
  refine x_sx C b_AL_add_0_2 hl (L' := [(0, .ref a), (1, .ref v)]) (st' := [.ref a, .ref a]) rfl (fun ls hl => ?_)
  refine x_get C hH.1 na he 2 (v := .int md) rfl rfl (by decide) t_49 (u_same (C.ts t_50)) d_AL_add_2 ?_
  refine x_sx C b_AL_add_5_7 hl (L' := [(0, .ref a), (1, .ref v)]) (st' := [.int (md + 1), .ref a]) rfl (fun ls hl => ?_)
  refine x_put C hH na he 2 (v := .int (md + 1)) (by simp) rfl (by decide) t_49 (u_same (C.ts t_50)) rfl rfl rfl d_AL_add_7 (fun H locs hH => ?_)
  have hH : Hw G A s (va_up w na (some (a, .inr (6, [.ref (G.2.2 1), .int 0, .int (md + 1)])))) H _ := hH
  have g1 : (va_up w na (some (a, .inr (6, [.ref (G.2.2 1), .int 0, .int (md + 1)])))) na = (some (a, .inr (6, [.ref (G.2.2 1), .int 0, .int (md + 1)]))) := up_s _ _ _
  refine x_sx C b_AL_add_10_13 hl (L' := [(0, .ref a), (1, .ref v)]) (st' := [.ref a, .ref v, .ref a]) rfl (fun ls hl => ?_)
  refine x_get C hH.1 na g1 0 (v := .ref (G.2.2 1)) rfl rfl (by decide) t_46 (fun _ z => z) d_AL_add_13 ?_
  refine x_sx C b_AL_add_16_17 hl (L' := [(0, .ref a), (1, .ref v)]) (st' := [.ref a, .ref (G.2.2 1), .ref v, .ref a]) rfl (fun ls hl => ?_)
  refine x_get C hH.1 na g1 1 (v := .int 0) rfl rfl (by decide) t_47 (fun _ z => z) d_AL_add_17 ?_
  have hv1 : (va_up w na (some (a, .inr (6, [.ref (G.2.2 1), .int 0, .int (md + 1)])))) nv = some (v, .inr (ci, vs)) := (up_n _ _ hva).trans hv
  refine x_q0 (x_cV C hH.1 g1 rfl (c_AL_add_2_e l G A (va_up w na (some (a, .inr (6, [.ref (G.2.2 1), .int 0, .int (md + 1)])))) na nd a (md + 1) nv v ci vs q hnn g1 hv1 hq hca hva hvd) t_65 t_4 t_62 t_64 ts_0 hd_AL_add_2 blind_Pre (pre_mt C hH hA trivial) (As := [.ref v, .ref (G.2.2 1), .int 0]) (rest := []) rfl hl.1 rfl rfl rfl ⟨Nat.le_of_ble_eq_true rfl, Nat.le_of_ble_eq_true rfl⟩ (Nat.le_of_ble_eq_true rfl) ⟨(Nat.le_of_ble_eq_true rfl), (Nat.le_of_ble_eq_true rfl)⟩ d_AL_add_20) hH.2.2 (fun d H locs hx hH hz => ?_)
  refine x_sx C b_AL_add_23_24 hl (L' := [(0, .ref a), (1, .ref v)]) (st' := [.int 1]) rfl (fun ls hl => ?_)
  have e1 : (va_up (va_up (va_up w na (some (a, .inr (6, [.ref (G.2.2 1), .int 0, .int (md + 1)])))) nd (some (d, .inl (G.2.1 3, 10, .inr (.inr (.inr (.inr (va_up (fun _ => none) 0 (some v))))))))) na (some (a, .inr (6, [.ref d, .int (0 + 1), .int (md + 1)])))) = (va_up (va_up w nd (some (d, .inl (G.2.1 3, 10, .inr (.inr (.inr (.inr (va_up (fun _ => none) 0 (some v))))))))) na (some (a, .inr (6, [.ref d, .int (0 + 1), .int (md + 1)])))) := by funext i; unfold va_up; (repeat' split) <;> first | rfl | omega
  rw [e1] at hH
  exact x_zrt C hr rfl hH.2.2 ⟨d, rfl, trivial, hH.1, hH.2.1⟩ (Nat.le_of_ble_eq_true rfl) (Nat.le_of_ble_eq_true rfl) d_AL_add_24
theorem hd_AL_add : hdP y_AL_add 1 := ⟨by decide +kernel, by decide +kernel, by decide +kernel⟩
theorem b_AL_add_2_11_14 : decs prog_22_method_24_code [(.aload_n 2, 1), (.iload_n 3, 1), (.aload_n 1, 1)] 11 14 = true := by decide +kernel
set_option maxRecDepth 100000 in
set_option maxHeartbeats 4000000 in
theorem c_AL_add_2 (l : Launch) (G : GG) (A : Nat → Prop) (w : WF) (na nd a d n : Nat) (md : Int32) (f : Nat → Option Nat) (nv v ci : Nat) (vs : List Value) (q : vw_C) (hnn : na ≠ nd) (hn : n < 10) (he : w na = some (a, .inr (6, [.ref d, .int (nI n), .int md]))) (hd : w nd = some (d, .inl (G.2.1 3, 10, .inr (.inr (.inr (.inr f)))))) (hv : w nv = some (v, .inr (ci, vs))) (hq : classes[ci]? = some q) (hca : Cond.castable q.1 "java/lang/Object" ∈ wt) (hva : nv ≠ na) (hvd : nv ≠ nd) : Met l y_AL_add_2 (Cond.code y_AL_add_2 prog_22_method_24_code 4 none :: wt) { frames := 3, cells := 0, slots := 0, locals := 64 } (Pre G A w (fun _ => True) [.ref a, .ref v, .ref d, .int (nI n)]) (Qx0 (X := Unit) A (fun _ _ => True) G (fun _ => (va_up (va_up w nd (some (d, .inl (G.2.1 3, 10, .inr (.inr (.inr (.inr (va_up f n (some v))))))))) na (some (a, .inr (6, [.ref d, .int (nI (n + 1)), .int md])))))) 0 0 A := by
  refine mt_of (by decide) (Nat.le_of_ble_eq_true rfl) ?_
  intro p e s m below meth c ls C hH hA hE hr hmn hl
  have hl : lv_has ls 4 [(0, .ref a), (1, .ref v), (2, .ref d), (3, .int (nI n))] := hl
  refine x_sx C b_AL_add_2_0_2 hl (L' := [(0, .ref a), (1, .ref v), (2, .ref d), (3, .int (nI n))]) (st' := [.ref d, .int (nI n)]) rfl (fun ls hl => ?_)
  refine x_alen C hH.1 nd 3 hd rfl d_AL_add_2_2 ?_
  refine lv_icmp_ne (tgt := 11) C.1 C.2.1 d_AL_add_2_3 (by decide) (fun _ => ?_) (fun h => absurd ((nI_eq (by omega) (show (10 : Nat) < 2 ^ 31 by decide)).mp h) (by show ¬ n = 10; omega))
  refine x_sx C b_AL_add_2_11_14 hl (L' := [(0, .ref a), (1, .ref v), (2, .ref d), (3, .int (nI n))]) (st' := [.ref v, .int (nI n), .ref d]) rfl (fun ls hl => ?_)
  refine x_qst C hH nd nv hd hv hq hca (j := n) rfl hn (by decide) d_AL_add_2_14 (fun H locs hH => ?_)
  have hH : Hw G A s (va_up w nd (some (d, .inl (G.2.1 3, 10, .inr (.inr (.inr (.inr ((va_up f n (some v)))))))))) H _ := hH
  have g1 : (va_up w nd (some (d, .inl (G.2.1 3, 10, .inr (.inr (.inr (.inr ((va_up f n (some v)))))))))) na = (some (a, .inr (6, [.ref d, .int (nI n), .int md]))) := (up_n _ _ (by omega)).trans he
  have g2 : (va_up w nd (some (d, .inl (G.2.1 3, 10, .inr (.inr (.inr (.inr ((va_up f n (some v)))))))))) nd = (some (d, .inl (G.2.1 3, 10, .inr (.inr (.inr (.inr ((va_up f n (some v))))))))) := up_s _ _ _
  refine x_sx C b_AL_add_2_15_19 hl (L' := [(0, .ref a), (1, .ref v), (2, .ref d), (3, .int (nI n))]) (st' := [.int ((nI n) + 1), .ref a]) rfl (fun ls hl => ?_)
  refine x_put C hH na g1 1 (v := .int ((nI n) + 1)) (by simp) rfl (by decide) t_47 (fun _ z => z) rfl rfl rfl d_AL_add_2_19 (fun H locs hH => ?_)
  have hH : Hw G A s (va_up (va_up w nd (some (d, .inl (G.2.1 3, 10, .inr (.inr (.inr (.inr ((va_up f n (some v)))))))))) na (some (a, .inr (6, [.ref d, .int ((nI n) + 1), .int md])))) H _ := hH
  have g3 : (va_up (va_up w nd (some (d, .inl (G.2.1 3, 10, .inr (.inr (.inr (.inr ((va_up f n (some v)))))))))) na (some (a, .inr (6, [.ref d, .int ((nI n) + 1), .int md])))) na = (some (a, .inr (6, [.ref d, .int ((nI n) + 1), .int md]))) := up_s _ _ _
  have g4 : (va_up (va_up w nd (some (d, .inl (G.2.1 3, 10, .inr (.inr (.inr (.inr ((va_up f n (some v)))))))))) na (some (a, .inr (6, [.ref d, .int ((nI n) + 1), .int md])))) nd = (some (d, .inl (G.2.1 3, 10, .inr (.inr (.inr (.inr ((va_up f n (some v))))))))) := (up_n _ _ (by omega)).trans g2
  rw [nI_1] at hH
  exact x_vrt C hr hH.2.2 ⟨(), rfl, trivial, hH.1, hH.2.1⟩ (Nat.le_of_ble_eq_true rfl) (Nat.le_of_ble_eq_true rfl) d_AL_add_2_22
set_option maxRecDepth 100000 in
set_option maxHeartbeats 4000000 in
theorem c_AL_add (l : Launch) (G : GG) (A : Nat → Prop) (w : WF) (na nd a d n : Nat) (md : Int32) (f : Nat → Option Nat) (nv v ci : Nat) (vs : List Value) (q : vw_C) (hnn : na ≠ nd) (hn : n < 10) (he : w na = some (a, .inr (6, [.ref d, .int (nI n), .int md]))) (hd : w nd = some (d, .inl (G.2.1 3, 10, .inr (.inr (.inr (.inr f)))))) (hv : w nv = some (v, .inr (ci, vs))) (hq : classes[ci]? = some q) (hca : Cond.castable q.1 "java/lang/Object" ∈ wt) (hva : nv ≠ na) (hvd : nv ≠ nd) : Met l y_AL_add (Cond.code y_AL_add prog_22_method_25_code 2 (some FieldType.boolean) :: wt) { frames := 4, cells := 0, slots := 0, locals := 87 } (Pre G A w (fun _ => True) [.ref a, .ref v]) (Qx1 (X := Unit) A (fun _ => .int 1) (fun _ _ => True) G (fun _ => (va_up (va_up w nd (some (d, .inl (G.2.1 3, 10, .inr (.inr (.inr (.inr (va_up f n (some v))))))))) na (some (a, .inr (6, [.ref d, .int (nI (n + 1)), .int (md + 1)])))))) 0 0 A := by
  refine mt_of (by decide) (Nat.le_of_ble_eq_true rfl) ?_
  intro p e s m below meth c ls C hH hA hE hr hmn hl
  have hl : lv_has ls 2 [(0, .ref a), (1, .ref v)] := hl
  refine x_sx C b_AL_add_0_2 hl (L' := [(0, .ref a), (1, .ref v)]) (st' := [.ref a, .ref a]) rfl (fun ls hl => ?_)
  refine x_get C hH.1 na he 2 (v := .int md) rfl rfl (by decide) t_49 (u_same (C.ts t_50)) d_AL_add_2 ?_
  refine x_sx C b_AL_add_5_7 hl (L' := [(0, .ref a), (1, .ref v)]) (st' := [.int (md + 1), .ref a]) rfl (fun ls hl => ?_)
  refine x_put C hH na he 2 (v := .int (md + 1)) (by simp) rfl (by decide) t_49 (u_same (C.ts t_50)) rfl rfl rfl d_AL_add_7 (fun H locs hH => ?_)
  have hH : Hw G A s (va_up w na (some (a, .inr (6, [.ref d, .int (nI n), .int (md + 1)])))) H _ := hH
  have g1 : (va_up w na (some (a, .inr (6, [.ref d, .int (nI n), .int (md + 1)])))) na = (some (a, .inr (6, [.ref d, .int (nI n), .int (md + 1)]))) := up_s _ _ _
  have g2 : (va_up w na (some (a, .inr (6, [.ref d, .int (nI n), .int (md + 1)])))) nd = (some (d, .inl (G.2.1 3, 10, .inr (.inr (.inr (.inr (f))))))) := (up_n _ _ (by omega)).trans hd
  refine x_sx C b_AL_add_10_13 hl (L' := [(0, .ref a), (1, .ref v)]) (st' := [.ref a, .ref v, .ref a]) rfl (fun ls hl => ?_)
  refine x_get C hH.1 na g1 0 (v := .ref d) rfl rfl (by decide) t_46 (fun _ z => z) d_AL_add_13 ?_
  refine x_sx C b_AL_add_16_17 hl (L' := [(0, .ref a), (1, .ref v)]) (st' := [.ref a, .ref d, .ref v, .ref a]) rfl (fun ls hl => ?_)
  refine x_get C hH.1 na g1 1 (v := .int (nI n)) rfl rfl (by decide) t_47 (fun _ z => z) d_AL_add_17 ?_
  have hv1 : (va_up w na (some (a, .inr (6, [.ref d, .int (nI n), .int (md + 1)])))) nv = some (v, .inr (ci, vs)) := (up_n _ _ hva).trans hv
  refine x_q0 (x_cV C hH.1 g1 rfl (c_AL_add_2 l G A (va_up w na (some (a, .inr (6, [.ref d, .int (nI n), .int (md + 1)])))) na nd a d n (md + 1) f nv v ci vs q hnn hn g1 g2 hv1 hq hca hva hvd) t_65 t_4 t_62 t_64 ts_0 hd_AL_add_2 blind_Pre (pre_mt C hH hA trivial) (As := [.ref v, .ref d, .int (nI n)]) (rest := []) rfl hl.1 rfl rfl rfl ⟨Nat.le_of_ble_eq_true rfl, Nat.le_of_ble_eq_true rfl⟩ (Nat.le_of_ble_eq_true rfl) ⟨Nat.zero_le _, Nat.zero_le _⟩ d_AL_add_20) hH.2.2 (fun _ H locs hx hH hz => ?_)
  refine x_sx C b_AL_add_23_24 hl (L' := [(0, .ref a), (1, .ref v)]) (st' := [.int 1]) rfl (fun ls hl => ?_)
  have e1 : (va_up (va_up (va_up w na (some (a, .inr (6, [.ref d, .int (nI n), .int (md + 1)])))) nd (some (d, .inl (G.2.1 3, 10, .inr (.inr (.inr (.inr (va_up f n (some v))))))))) na (some (a, .inr (6, [.ref d, .int (nI (n + 1)), .int (md + 1)])))) = (va_up (va_up w nd (some (d, .inl (G.2.1 3, 10, .inr (.inr (.inr (.inr (va_up f n (some v))))))))) na (some (a, .inr (6, [.ref d, .int (nI (n + 1)), .int (md + 1)])))) := by funext i; unfold va_up; (repeat' split) <;> first | rfl | omega
  rw [e1] at hH
  exact x_zrt C hr rfl hH.2.2 ⟨(), rfl, trivial, hH.1, hH.2.1⟩ (Nat.le_of_ble_eq_true rfl) (Nat.le_of_ble_eq_true rfl) d_AL_add_24
theorem b_AL_clear_0_2 : decs prog_22_method_40_code [(.aload_n 0, 1), (.dup, 1)] 0 2 = true := by decide +kernel
theorem d_AL_clear_2 : decode prog_22_method_40_code 2 = .ok (.getfield 63, 3) := by decide +kernel
theorem b_AL_clear_5_7 : decs prog_22_method_40_code [(.iconst 1, 1), (.iadd, 1)] 5 7 = true := by decide +kernel
theorem d_AL_clear_7 : decode prog_22_method_40_code 7 = .ok (.putfield 63, 3) := by decide +kernel
theorem b_AL_clear_10_11 : decs prog_22_method_40_code [(.aload_n 0, 1)] 10 11 = true := by decide +kernel
theorem d_AL_clear_11 : decode prog_22_method_40_code 11 = .ok (.getfield 9, 3) := by decide +kernel
theorem b_AL_clear_14_16 : decs prog_22_method_40_code [(.astore_n 1, 1), (.aload_n 0, 1)] 14 16 = true := by decide +kernel
theorem d_AL_clear_16 : decode prog_22_method_40_code 16 = .ok (.getfield 48, 3) := by decide +kernel
theorem b_AL_clear_19_23 : decs prog_22_method_40_code [(.istore_n 2, 1), (.aload_n 0, 1), (.iconst 0, 1), (.dup_x1, 1)] 19 23 = true := by decide +kernel
theorem d_AL_clear_23 : decode prog_22_method_40_code 23 = .ok (.putfield 48, 3) := by decide +kernel
theorem b_AL_clear_26_27 : decs prog_22_method_40_code [(.istore_n 3, 1)] 26 27 = true := by decide +kernel
theorem b_AL_clear_27_29 : decs prog_22_method_40_code [(.iload_n 3, 1), (.iload_n 2, 1)] 27 29 = true := by decide +kernel
theorem d_AL_clear_29 : decode prog_22_method_40_code 29 = .ok (.if_icmp .ge 13, 3) := by decide +kernel
theorem d_AL_clear_42 : decode prog_22_method_40_code 42 = .ok (.return_, 1) := by decide +kernel
theorem b_AL_clear_32_35 : decs prog_22_method_40_code [(.aload_n 1, 1), (.iload_n 3, 1), (.aconst_null, 1)] 32 35 = true := by decide +kernel
theorem d_AL_clear_35 : decode prog_22_method_40_code 35 = .ok (.aastore, 1) := by decide +kernel
theorem b_AL_clear_36_39 : decs prog_22_method_40_code [(.iinc 3 1, 3)] 36 39 = true := by decide +kernel
theorem d_AL_clear_39 : decode prog_22_method_40_code 39 = .ok (.goto (-12), 3) := by decide +kernel
set_option maxRecDepth 100000 in
set_option maxHeartbeats 4000000 in
theorem c_AL_clear (l : Launch) (G : GG) (A : Nat → Prop) (w : WF) (na nd a d n : Nat) (md : Int32) (f : Nat → Option Nat) (hnn : na ≠ nd) (hn : n ≤ 10) (he : w na = some (a, .inr (6, [.ref d, .int (nI n), .int md]))) (hd : w nd = some (d, .inl (G.2.1 3, 10, .inr (.inr (.inr (.inr f)))))) : Met l y_AL_clear (Cond.code y_AL_clear prog_22_method_40_code 4 none :: wt) { frames := 0, cells := 0, slots := 0, locals := 0 } (Pre G A w (fun _ => True) [.ref a]) (Qx0 (X := Unit) A (fun _ _ => True) G (fun _ => (va_up (va_up w nd (some (d, .inl (G.2.1 3, 10, .inr (.inr (.inr (.inr (clF f n)))))))) na (some (a, .inr (6, [.ref d, .int 0, .int (md + 1)])))))) 0 0 A := by
  refine mt_of (by decide) (Nat.le_of_ble_eq_true rfl) ?_
  intro p e s m below meth c ls C hH hA hE hr hmn hl
  have hl : lv_has ls 4 [(0, .ref a)] := hl
  refine x_sx C b_AL_clear_0_2 hl (L' := [(0, .ref a)]) (st' := [.ref a, .ref a]) rfl (fun ls hl => ?_)
  refine x_get C hH.1 na he 2 (v := .int md) rfl rfl (by decide) t_49 (u_same (C.ts t_50)) d_AL_clear_2 ?_
  refine x_sx C b_AL_clear_5_7 hl (L' := [(0, .ref a)]) (st' := [.int (md + 1), .ref a]) rfl (fun ls hl => ?_)
  refine x_put C hH na he 2 (v := .int (md + 1)) (by simp) rfl (by decide) t_49 (u_same (C.ts t_50)) rfl rfl rfl d_AL_clear_7 (fun H locs hH => ?_)
  have hH : Hw G A s (va_up w na (some (a, .inr (6, [.ref d, .int (nI n), .int (md + 1)])))) H _ := hH
  have g1 : (va_up w na (some (a, .inr (6, [.ref d, .int (nI n), .int (md + 1)])))) na = (some (a, .inr (6, [.ref d, .int (nI n), .int (md + 1)]))) := up_s _ _ _
  have g2 : (va_up w na (some (a, .inr (6, [.ref d, .int (nI n), .int (md + 1)])))) nd = (some (d, .inl (G.2.1 3, 10, .inr (.inr (.inr (.inr (f))))))) := (up_n _ _ (by omega)).trans hd
  refine x_sx C b_AL_clear_10_11 hl (L' := [(0, .ref a)]) (st' := [.ref a]) rfl (fun ls hl => ?_)
  refine x_get C hH.1 na g1 0 (v := .ref d) rfl rfl (by decide) t_46 (fun _ z => z) d_AL_clear_11 ?_
  refine x_sx C b_AL_clear_14_16 hl (L' := [(1, .ref d), (0, .ref a)]) (st' := [.ref a]) rfl (fun ls hl => ?_)
  refine x_get C hH.1 na g1 1 (v := .int (nI n)) rfl rfl (by decide) t_47 (fun _ z => z) d_AL_clear_16 ?_
  refine x_sx C b_AL_clear_19_23 hl (L' := [(2, .int (nI n)), (1, .ref d), (0, .ref a)]) (st' := [.int 0, .ref a, .int 0]) rfl (fun ls hl => ?_)
  refine x_put C hH na g1 1 (v := .int 0) (by simp) rfl (by decide) t_47 (fun _ z => z) rfl rfl rfl d_AL_clear_23 (fun H locs hH => ?_)
  have hH : Hw G A s (va_up (va_up w na (some (a, .inr (6, [.ref d, .int (nI n), .int (md + 1)])))) na (some (a, .inr (6, [.ref d, .int 0, .int (md + 1)])))) H _ := hH
  have g3 : (va_up (va_up w na (some (a, .inr (6, [.ref d, .int (nI n), .int (md + 1)])))) na (some (a, .inr (6, [.ref d, .int 0, .int (md + 1)])))) na = (some (a, .inr (6, [.ref d, .int 0, .int (md + 1)]))) := up_s _ _ _
  have g4 : (va_up (va_up w na (some (a, .inr (6, [.ref d, .int (nI n), .int (md + 1)])))) na (some (a, .inr (6, [.ref d, .int 0, .int (md + 1)])))) nd = (some (d, .inl (G.2.1 3, 10, .inr (.inr (.inr (.inr (f))))))) := (up_n _ _ (by omega)).trans g2
  refine x_sx C b_AL_clear_26_27 hl (L' := [(3, .int 0), (2, .int (nI n)), (1, .ref d), (0, .ref a)]) (st' := []) rfl (fun ls hl => ?_)
  have e1 : (va_up (va_up w na (some (a, .inr (6, [.ref d, .int (nI n), .int (md + 1)])))) na (some (a, .inr (6, [.ref d, .int 0, .int (md + 1)])))) = (va_up (va_up w na (some (a, .inr (6, [.ref d, .int 0, .int (md + 1)])))) nd (some (d, .inl (G.2.1 3, 10, .inr (.inr (.inr (.inr (clF f 0)))))))) := by rw [clF_0]; funext i; unfold va_up; (repeat' split) <;> first | rfl | omega | (subst_vars; exact hd)
  rw [e1] at hH
  refine x_loop (X := Nat) (fun x => n - x) (fun x H locs => x ≤ n ∧ Hw G A s (va_up (va_up w na (some (a, .inr (6, [.ref d, .int 0, .int (md + 1)])))) nd (some (d, .inl (G.2.1 3, 10, .inr (.inr (.inr (.inr (clF f x)))))))) H locs) (fun x => [(0, .ref a), (1, .ref d), (2, .int (nI n)), (3, .int (nI x))]) 27 ?_ 0 _ _ _ ⟨Nat.zero_le _, hH⟩ (lv_sub hl [3, 2, 1, 0] rfl)
  intro k H locs ls hI hl IH
  obtain ⟨hk, hH⟩ := hI
  have hl : lv_has ls 4 [(0, .ref a), (1, .ref d), (2, .int (nI n)), (3, .int (nI k))] := hl
  have g5 : (va_up (va_up w na (some (a, .inr (6, [.ref d, .int 0, .int (md + 1)])))) nd (some (d, .inl (G.2.1 3, 10, .inr (.inr (.inr (.inr (clF f k)))))))) nd = (some (d, .inl (G.2.1 3, 10, .inr (.inr (.inr (.inr ((clF f k)))))))) := up_s _ _ _
  refine x_sx C b_AL_clear_27_29 hl (L' := [(0, .ref a), (1, .ref d), (2, .int (nI n)), (3, .int (nI k))]) (st' := [.int (nI n), .int (nI k)]) rfl (fun ls hl => ?_)
  refine lv_icmp_ge (tgt := 42) C.1 C.2.1 d_AL_clear_29 (by decide) (fun hb => ?_) (fun hb => ?_)
  · have e2 : k = n := by rw [nI_leI (by omega) (by omega)] at hb; omega
    rw [e2, up_sw _ hnn] at hH
    exact x_vrt C hr hH.2.2 ⟨(), rfl, trivial, hH.1, hH.2.1⟩ (Nat.le_of_ble_eq_true rfl) (Nat.le_of_ble_eq_true rfl) d_AL_clear_42
  · rw [nI_leI (by omega) (by omega)] at hb
    refine x_sx C b_AL_clear_32_35 hl (L' := [(0, .ref a), (1, .ref d), (2, .int (nI n)), (3, .int (nI k))]) (st' := [.null, .int (nI k), .ref d]) rfl (fun ls hl => ?_)
    refine x_qstN C hH nd g5 (j := k) rfl (by omega) (by decide) d_AL_clear_35 (fun H locs hH => ?_)
    have hH : Hw G A s (va_up (va_up (va_up w na (some (a, .inr (6, [.ref d, .int 0, .int (md + 1)])))) nd (some (d, .inl (G.2.1 3, 10, .inr (.inr (.inr (.inr (clF f k)))))))) nd (some (d, .inl (G.2.1 3, 10, .inr (.inr (.inr (.inr ((va_up (clF f k) k none))))))))) H _ := hH
    have g6 : (va_up (va_up (va_up w na (some (a, .inr (6, [.ref d, .int 0, .int (md + 1)])))) nd (some (d, .inl (G.2.1 3, 10, .inr (.inr (.inr (.inr (clF f k)))))))) nd (some (d, .inl (G.2.1 3, 10, .inr (.inr (.inr (.inr ((va_up (clF f k) k none))))))))) nd = (some (d, .inl (G.2.1 3, 10, .inr (.inr (.inr (.inr ((va_up (clF f k) k none)))))))) := up_s _ _ _
    refine x_sx C b_AL_clear_36_39 hl (L' := [(3, .int ((nI k) + 1)), (0, .ref a), (1, .ref d), (2, .int (nI n))]) (st' := []) rfl (fun ls hl => ?_)
    refine x_goto (tgt := 27) C d_AL_clear_39 (by decide) ?_
    rw [up_up, clF_s] at hH
    exact IH (k + 1) _ _ _ (by omega) ⟨by omega, hH⟩ (by rw [← nI_1]; exact (lv_sub hl [1, 2, 3, 0] rfl))
theorem hd_AL_clear : hdP y_AL_clear 0 := ⟨by decide +kernel, by decide +kernel, by decide +kernel⟩
theorem b_AL_clear_26_29 : decs prog_22_method_40_code [(.istore_n 3, 1), (.iload_n 3, 1), (.iload_n 2, 1)] 26 29 = true := by decide +kernel
set_option maxRecDepth 100000 in
set_option maxHeartbeats 4000000 in
theorem c_AL_clear_e (l : Launch) (G : GG) (A : Nat → Prop) (w : WF) (na a : Nat) (md : Int32) (he : w na = some (a, .inr (6, [.ref (G.2.2 1), .int 0, .int md]))) : Met l y_AL_clear (Cond.code y_AL_clear prog_22_method_40_code 4 none :: wt) { frames := 0, cells := 0, slots := 0, locals := 0 } (Pre G A w (fun _ => True) [.ref a]) (Qx0 (X := Unit) A (fun _ _ => True) G (fun _ => (va_up w na (some (a, .inr (6, [.ref (G.2.2 1), .int 0, .int (md + 1)])))))) 0 0 A := by
  refine mt_of (by decide) (Nat.le_of_ble_eq_true rfl) ?_
  intro p e s m below meth c ls C hH hA hE hr hmn hl
  have hl : lv_has ls 4 [(0, .ref a)] := hl
  refine x_sx C b_AL_clear_0_2 hl (L' := [(0, .ref a)]) (st' := [.ref a, .ref a]) rfl (fun ls hl => ?_)
  refine x_get C hH.1 na he 2 (v := .int md) rfl rfl (by decide) t_49 (u_same (C.ts t_50)) d_AL_clear_2 ?_
  refine x_sx C b_AL_clear_5_7 hl (L' := [(0, .ref a)]) (st' := [.int (md + 1), .ref a]) rfl (fun ls hl => ?_)
  refine x_put C hH na he 2 (v := .int (md + 1)) (by simp) rfl (by decide) t_49 (u_same (C.ts t_50)) rfl rfl rfl d_AL_clear_7 (fun H locs hH => ?_)
  have hH : Hw G A s (va_up w na (some (a, .inr (6, [.ref (G.2.2 1), .int 0, .int (md + 1)])))) H _ := hH
  have g1 : (va_up w na (some (a, .inr (6, [.ref (G.2.2 1), .int 0, .int (md + 1)])))) na = (some (a, .inr (6, [.ref (G.2.2 1), .int 0, .int (md + 1)]))) := up_s _ _ _
  refine x_sx C b_AL_clear_10_11 hl (L' := [(0, .ref a)]) (st' := [.ref a]) rfl (fun ls hl => ?_)
  refine x_get C hH.1 na g1 0 (v := .ref (G.2.2 1)) rfl rfl (by decide) t_46 (fun _ z => z) d_AL_clear_11 ?_
  refine x_sx C b_AL_clear_14_16 hl (L' := [(1, .ref (G.2.2 1)), (0, .ref a)]) (st' := [.ref a]) rfl (fun ls hl => ?_)
  refine x_get C hH.1 na g1 1 (v := .int 0) rfl rfl (by decide) t_47 (fun _ z => z) d_AL_clear_16 ?_
  refine x_sx C b_AL_clear_19_23 hl (L' := [(2, .int 0), (1, .ref (G.2.2 1)), (0, .ref a)]) (st' := [.int 0, .ref a, .int 0]) rfl (fun ls hl => ?_)
  refine x_put C hH na g1 1 (v := .int 0) (by simp) rfl (by decide) t_47 (fun _ z => z) rfl rfl rfl d_AL_clear_23 (fun H locs hH => ?_)
  have hH : Hw G A s (va_up (va_up w na (some (a, .inr (6, [.ref (G.2.2 1), .int 0, .int (md + 1)])))) na (some (a, .inr (6, [.ref (G.2.2 1), .int 0, .int (md + 1)])))) H _ := hH
  have g2 : (va_up (va_up w na (some (a, .inr (6, [.ref (G.2.2 1), .int 0, .int (md + 1)])))) na (some (a, .inr (6, [.ref (G.2.2 1), .int 0, .int (md + 1)])))) na = (some (a, .inr (6, [.ref (G.2.2 1), .int 0, .int (md + 1)]))) := up_s _ _ _
  refine x_sx C b_AL_clear_26_29 hl (L' := [(3, .int 0), (2, .int 0), (1, .ref (G.2.2 1)), (0, .ref a)]) (st' := [.int 0, .int 0]) rfl (fun ls hl => ?_)
  refine lv_icmp_ge (tgt := 42) C.1 C.2.1 d_AL_clear_29 (by decide) (fun _ => ?_) (fun h => absurd (by decide) h)
  rw [up_up] at hH
  exact x_vrt C hr hH.2.2 ⟨(), rfl, trivial, hH.1, hH.2.1⟩ (Nat.le_of_ble_eq_true rfl) (Nat.le_of_ble_eq_true rfl) d_AL_clear_42
theorem b_BS_initWords_0_4 : decs prog_24_method_6_code [(.aload_n 0, 1), (.iload_n 1, 1), (.iconst 1, 1), (.isub, 1)] 0 4 = true := by decide +kernel
theorem d_BS_initWords_4 : decode prog_24_method_6_code 4 = .ok (.invokestatic 52, 3) := by decide +kernel
theorem b_BS_initWords_7_9 : decs prog_24_method_6_code [(.iconst 1, 1), (.iadd, 1)] 7 9 = true := by decide +kernel
theorem d_BS_initWords_9 : decode prog_24_method_6_code 9 = .ok (.newarray .long, 2) := by decide +kernel
theorem d_BS_initWords_11 : decode prog_24_method_6_code 11 = .ok (.putfield 11, 3) := by decide +kernel
theorem d_BS_initWords_14 : decode prog_24_method_6_code 14 = .ok (.return_, 1) := by decide +kernel
set_option maxRecDepth 100000 in
set_option maxHeartbeats 4000000 in
theorem c_BS_initWords (l : Launch) (G : GG) (A : Nat → Prop) (w : WF) (ns nw a : Nat) (hnn : ns ≠ nw) (he : w ns = some (a, .inr (7, [.null, .int 0, .int 0]))) : Met l y_BS_initWords (Cond.code y_BS_initWords prog_24_method_6_code 2 none :: wt) { frames := 1, cells := 1, slots := 1, locals := 20 } (Pre G A w (fun _ => True) [.ref a, .int 64]) (Qx0 (X := Nat) A (fun _ _ => True) G (fun d => (va_up (va_up w nw (some (d, .inl (G.2.1 2, 1, .inr (.inl (fun _ => 0)))))) ns (some (a, .inr (7, [.ref d, .int 0, .int 0])))))) 1 1 A := by
  refine mt_of (by decide) (Nat.le_of_ble_eq_true rfl) ?_
  intro p e s m below meth c ls C hH hA hE hr hmn hl
  have hl : lv_has ls 2 [(0, .ref a), (1, .int 64)] := hl
  refine x_sx C b_BS_initWords_0_4 hl (L' := [(0, .ref a), (1, .int 64)]) (st' := [.int (64 - 1), .ref a]) rfl (fun ls hl => ?_)
  rw [show (64 - 1 : Int32) = nI 63 by decide]
  refine x_ro (x_cS C (c_BS_wordIndex l G w 63 (by decide)) t_135 t_10 t_133 t_134 hd_BS_wordIndex blind_Pro (pre_ro C hH.1 hH.2.2) (As := [.int (nI 63)]) (rest := [.ref a]) rfl hl.1 rfl rfl rfl ⟨Nat.le_of_ble_eq_true rfl, Nat.le_of_ble_eq_true rfl⟩ (Nat.le_of_ble_eq_true rfl) ⟨Nat.zero_le _, Nat.zero_le _⟩ d_BS_initWords_4) ?_
  refine x_sx C b_BS_initWords_7_9 hl (L' := [(0, .ref a), (1, .int 64)]) (st' := [.int ((nI (63 / 64)) + 1), .ref a]) rfl (fun ls hl => ?_)
  refine x_newl C hH hA nw (N := 1) (by decide) (by decide) (Nat.le_of_ble_eq_true rfl) (Nat.le_of_ble_eq_true rfl) d_BS_initWords_9 (fun d H hH => ?_)
  have hH : Hw G A s (va_up w nw (some (d, .inl (G.2.1 2, 1, .inr (.inl ((fun _ => 0))))))) H _ := hH
  have g1 : (va_up w nw (some (d, .inl (G.2.1 2, 1, .inr (.inl ((fun _ => 0))))))) ns = (some (a, .inr (7, [.null, .int 0, .int 0]))) := (up_n _ _ (by omega)).trans he
  have g2 : (va_up w nw (some (d, .inl (G.2.1 2, 1, .inr (.inl ((fun _ => 0))))))) nw = (some (d, .inl (G.2.1 2, 1, .inr (.inl ((fun _ => 0)))))) := up_s _ _ _
  refine x_put C hH ns g1 0 (v := .ref d) (by simp) rfl (by decide) t_136 (fun _ z => z) rfl rfl rfl d_BS_initWords_11 (fun H locs hH => ?_)
  have hH : Hw G A s (va_up (va_up w nw (some (d, .inl (G.2.1 2, 1, .inr (.inl ((fun _ => 0))))))) ns (some (a, .inr (7, [.ref d, .int 0, .int 0])))) H _ := hH
  have g3 : (va_up (va_up w nw (some (d, .inl (G.2.1 2, 1, .inr (.inl ((fun _ => 0))))))) ns (some (a, .inr (7, [.ref d, .int 0, .int 0])))) ns = (some (a, .inr (7, [.ref d, .int 0, .int 0]))) := up_s _ _ _
  have g4 : (va_up (va_up w nw (some (d, .inl (G.2.1 2, 1, .inr (.inl ((fun _ => 0))))))) ns (some (a, .inr (7, [.ref d, .int 0, .int 0])))) nw = (some (d, .inl (G.2.1 2, 1, .inr (.inl ((fun _ => 0)))))) := (up_n _ _ (by omega)).trans g2
  exact x_vrt C hr hH.2.2 ⟨d, rfl, trivial, hH.1, hH.2.1⟩ (Nat.le_of_ble_eq_true rfl) (Nat.le_of_ble_eq_true rfl) d_BS_initWords_14
theorem hd_BS_initWords : hdP y_BS_initWords 1 := ⟨by decide +kernel, by decide +kernel, by decide +kernel⟩
theorem b_BS_init_0_1 : decs prog_24_method_4_code [(.aload_n 0, 1)] 0 1 = true := by decide +kernel
theorem d_BS_init_1 : decode prog_24_method_4_code 1 = .ok (.invokespecial 21, 3) := by decide +kernel
theorem b_BS_init_4_6 : decs prog_24_method_4_code [(.aload_n 0, 1), (.iconst 0, 1)] 4 6 = true := by decide +kernel
theorem d_BS_init_6 : decode prog_24_method_4_code 6 = .ok (.putfield 7, 3) := by decide +kernel
theorem b_BS_init_9_11 : decs prog_24_method_4_code [(.aload_n 0, 1), (.iconst 0, 1)] 9 11 = true := by decide +kernel
theorem d_BS_init_11 : decode prog_24_method_4_code 11 = .ok (.putfield 24, 3) := by decide +kernel
theorem b_BS_init_14_17 : decs prog_24_method_4_code [(.aload_n 0, 1), (.bipush 64, 2)] 14 17 = true := by decide +kernel
theorem d_BS_init_17 : decode prog_24_method_4_code 17 = .ok (.invokevirtual 27, 3) := by decide +kernel
theorem b_BS_init_20_22 : decs prog_24_method_4_code [(.aload_n 0, 1), (.iconst 0, 1)] 20 22 = true := by decide +kernel
theorem d_BS_init_22 : decode prog_24_method_4_code 22 = .ok (.putfield 24, 3) := by decide +kernel
theorem d_BS_init_25 : decode prog_24_method_4_code 25 = .ok (.return_, 1) := by decide +kernel
set_option maxRecDepth 100000 in
set_option maxHeartbeats 4000000 in
theorem c_BS_init (l : Launch) (G : GG) (A : Nat → Prop) (w : WF) (ns nw a : Nat) (hnn : ns ≠ nw) (he : w ns = some (a, .inr (7, [.null, .int 0, .int 0]))) : Met l y_BS_init (Cond.code y_BS_init prog_24_method_4_code 1 none :: wt) { frames := 2, cells := 1, slots := 1, locals := 41 } (Pre G A w (fun _ => True) [.ref a]) (Qx0 (X := Nat) A (fun _ _ => True) G (fun d => (va_up (va_up w nw (some (d, .inl (G.2.1 2, 1, .inr (.inl (fun _ => 0)))))) ns (some (a, .inr (7, [.ref d, .int 0, .int 0])))))) 1 1 A := by
  refine mt_of (by decide) (Nat.le_of_ble_eq_true rfl) ?_
  intro p e s m below meth c ls C hH hA hE hr hmn hl
  have hl : lv_has ls 1 [(0, .ref a)] := hl
  refine x_sx C b_BS_init_0_1 hl (L' := [(0, .ref a)]) (st' := [.ref a]) rfl (fun ls hl => ?_)
  refine x_obj (rest := []) C t_128 hl.1 (Nat.le_of_ble_eq_true rfl) (Nat.le_of_ble_eq_true rfl) d_BS_init_1 ?_
  refine x_sx C b_BS_init_4_6 hl (L' := [(0, .ref a)]) (st' := [.int 0, .ref a]) rfl (fun ls hl => ?_)
  refine x_put C hH ns he 1 (v := .int 0) (by simp) rfl (by decide) t_137 (fun _ z => z) rfl rfl rfl d_BS_init_6 (fun H locs hH => ?_)
  have hH : Hw G A s (va_up w ns (some (a, .inr (7, [.null, .int 0, .int 0])))) H _ := hH
  have g1 : (va_up w ns (some (a, .inr (7, [.null, .int 0, .int 0])))) ns = (some (a, .inr (7, [.null, .int 0, .int 0]))) := up_s _ _ _
  rw [up_idd w he] at hH
  refine x_sx C b_BS_init_9_11 hl (L' := [(0, .ref a)]) (st' := [.int 0, .ref a]) rfl (fun ls hl => ?_)
  refine x_put C hH ns he 2 (v := .int 0) (by simp) rfl (by decide) t_138 (fun _ z => z) rfl rfl rfl d_BS_init_11 (fun H locs hH => ?_)
  have hH : Hw G A s (va_up w ns (some (a, .inr (7, [.null, .int 0, .int 0])))) H _ := hH
  have g2 : (va_up w ns (some (a, .inr (7, [.null, .int 0, .int 0])))) ns = (some (a, .inr (7, [.null, .int 0, .int 0]))) := up_s _ _ _
  rw [up_idd w he] at hH
  refine x_sx C b_BS_init_14_17 hl (L' := [(0, .ref a)]) (st' := [.int 64, .ref a]) rfl (fun ls hl => ?_)
  refine x_q0 (x_cV C hH.1 he rfl (c_BS_initWords l G A w ns nw a hnn he) t_132 t_10 t_129 t_131 ts_3 hd_BS_initWords blind_Pre (pre_mt C hH hA trivial) (As := [.int 64]) (rest := []) rfl hl.1 rfl rfl rfl ⟨Nat.le_of_ble_eq_true rfl, Nat.le_of_ble_eq_true rfl⟩ (Nat.le_of_ble_eq_true rfl) ⟨(Nat.le_of_ble_eq_true rfl), (Nat.le_of_ble_eq_true rfl)⟩ d_BS_init_17) hH.2.2 (fun d H locs hx hH hz => ?_)
  have g3 : (va_up (va_up w nw (some (d, .inl (G.2.1 2, 1, .inr (.inl (fun _ => 0)))))) ns (some (a, .inr (7, [.ref d, .int 0, .int 0])))) ns = (some (a, .inr (7, [.ref d, .int 0, .int 0]))) := up_s _ _ _
  refine x_sx C b_BS_init_20_22 hl (L' := [(0, .ref a)]) (st' := [.int 0, .ref a]) rfl (fun ls hl => ?_)
  refine x_put C hH ns g3 2 (v := .int 0) (by simp) rfl (by decide) t_138 (fun _ z => z) rfl rfl rfl d_BS_init_22 (fun H locs hH => ?_)
  have hH : Hw G A s (va_up (va_up (va_up w nw (some (d, .inl (G.2.1 2, 1, .inr (.inl (fun _ => 0)))))) ns (some (a, .inr (7, [.ref d, .int 0, .int 0])))) ns (some (a, .inr (7, [.ref d, .int 0, .int 0])))) H _ := hH
  have g4 : (va_up (va_up (va_up w nw (some (d, .inl (G.2.1 2, 1, .inr (.inl (fun _ => 0)))))) ns (some (a, .inr (7, [.ref d, .int 0, .int 0])))) ns (some (a, .inr (7, [.ref d, .int 0, .int 0])))) ns = (some (a, .inr (7, [.ref d, .int 0, .int 0]))) := up_s _ _ _
  rw [up_up] at hH
  exact x_vrt C hr hH.2.2 ⟨d, rfl, trivial, hH.1, hH.2.1⟩ (Nat.le_of_ble_eq_true rfl) (Nat.le_of_ble_eq_true rfl) d_BS_init_25
theorem hd_BS_init : hdP y_BS_init 0 := ⟨by decide +kernel, by decide +kernel, by decide +kernel⟩
theorem b_Arr_copyOf_3_0_2 : decs prog_23_method_124_code [(.iload_n 1, 1), (.aload_n 0, 1)] 0 2 = true := by decide +kernel
theorem d_Arr_copyOf_3_2 : decode prog_23_method_124_code 2 = .ok (.arraylength, 1) := by decide +kernel
theorem d_Arr_copyOf_3_3 : decode prog_23_method_124_code 3 = .ok (.if_icmp .ne 11, 3) := by decide +kernel
theorem b_Arr_copyOf_3_14_15 : decs prog_23_method_124_code [(.iload_n 1, 1)] 14 15 = true := by decide +kernel
theorem d_Arr_copyOf_3_15 : decode prog_23_method_124_code 15 = .ok (.newarray .long, 2) := by decide +kernel
theorem b_Arr_copyOf_3_17_23 : decs prog_23_method_124_code [(.astore_n 2, 1), (.aload_n 0, 1), (.iconst 0, 1), (.aload_n 2, 1), (.iconst 0, 1), (.aload_n 0, 1)] 17 23 = true := by decide +kernel
theorem d_Arr_copyOf_3_23 : decode prog_23_method_124_code 23 = .ok (.arraylength, 1) := by decide +kernel
theorem b_Arr_copyOf_3_24_25 : decs prog_23_method_124_code [(.iload_n 1, 1)] 24 25 = true := by decide +kernel
theorem d_Arr_copyOf_3_25 : decode prog_23_method_124_code 25 = .ok (.invokestatic 304, 3) := by decide +kernel
theorem d_Arr_copyOf_3_28 : decode prog_23_method_124_code 28 = .ok (.invokestatic 150, 3) := by decide +kernel
theorem b_Arr_copyOf_3_31_32 : decs prog_23_method_124_code [(.aload_n 2, 1)] 31 32 = true := by decide +kernel
theorem d_Arr_copyOf_3_32 : decode prog_23_method_124_code 32 = .ok (.areturn, 1) := by decide +kernel
set_option maxRecDepth 100000 in
set_option maxHeartbeats 4000000 in
theorem c_Arr_copyOf_3 (l : Launch) (G : GG) (A : Nat → Prop) (w : WF) (nw d L N : Nat) (f : Nat → Int64) (hd : w nw = some (d, .inl (G.2.1 2, L, .inr (.inl f)))) (hLN : L < N) (hN : N ≤ 1000) (hz : ∀ k, L ≤ k → f k = 0) : Met l y_Arr_copyOf_3 (Cond.code y_Arr_copyOf_3 prog_23_method_124_code 3 (some (FieldType.array FieldType.long)) :: wt) { frames := 1, cells := 1, slots := N, locals := 44 } (Pre G A w (fun _ => True) [.ref d, .int (nI N)]) (Qx1 (X := Nat) A (fun d => .ref d) (fun _ _ => True) G (fun d => (va_up w nw (some (d, .inl (G.2.1 2, N, .inr (.inl f))))))) 1 N A := by
  refine mt_of (by decide) (Nat.le_of_ble_eq_true rfl) ?_
  intro p e s m below meth c ls C hH hA hE hr hmn hl
  have hl : lv_has ls 3 [(0, .ref d), (1, .int (nI N))] := hl
  have hH := hH.sh
  have g0 : wSh w (nw + 1) = some (d, .inl (G.2.1 2, L, .inr (.inl f))) := (wSh_s w nw).trans hd
  refine x_sx C b_Arr_copyOf_3_0_2 hl (L' := [(0, .ref d), (1, .int (nI N))]) (st' := [.ref d, .int (nI N)]) rfl (fun ls hl => ?_)
  refine x_alen C hH.1 (nw + 1) 2 g0 rfl d_Arr_copyOf_3_2 ?_
  refine lv_icmp_ne (tgt := 14) C.1 C.2.1 d_Arr_copyOf_3_3 (by decide) (fun _ => ?_) (fun h => absurd ((nI_eq (by omega) (show L < 2 ^ 31 by omega)).mp h) (by show ¬ N = L; omega))
  refine x_sx C b_Arr_copyOf_3_14_15 hl (L' := [(0, .ref d), (1, .int (nI N))]) (st' := [.int (nI N)]) rfl (fun ls hl => ?_)
  refine x_newl C hH hA 0 (N := N) rfl (by omega) (Nat.le_of_ble_eq_true rfl) (by show 0 + N ≤ N; omega) d_Arr_copyOf_3_15 (fun d' H hH => ?_)
  have hH : Hw G A s (va_up (wSh w) 0 (some (d', .inl (G.2.1 2, N, .inr (.inl ((fun _ => 0))))))) H _ := hH
  have g1 : (va_up (wSh w) 0 (some (d', .inl (G.2.1 2, N, .inr (.inl ((fun _ => 0))))))) (nw + 1) = (some (d, .inl (G.2.1 2, L, .inr (.inl (f))))) := (up_n _ _ (by omega)).trans g0
  have g2 : (va_up (wSh w) 0 (some (d', .inl (G.2.1 2, N, .inr (.inl ((fun _ => 0))))))) 0 = (some (d', .inl (G.2.1 2, N, .inr (.inl ((fun _ => 0)))))) := up_s _ _ _
  refine x_sx C b_Arr_copyOf_3_17_23 hl (L' := [(2, .ref d'), (0, .ref d), (1, .int (nI N))]) (st' := [.ref d, .int 0, .ref d', .int 0, .ref d]) rfl (fun ls hl => ?_)
  refine x_alen C hH.1 (nw + 1) 2 g1 rfl d_Arr_copyOf_3_23 ?_
  refine x_sx C b_Arr_copyOf_3_24_25 hl (L' := [(2, .ref d'), (0, .ref d), (1, .int (nI N))]) (st' := [.int (nI N), .int (nI L), .int 0, .ref d', .int 0, .ref d]) rfl (fun ls hl => ?_)
  refine x_ro (x_cS C (c_Math_min l G (va_up (wSh w) 0 (some (d', .inl (G.2.1 2, N, .inr (.inl ((fun _ => 0))))))) (nI L) (nI N)) t_109 t_6 t_107 t_108 hd_Math_min blind_Pro (pre_ro C hH.1 hH.2.2) (As := [.int (nI L), .int (nI N)]) (rest := [.int 0, .ref d', .int 0, .ref d]) rfl hl.1 rfl rfl rfl ⟨Nat.le_of_ble_eq_true rfl, Nat.le_of_ble_eq_true rfl⟩ (Nat.le_of_ble_eq_true rfl) ⟨(Nat.le_of_ble_eq_true rfl), (by show 0 + N + 0 ≤ N; omega)⟩ d_Arr_copyOf_3_25) ?_
  refine x_copyl (rest := []) C hH (nw + 1) 0 (by omega) g1 g2 (n := L) (Nat.le_refl _) (by omega) (by omega) (by rw [p_min_n (by omega) (by omega), Nat.min_eq_left (by omega)]) t_110 t_112 t_111 t_8 hl.1 (Nat.le_of_ble_eq_true rfl) (Nat.le_of_ble_eq_true rfl) d_Arr_copyOf_3_28 (fun H locs hH => ?_)
  rw [up_up, show (fun k => if k < L then f k else (0 : Int64)) = f from funext (fun k => by split; rfl; rename_i h; exact (hz k (by omega)).symm)] at hH
  have hH := hH.unsh (n := nw)
  refine x_sx C b_Arr_copyOf_3_31_32 hl (L' := [(2, .ref d'), (0, .ref d), (1, .int (nI N))]) (st' := [.ref d']) rfl (fun ls hl => ?_)
  exact x_art C hr (Or.inr ⟨_, rfl⟩) (Or.inr ⟨_, rfl⟩) hH.2.2 ⟨d', rfl, trivial, hH.1, hH.2.1⟩ (Nat.le_of_ble_eq_true rfl) (by omega) d_Arr_copyOf_3_32
theorem hd_Arr_copyOf_3 : hdP y_Arr_copyOf_3 2 := ⟨by decide +kernel, by decide +kernel, by decide +kernel⟩
theorem b_BS_ensureCapacity_0_1 : decs prog_24_method_14_code [(.aload_n 0, 1)] 0 1 = true := by decide +kernel
theorem d_BS_ensureCapacity_1 : decode prog_24_method_14_code 1 = .ok (.getfield 11, 3) := by decide +kernel
theorem d_BS_ensureCapacity_4 : decode prog_24_method_14_code 4 = .ok (.arraylength, 1) := by decide +kernel
theorem b_BS_ensureCapacity_5_6 : decs prog_24_method_14_code [(.iload_n 1, 1)] 5 6 = true := by decide +kernel
theorem d_BS_ensureCapacity_6 : decode prog_24_method_14_code 6 = .ok (.if_icmp .ge 32, 3) := by decide +kernel
theorem d_BS_ensureCapacity_38 : decode prog_24_method_14_code 38 = .ok (.return_, 1) := by decide +kernel
set_option maxRecDepth 100000 in
theorem c_BS_ensureCapacity (l : Launch) (G : GG) (w : WF) (ns nw a d L u r : Nat) (f : Nat → Int64) (he : w ns = some (a, .inr (7, [.ref d, .int (nI u), .int 0]))) (hd : w nw = some (d, .inl (G.2.1 2, L, .inr (.inl f)))) (hL : L ≤ 128) (hr2 : r ≤ L) : Met l y_BS_ensureCapacity (Cond.code y_BS_ensureCapacity prog_24_method_14_code 3 none :: wt) { frames := 2, cells := 0, slots := 0, locals := 66 } (Pro G w [.ref a, .int (nI r)]) (Qrv) 0 0 (fun _ => False) := by
  refine ro_of (by decide +kernel) (Nat.le_of_ble_eq_true rfl) ?_
  intro p e s m below meth c ls C hP hr hl
  have hl : lv_has ls 3 [(0, .ref a), (1, .int (nI r))] := hl
  refine x_sx C b_BS_ensureCapacity_0_1 hl (L' := [(0, .ref a), (1, .int (nI r))]) (st' := [.ref a]) rfl (fun ls hl => ?_)
  refine x_get C hP ns he 0 (v := .ref d) rfl rfl (by decide) t_136 (fun _ z => z) d_BS_ensureCapacity_1 ?_
  refine x_alen C hP nw 2 hd rfl d_BS_ensureCapacity_4 ?_
  refine x_sx C b_BS_ensureCapacity_5_6 hl (L' := [(0, .ref a), (1, .int (nI r))]) (st' := [.int (nI r), .int (nI L)]) rfl (fun ls hl => ?_)
  refine lv_icmp_ge (tgt := 38) C.1 C.2.1 d_BS_ensureCapacity_6 (by decide) (fun _ => ?_) (fun h => absurd ((nI_leI (by omega) (by show L < 2 ^ 31; omega)).mpr hr2) h)
  exact x_vro C hr d_BS_ensureCapacity_38
theorem hd_BS_ensureCapacity : hdP y_BS_ensureCapacity 1 := ⟨by decide +kernel, by decide +kernel, by decide +kernel⟩
theorem b_BS_ensureCapacity_9_11 : decs prog_24_method_14_code [(.iconst 2, 1), (.aload_n 0, 1)] 9 11 = true := by decide +kernel
theorem d_BS_ensureCapacity_11 : decode prog_24_method_14_code 11 = .ok (.getfield 11, 3) := by decide +kernel
theorem d_BS_ensureCapacity_14 : decode prog_24_method_14_code 14 = .ok (.arraylength, 1) := by decide +kernel
theorem b_BS_ensureCapacity_15_17 : decs prog_24_method_14_code [(.imul, 1), (.iload_n 1, 1)] 15 17 = true := by decide +kernel
theorem d_BS_ensureCapacity_17 : decode prog_24_method_14_code 17 = .ok (.invokestatic 133, 3) := by decide +kernel
theorem b_BS_ensureCapacity_20_23 : decs prog_24_method_14_code [(.istore_n 2, 1), (.aload_n 0, 1), (.aload_n 0, 1)] 20 23 = true := by decide +kernel
theorem d_BS_ensureCapacity_23 : decode prog_24_method_14_code 23 = .ok (.getfield 11, 3) := by decide +kernel
theorem b_BS_ensureCapacity_26_27 : decs prog_24_method_14_code [(.iload_n 2, 1)] 26 27 = true := by decide +kernel
theorem d_BS_ensureCapacity_27 : decode prog_24_method_14_code 27 = .ok (.invokestatic 59, 3) := by decide +kernel
theorem d_BS_ensureCapacity_30 : decode prog_24_method_14_code 30 = .ok (.putfield 11, 3) := by decide +kernel
theorem b_BS_ensureCapacity_33_35 : decs prog_24_method_14_code [(.aload_n 0, 1), (.iconst 0, 1)] 33 35 = true := by decide +kernel
theorem d_BS_ensureCapacity_35 : decode prog_24_method_14_code 35 = .ok (.putfield 24, 3) := by decide +kernel
set_option maxRecDepth 100000 in
set_option maxHeartbeats 4000000 in
theorem c_BS_ensureCapacity_g (l : Launch) (G : GG) (A : Nat → Prop) (w : WF) (ns nw a d L u : Nat) (f : Nat → Int64) (r : Nat) (hnn : ns ≠ nw) (he : w ns = some (a, .inr (7, [.ref d, .int (nI u), .int 0]))) (hd : w nw = some (d, .inl (G.2.1 2, L, .inr (.inl f)))) (hL0 : 0 < L) (hL : L ≤ 128) (hu : u ≤ L) (hz : ∀ k, u ≤ k → f k = 0) (hr0 : r ≤ 64) (hr2 : L < r) : Met l y_BS_ensureCapacity (Cond.code y_BS_ensureCapacity prog_24_method_14_code 3 none :: wt) { frames := 2, cells := 1, slots := (max (2 * L) r), locals := 66 } (Pre G A w (fun _ => True) [.ref a, .int (nI r)]) (Qx0 (X := Nat) A (fun _ _ => True) G (fun e => (va_up (va_up w nw (some (e, .inl (G.2.1 2, (max (2 * L) r), .inr (.inl f))))) ns (some (a, .inr (7, [.ref e, .int (nI u), .int 0])))))) 1 (max (2 * L) r) A := by
  refine mt_of (by decide) (Nat.le_of_ble_eq_true rfl) ?_
  intro p e s m below meth c ls C hH hA hE hr hmn hl
  have hl : lv_has ls 3 [(0, .ref a), (1, .int (nI r))] := hl
  refine x_sx C b_BS_ensureCapacity_0_1 hl (L' := [(0, .ref a), (1, .int (nI r))]) (st' := [.ref a]) rfl (fun ls hl => ?_)
  refine x_get C hH.1 ns he 0 (v := .ref d) rfl rfl (by decide) t_136 (fun _ z => z) d_BS_ensureCapacity_1 ?_
  refine x_alen C hH.1 nw 2 hd rfl d_BS_ensureCapacity_4 ?_
  refine x_sx C b_BS_ensureCapacity_5_6 hl (L' := [(0, .ref a), (1, .int (nI r))]) (st' := [.int (nI r), .int (nI L)]) rfl (fun ls hl => ?_)
  refine lv_icmp_ge (tgt := 38) C.1 C.2.1 d_BS_ensureCapacity_6 (by decide) (fun h => absurd h (fun z => absurd ((nI_leI (by omega) (by show L < 2 ^ 31; omega)).mp z) (by omega))) (fun _ => ?_)
  refine x_sx C b_BS_ensureCapacity_9_11 hl (L' := [(0, .ref a), (1, .int (nI r))]) (st' := [.ref a, .int 2]) rfl (fun ls hl => ?_)
  refine x_get C hH.1 ns he 0 (v := .ref d) rfl rfl (by decide) t_136 (fun _ z => z) d_BS_ensureCapacity_11 ?_
  refine x_alen C hH.1 nw 2 hd rfl d_BS_ensureCapacity_14 ?_
  refine x_sx C b_BS_ensureCapacity_15_17 hl (L' := [(0, .ref a), (1, .int (nI r))]) (st' := [.int (nI r), .int (2 * (nI L))]) rfl (fun ls hl => ?_)
  refine x_ro (x_cS C (c_Math_max l G w (2 * nI L) (nI r)) t_79 t_6 t_248 t_78 hd_Math_max blind_Pro (pre_ro C hH.1 hH.2.2) (As := [.int (2 * (nI L)), .int (nI r)]) (rest := []) rfl hl.1 rfl rfl rfl ⟨Nat.le_of_ble_eq_true rfl, Nat.le_of_ble_eq_true rfl⟩ (Nat.le_of_ble_eq_true rfl) ⟨Nat.zero_le _, Nat.zero_le _⟩ d_BS_ensureCapacity_17) ?_
  rw [nI_2, p_max_n (by omega) (by omega)]
  refine x_sx C b_BS_ensureCapacity_20_23 hl (L' := [(2, .int (nI (max (2 * L) r))), (0, .ref a), (1, .int (nI r))]) (st' := [.ref a, .ref a]) rfl (fun ls hl => ?_)
  refine x_get C hH.1 ns he 0 (v := .ref d) rfl rfl (by decide) t_136 (fun _ z => z) d_BS_ensureCapacity_23 ?_
  refine x_sx C b_BS_ensureCapacity_26_27 hl (L' := [(2, .int (nI (max (2 * L) r))), (0, .ref a), (1, .int (nI r))]) (st' := [.int (nI (max (2 * L) r)), .ref d, .ref a]) rfl (fun ls hl => ?_)
  refine x_q1 (x_cS C (c_Arr_copyOf_3 l G A w nw d L (max (2 * L) r) f hd (by omega) (by omega) (fun k hk => hz k (by omega))) t_251 t_7 t_249 t_250 hd_Arr_copyOf_3 blind_Pre (pre_mt C hH hA trivial) (As := [.ref d, .int (nI (max (2 * L) r))]) (rest := [.ref a]) rfl hl.1 rfl rfl rfl ⟨Nat.le_of_ble_eq_true rfl, Nat.le_of_ble_eq_true rfl⟩ (Nat.le_of_ble_eq_true rfl) ⟨(Nat.le_of_ble_eq_true rfl), (by show 0 + max (2 * L) r ≤ max (2 * L) r; omega)⟩ d_BS_ensureCapacity_27) hH.2.2 (fun e1 H locs hx hH hz => ?_)
  have g1 : (va_up w nw (some (e1, .inl (G.2.1 2, (max (2 * L) r), .inr (.inl f))))) ns = (some (a, .inr (7, [.ref d, .int (nI u), .int 0]))) := (up_n _ _ hnn).trans he
  refine x_put C hH ns g1 0 (v := .ref e1) (by simp) rfl (by decide) t_136 (fun _ z => z) rfl rfl rfl d_BS_ensureCapacity_30 (fun H locs hH => ?_)
  have hH : Hw G A s (va_up (va_up w nw (some (e1, .inl (G.2.1 2, (max (2 * L) r), .inr (.inl f))))) ns (some (a, .inr (7, [.ref e1, .int (nI u), .int 0])))) H _ := hH
  have g2 : (va_up (va_up w nw (some (e1, .inl (G.2.1 2, (max (2 * L) r), .inr (.inl f))))) ns (some (a, .inr (7, [.ref e1, .int (nI u), .int 0])))) ns = (some (a, .inr (7, [.ref e1, .int (nI u), .int 0]))) := up_s _ _ _
  refine x_sx C b_BS_ensureCapacity_33_35 hl (L' := [(2, .int (nI (max (2 * L) r))), (0, .ref a), (1, .int (nI r))]) (st' := [.int 0, .ref a]) rfl (fun ls hl => ?_)
  refine x_put C hH ns g2 2 (v := .int 0) (by simp) rfl (by decide) t_138 (fun _ z => z) rfl rfl rfl d_BS_ensureCapacity_35 (fun H locs hH => ?_)
  have hH : Hw G A s (va_up (va_up (va_up w nw (some (e1, .inl (G.2.1 2, (max (2 * L) r), .inr (.inl f))))) ns (some (a, .inr (7, [.ref e1, .int (nI u), .int 0])))) ns (some (a, .inr (7, [.ref e1, .int (nI u), .int 0])))) H _ := hH
  have g3 : (va_up (va_up (va_up w nw (some (e1, .inl (G.2.1 2, (max (2 * L) r), .inr (.inl f))))) ns (some (a, .inr (7, [.ref e1, .int (nI u), .int 0])))) ns (some (a, .inr (7, [.ref e1, .int (nI u), .int 0])))) ns = (some (a, .inr (7, [.ref e1, .int (nI u), .int 0]))) := up_s _ _ _
  rw [up_up] at hH
  exact x_vrt C hr hH.2.2 ⟨e1, rfl, trivial, hH.1, hH.2.1⟩ (Nat.le_of_ble_eq_true rfl) (by omega) d_BS_ensureCapacity_38
/-- what is said of the words behind a set: the new length, the room used -/
def PdB (sz tz L i : Nat) (x : Nat × Nat) (H : Heap) : Prop := i < x.2 ∧ L ≤ x.2 ∧ x.2 ≤ 128 ∧ H.size + pc6 x.2 ≤ sz + pc6 L ∧ hTot H + ps6 x.2 ≤ tz + ps6 L
theorem b_BS_expandTo_0_5 : decs prog_24_method_15_code [(.iload_n 1, 1), (.iconst 1, 1), (.iadd, 1), (.istore_n 2, 1), (.aload_n 0, 1)] 0 5 = true := by decide +kernel
theorem d_BS_expandTo_5 : decode prog_24_method_15_code 5 = .ok (.getfield 7, 3) := by decide +kernel
theorem b_BS_expandTo_8_9 : decs prog_24_method_15_code [(.iload_n 2, 1)] 8 9 = true := by decide +kernel
theorem d_BS_expandTo_9 : decode prog_24_method_15_code 9 = .ok (.if_icmp .ge 13, 3) := by decide +kernel
theorem d_BS_expandTo_22 : decode prog_24_method_15_code 22 = .ok (.return_, 1) := by decide +kernel
theorem b_BS_expandTo_12_14 : decs prog_24_method_15_code [(.aload_n 0, 1), (.iload_n 2, 1)] 12 14 = true := by decide +kernel
theorem d_BS_expandTo_14 : decode prog_24_method_15_code 14 = .ok (.invokevirtual 139, 3) := by decide +kernel
theorem b_BS_expandTo_17_19 : decs prog_24_method_15_code [(.aload_n 0, 1), (.iload_n 2, 1)] 17 19 = true := by decide +kernel
theorem d_BS_expandTo_19 : decode prog_24_method_15_code 19 = .ok (.putfield 7, 3) := by decide +kernel
set_option maxRecDepth 100000 in
set_option maxHeartbeats 4000000 in
theorem c_BS_expandTo (l : Launch) (G : GG) (A : Nat → Prop) (w : WF) (ns nw a d L u : Nat) (f : Nat → Int64) (i sz tz : Nat) (hnn : ns ≠ nw) (he : w ns = some (a, .inr (7, [.ref d, .int (nI u), .int 0]))) (hd : w nw = some (d, .inl (G.2.1 2, L, .inr (.inl f)))) (hL0 : 0 < L) (hL : L ≤ 128) (hu : u ≤ L) (hz : ∀ k, u ≤ k → f k = 0) (hi : i < 64) : Met l y_BS_expandTo (Cond.code y_BS_expandTo prog_24_method_15_code 3 none :: wt) { frames := 3, cells := (pc6 L), slots := (ps6 L), locals := 88 } (Pre G A w (fun H => H.size = sz ∧ hTot H = tz) [.ref a, .int (nI i)]) (Qx0 (X := Nat × Nat) A (PdB sz tz L i) G (fun x => (va_up (va_up w nw (some (x.1, .inl (G.2.1 2, x.2, .inr (.inl f))))) ns (some (a, .inr (7, [.ref x.1, .int (nI (max u (i + 1))), .int 0])))))) (pc6 L) (ps6 L) A := by
  refine mt_of (by decide) (Nat.le_of_ble_eq_true rfl) ?_
  intro p e s m below meth c ls C hH hA hE hr hmn hl
  have hl : lv_has ls 3 [(0, .ref a), (1, .int (nI i))] := hl
  refine x_sx C b_BS_expandTo_0_5 hl (L' := [(2, .int ((nI i) + 1)), (0, .ref a), (1, .int (nI i))]) (st' := [.ref a]) rfl (fun ls hl => ?_)
  rw [nI_1] at hl
  have hl : lv_has ls 3 [(2, .int (nI (i + 1))), (0, .ref a), (1, .int (nI i))] := hl
  refine x_get C hH.1 ns he 1 (v := .int (nI u)) rfl rfl (by decide) t_137 (fun _ z => z) d_BS_expandTo_5 ?_
  refine x_sx C b_BS_expandTo_8_9 hl (L' := [(2, .int (nI (i + 1))), (0, .ref a), (1, .int (nI i))]) (st' := [.int (nI (i + 1)), .int (nI u)]) rfl (fun ls hl => ?_)
  refine lv_icmp_ge (tgt := 22) C.1 C.2.1 d_BS_expandTo_9 (by decide) (fun hb => ?_) (fun hb => ?_)
  · rw [nI_leI (by omega) (by omega)] at hb
    have e1 : (va_up (va_up w nw (some (d, .inl (G.2.1 2, L, .inr (.inl f))))) ns (some (a, .inr (7, [.ref d, .int (nI (max u (i + 1))), .int 0])))) = w := by rw [Nat.max_eq_left (by omega), up_idd w hd, up_idd w he]
    rw [← e1] at hH
    exact x_vrt C hr hH.2.2 ⟨(d, L), rfl, ⟨by show i < L; omega, Nat.le_refl _, hL, by show _ + pc6 L ≤ _; rw [hE.1]; exact Nat.le_refl _, by show _ + ps6 L ≤ _; rw [hE.2]; exact Nat.le_refl _⟩, hH.1, hH.2.1⟩ (Nat.zero_le _) (Nat.zero_le _) d_BS_expandTo_22
  · rw [nI_leI (by omega) (by omega)] at hb
    refine x_sx C b_BS_expandTo_12_14 hl (L' := [(2, .int (nI (i + 1))), (0, .ref a), (1, .int (nI i))]) (st' := [.int (nI (i + 1)), .ref a]) rfl (fun ls hl => ?_)
    by_cases hg : i + 1 ≤ L
    · refine x_rv (x_cV C hH.1 he rfl (c_BS_ensureCapacity l G w ns nw a d L u (i + 1) f he hd hL hg) t_247 t_10 t_244 t_246 ts_7 hd_BS_ensureCapacity blind_Pro (pre_ro C hH.1 hH.2.2) (As := [.int (nI (i + 1))]) (rest := []) rfl hl.1 rfl rfl rfl ⟨Nat.le_of_ble_eq_true rfl, Nat.le_of_ble_eq_true rfl⟩ (Nat.le_of_ble_eq_true rfl) ⟨Nat.zero_le _, Nat.zero_le _⟩ d_BS_expandTo_14) ?_
      refine x_sx C b_BS_expandTo_17_19 hl (L' := [(2, .int (nI (i + 1))), (0, .ref a), (1, .int (nI i))]) (st' := [.int (nI (i + 1)), .ref a]) rfl (fun ls hl => ?_)
      refine x_put C hH ns he 1 (v := .int (nI (i + 1))) (by simp) rfl (by decide) t_137 (fun _ z => z) rfl rfl rfl d_BS_expandTo_19 (fun H locs hH => ?_)
      have hH : Hw G A s (va_up w ns (some (a, .inr (7, [.ref d, .int (nI (i + 1)), .int 0])))) H _ := hH
      have g1 : (va_up w ns (some (a, .inr (7, [.ref d, .int (nI (i + 1)), .int 0])))) ns = (some (a, .inr (7, [.ref d, .int (nI (i + 1)), .int 0]))) := up_s _ _ _
      have g2 : (va_up w ns (some (a, .inr (7, [.ref d, .int (nI (i + 1)), .int 0])))) nw = (some (d, .inl (G.2.1 2, L, .inr (.inl (f))))) := (up_n _ _ (by omega)).trans hd
      have e1 : (va_up (va_up w nw (some (d, .inl (G.2.1 2, L, .inr (.inl f))))) ns (some (a, .inr (7, [.ref d, .int (nI (max u (i + 1))), .int 0])))) = (va_up w ns (some (a, .inr (7, [.ref d, .int (nI (i + 1)), .int 0])))) := by rw [Nat.max_eq_right (by omega), up_idd w hd]
      rw [← e1] at hH
      refine W.know (fun k1 k2 _ _ => ?_)
      exact x_vrt C hr hH.2.2 ⟨(d, L), rfl, ⟨by show i < L; omega, Nat.le_refl _, hL, by show _ + pc6 L ≤ _; have := hE.1; omega, by show _ + ps6 L ≤ _; have := hE.2; omega⟩, hH.1, hH.2.1⟩ (Nat.zero_le _) (Nat.zero_le _) d_BS_expandTo_22
    · have hp1 := pc6_grow (L' := max (2 * L) (i + 1)) hL0 (by omega) (by omega)
      have hp2 := ps6_grow (L := L) (L' := max (2 * L) (i + 1)) (by omega) (by omega) (by omega) (by omega)
      refine x_q0 (x_cV C hH.1 he rfl (c_BS_ensureCapacity_g l G A w ns nw a d L u f (i + 1) hnn he hd hL0 hL hu hz (by omega) (by omega)) t_247 t_10 t_244 t_246 ts_7 hd_BS_ensureCapacity blind_Pre (pre_mt C hH hA trivial) (As := [.int (nI (i + 1))]) (rest := []) rfl hl.1 rfl rfl rfl ⟨Nat.le_of_ble_eq_true rfl, Nat.le_of_ble_eq_true rfl⟩ (Nat.le_of_ble_eq_true rfl) ⟨(by show 0 + 1 ≤ pc6 L; omega), (by show 0 + max (2 * L) (i + 1) ≤ ps6 L; omega)⟩ d_BS_expandTo_14) hH.2.2 (fun e1 H locs hx hH hz => ?_)
      have g1 : (va_up (va_up w nw (some (e1, .inl (G.2.1 2, (max (2 * L) (i + 1)), .inr (.inl f))))) ns (some (a, .inr (7, [.ref e1, .int (nI u), .int 0])))) ns = (some (a, .inr (7, [.ref e1, .int (nI u), .int 0]))) := up_s _ _ _
      refine x_sx C b_BS_expandTo_17_19 hl (L' := [(2, .int (nI (i + 1))), (0, .ref a), (1, .int (nI i))]) (st' := [.int (nI (i + 1)), .ref a]) rfl (fun ls hl => ?_)
      refine x_put C hH ns g1 1 (v := .int (nI (i + 1))) (by simp) rfl (by decide) t_137 (fun _ z => z) rfl rfl rfl d_BS_expandTo_19 (fun H locs hH => ?_)
      have hH : Hw G A s (va_up (va_up (va_up w nw (some (e1, .inl (G.2.1 2, (max (2 * L) (i + 1)), .inr (.inl f))))) ns (some (a, .inr (7, [.ref e1, .int (nI u), .int 0])))) ns (some (a, .inr (7, [.ref e1, .int (nI (i + 1)), .int 0])))) H _ := hH
      have g2 : (va_up (va_up (va_up w nw (some (e1, .inl (G.2.1 2, (max (2 * L) (i + 1)), .inr (.inl f))))) ns (some (a, .inr (7, [.ref e1, .int (nI u), .int 0])))) ns (some (a, .inr (7, [.ref e1, .int (nI (i + 1)), .int 0])))) ns = (some (a, .inr (7, [.ref e1, .int (nI (i + 1)), .int 0]))) := up_s _ _ _
      rw [up_up] at hH
      have e2 : i + 1 = max u (i + 1) := by omega
      have hH : Hw G A s (va_up (va_up w nw (some (e1, .inl (G.2.1 2, (max (2 * L) (i + 1)), .inr (.inl f))))) ns (some (a, .inr (7, [.ref e1, .int (nI (max u (i + 1))), .int 0])))) H locs := by rw [← e2]; exact hH
      refine W.know (fun k1 k2 _ _ => ?_)
      exact x_vrt C hr hH.2.2 ⟨(e1, max (2 * L) (i + 1)), rfl, ⟨by show i < max _ _; omega, by show L ≤ max _ _; omega, by show max _ _ ≤ 128; omega, by show _ + pc6 (max (2 * L) (i + 1)) ≤ _; have := hE.1; omega, by show _ + ps6 (max (2 * L) (i + 1)) ≤ _; have := hE.2; omega⟩, hH.1, hH.2.1⟩ (by omega) (by omega) d_BS_expandTo_22
theorem hd_BS_expandTo : hdP y_BS_expandTo 1 := ⟨by decide +kernel, by decide +kernel, by decide +kernel⟩
theorem b_BS_set_0_1 : decs prog_24_method_19_code [(.iload_n 1, 1)] 0 1 = true := by decide +kernel
theorem d_BS_set_1 : decode prog_24_method_19_code 1 = .ok (.ifCond .ge 30, 3) := by decide +kernel
theorem b_BS_set_31_32 : decs prog_24_method_19_code [(.iload_n 1, 1)] 31 32 = true := by decide +kernel
theorem d_BS_set_32 : decode prog_24_method_19_code 32 = .ok (.invokestatic 52, 3) := by decide +kernel
theorem b_BS_set_35_38 : decs prog_24_method_19_code [(.istore_n 2, 1), (.aload_n 0, 1), (.iload_n 2, 1)] 35 38 = true := by decide +kernel
theorem d_BS_set_38 : decode prog_24_method_19_code 38 = .ok (.invokevirtual 155, 3) := by decide +kernel
theorem b_BS_set_41_42 : decs prog_24_method_19_code [(.aload_n 0, 1)] 41 42 = true := by decide +kernel
theorem d_BS_set_42 : decode prog_24_method_19_code 42 = .ok (.getfield 11, 3) := by decide +kernel
theorem b_BS_set_45_47 : decs prog_24_method_19_code [(.iload_n 2, 1), (.dup2, 1)] 45 47 = true := by decide +kernel
theorem d_BS_set_47 : decode prog_24_method_19_code 47 = .ok (.laload, 1) := by decide +kernel
theorem b_BS_set_48_52 : decs prog_24_method_19_code [(.lconst 1, 1), (.iload_n 1, 1), (.lshl, 1), (.lor, 1)] 48 52 = true := by decide +kernel
theorem d_BS_set_52 : decode prog_24_method_19_code 52 = .ok (.lastore, 1) := by decide +kernel
theorem b_BS_set_53_54 : decs prog_24_method_19_code [(.aload_n 0, 1)] 53 54 = true := by decide +kernel
theorem d_BS_set_54 : decode prog_24_method_19_code 54 = .ok (.invokevirtual 56, 3) := by decide +kernel
theorem d_BS_set_57 : decode prog_24_method_19_code 57 = .ok (.return_, 1) := by decide +kernel
set_option maxRecDepth 100000 in
set_option maxHeartbeats 4000000 in
theorem c_BS_set (l : Launch) (G : GG) (A : Nat → Prop) (w : WF) (ns nw a d L u : Nat) (f : Nat → Int64) (t sz tz : Nat) (hnn : ns ≠ nw) (he : w ns = some (a, .inr (7, [.ref d, .int (nI u), .int 0]))) (hd : w nw = some (d, .inl (G.2.1 2, L, .inr (.inl f)))) (hL0 : 0 < L) (hL : L ≤ 128) (hu : u ≤ L) (hz : ∀ k, u ≤ k → f k = 0) (ht : t < 4096) : Met l y_BS_set (Cond.code y_BS_set prog_24_method_19_code 3 none :: wt) { frames := 4, cells := (pc6 L), slots := (ps6 L), locals := 110 } (Pre G A w (fun H => H.size = sz ∧ hTot H = tz) [.ref a, .int (nI t)]) (Qx0 (X := Nat × Nat) A (PdB sz tz L (t / 64)) G (fun x => (va_up (va_up w nw (some (x.1, .inl (G.2.1 2, x.2, .inr (.inl (vp_updL f (t / 64) (f (t / 64) ||| (1 <<< ((nI t).toInt64 &&& 63))))))))) ns (some (a, .inr (7, [.ref x.1, .int (nI (max u (t / 64 + 1))), .int 0])))))) (pc6 L) (ps6 L) A := by
  refine mt_of (by decide) (Nat.le_of_ble_eq_true rfl) ?_
  intro p e s m below meth c ls C hH hA hE hr hmn hl
  have hl : lv_has ls 3 [(0, .ref a), (1, .int (nI t))] := hl
  refine x_sx C b_BS_set_0_1 hl (L' := [(0, .ref a), (1, .int (nI t))]) (st' := [.int (nI t)]) rfl (fun ls hl => ?_)
  refine lv_if_ge (tgt := 31) C.1 C.2.1 d_BS_set_1 (by decide) (fun _ => ?_) (fun h => absurd (nI_pos' (by omega)) h)
  refine x_sx C b_BS_set_31_32 hl (L' := [(0, .ref a), (1, .int (nI t))]) (st' := [.int (nI t)]) rfl (fun ls hl => ?_)
  refine x_ro (x_cS C (c_BS_wordIndex l G w t (by omega)) t_135 t_10 t_133 t_134 hd_BS_wordIndex blind_Pro (pre_ro C hH.1 hH.2.2) (As := [.int (nI t)]) (rest := []) rfl hl.1 rfl rfl rfl ⟨Nat.le_of_ble_eq_true rfl, Nat.le_of_ble_eq_true rfl⟩ (Nat.le_of_ble_eq_true rfl) ⟨Nat.zero_le _, Nat.zero_le _⟩ d_BS_set_32) ?_
  refine x_sx C b_BS_set_35_38 hl (L' := [(2, .int (nI (t / 64))), (0, .ref a), (1, .int (nI t))]) (st' := [.int (nI (t / 64)), .ref a]) rfl (fun ls hl => ?_)
  refine x_q0 (x_cV C hH.1 he rfl (c_BS_expandTo l G A w ns nw a d L u f (t / 64) sz tz hnn he hd hL0 hL hu hz (by omega)) t_243 t_10 t_240 t_242 ts_6 hd_BS_expandTo blind_Pre (pre_mt C hH hA hE) (As := [.int (nI (t / 64))]) (rest := []) rfl hl.1 rfl rfl rfl ⟨Nat.le_of_ble_eq_true rfl, Nat.le_of_ble_eq_true rfl⟩ (Nat.le_of_ble_eq_true rfl) ⟨(by show 0 + pc6 L ≤ pc6 L; omega), (by show 0 + ps6 L ≤ ps6 L; omega)⟩ d_BS_set_38) hH.2.2 (fun x H locs hx hH hz => ?_)
  have g1 : (va_up (va_up w nw (some (x.1, .inl (G.2.1 2, x.2, .inr (.inl f))))) ns (some (a, .inr (7, [.ref x.1, .int (nI (max u (t / 64 + 1))), .int 0])))) ns = (some (a, .inr (7, [.ref x.1, .int (nI (max u (t / 64 + 1))), .int 0]))) := up_s _ _ _
  have g2 : (va_up (va_up w nw (some (x.1, .inl (G.2.1 2, x.2, .inr (.inl f))))) ns (some (a, .inr (7, [.ref x.1, .int (nI (max u (t / 64 + 1))), .int 0])))) nw = (some (x.1, .inl (G.2.1 2, x.2, .inr (.inl (f))))) := (up_n _ _ hnn.symm).trans (up_s _ _ _)
  obtain ⟨hx1, hx2, hx3, hx4, hx5⟩ := hx
  refine W.know (fun _ _ k3 k4 => ?_)
  refine W.tight (k := pc6 L - pc6 x.2) (n := ps6 L - ps6 x.2) (by have := hE.1; omega) (by have := hE.2; omega) ?_
  refine x_sx C b_BS_set_41_42 hl (L' := [(2, .int (nI (t / 64))), (0, .ref a), (1, .int (nI t))]) (st' := [.ref a]) rfl (fun ls hl => ?_)
  refine x_get C hH.1 ns g1 0 (v := .ref x.1) rfl rfl (by decide) t_136 (fun _ z => z) d_BS_set_42 ?_
  refine x_sx C b_BS_set_45_47 hl (L' := [(2, .int (nI (t / 64))), (0, .ref a), (1, .int (nI t))]) (st' := [.int (nI (t / 64)), .ref x.1, .int (nI (t / 64)), .ref x.1]) rfl (fun ls hl => ?_)
  refine x_lld C hH.1 nw g2 (j := (t / 64)) rfl hx1 (by omega) d_BS_set_47 ?_
  refine x_sx C b_BS_set_48_52 hl (L' := [(2, .int (nI (t / 64))), (0, .ref a), (1, .int (nI t))]) (st' := [.long ((f (t / 64)) ||| (1 <<< ((nI t).toInt64 &&& 63))), .int (nI (t / 64)), .ref x.1]) rfl (fun ls hl => ?_)
  refine x_lst C hH nw g2 (j := (t / 64)) rfl hx1 (by omega) d_BS_set_52 (fun H locs hH => ?_)
  have hH : Hw G A s (va_up (va_up (va_up w nw (some (x.1, .inl (G.2.1 2, x.2, .inr (.inl f))))) ns (some (a, .inr (7, [.ref x.1, .int (nI (max u (t / 64 + 1))), .int 0])))) nw (some (x.1, .inl (G.2.1 2, x.2, .inr (.inl ((vp_updL f (t / 64) ((f (t / 64)) ||| (1 <<< ((nI t).toInt64 &&& 63)))))))))) H _ := hH
  have g3 : (va_up (va_up (va_up w nw (some (x.1, .inl (G.2.1 2, x.2, .inr (.inl f))))) ns (some (a, .inr (7, [.ref x.1, .int (nI (max u (t / 64 + 1))), .int 0])))) nw (some (x.1, .inl (G.2.1 2, x.2, .inr (.inl ((vp_updL f (t / 64) ((f (t / 64)) ||| (1 <<< ((nI t).toInt64 &&& 63)))))))))) ns = (some (a, .inr (7, [.ref x.1, .int (nI (max u (t / 64 + 1))), .int 0]))) := (up_n _ _ (by omega)).trans g1
  have g4 : (va_up (va_up (va_up w nw (some (x.1, .inl (G.2.1 2, x.2, .inr (.inl f))))) ns (some (a, .inr (7, [.ref x.1, .int (nI (max u (t / 64 + 1))), .int 0])))) nw (some (x.1, .inl (G.2.1 2, x.2, .inr (.inl ((vp_updL f (t / 64) ((f (t / 64)) ||| (1 <<< ((nI t).toInt64 &&& 63)))))))))) nw = (some (x.1, .inl (G.2.1 2, x.2, .inr (.inl ((vp_updL f (t / 64) ((f (t / 64)) ||| (1 <<< ((nI t).toInt64 &&& 63))))))))) := up_s _ _ _
  refine x_sx C b_BS_set_53_54 hl (L' := [(2, .int (nI (t / 64))), (0, .ref a), (1, .int (nI t))]) (st' := [.ref a]) rfl (fun ls hl => ?_)
  refine x_rv (x_cV C hH.1 g3 rfl (c_BS_checkInvariants l G (va_up (va_up (va_up w nw (some (x.1, .inl (G.2.1 2, x.2, .inr (.inl f))))) ns (some (a, .inr (7, [.ref x.1, .int (nI (max u (t / 64 + 1))), .int 0])))) nw (some (x.1, .inl (G.2.1 2, x.2, .inr (.inl ((vp_updL f (t / 64) ((f (t / 64)) ||| (1 <<< ((nI t).toInt64 &&& 63)))))))))) a) t_262 t_10 t_259 t_261 ts_8 hd_BS_checkInvariants blind_Pro (pre_ro C hH.1 hH.2.2) (As := []) (rest := []) rfl hl.1 rfl rfl rfl ⟨Nat.le_of_ble_eq_true rfl, Nat.le_of_ble_eq_true rfl⟩ (Nat.le_of_ble_eq_true rfl) ⟨(by show _ + 0 ≤ pc6 L; omega), (by show _ + 0 ≤ ps6 L; omega)⟩ d_BS_set_54) ?_
  rw [up_sw _ hnn, up_up] at hH
  refine W.know (fun k1 k2 _ _ => ?_)
  exact x_vrt C hr hH.2.2 ⟨x, rfl, ⟨hx1, hx2, hx3, by have := hE.1; omega, by have := hE.2; omega⟩, hH.1, hH.2.1⟩ (by omega) (by omega) d_BS_set_57
theorem hd_BS_set : hdP y_BS_set 1 := ⟨by decide +kernel, by decide +kernel, by decide +kernel⟩
