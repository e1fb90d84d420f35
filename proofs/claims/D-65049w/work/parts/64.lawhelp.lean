theorem b_Law_body_0_11 : decs method_3_code [(.aload 6, 2), (.iconst 0, 1), (.aload_n 0, 1), (.iload_n 1, 1), (.iload_n 2, 1), (.iload_n 3, 1), (.iload 4, 2), (.iload 5, 2)] 0 11 = true := by decide +kernel
theorem d_Law_body_11 : decode method_3_code 11 = .ok (.invokevirtual 7, 3) := by decide +kernel
theorem b_Law_body_14_15 : decs method_3_code [(.i2l, 1)] 14 15 = true := by decide +kernel
theorem d_Law_body_15 : decode method_3_code 15 = .ok (.lastore, 1) := by decide +kernel
theorem d_Law_body_16 : decode method_3_code 16 = .ok (.goto 11, 3) := by decide +kernel
theorem b_Law_body_27_28 : decs method_3_code [(.iconst 0, 1)] 27 28 = true := by decide +kernel
theorem d_Law_body_28 : decode method_3_code 28 = .ok (.ireturn, 1) := by decide +kernel
set_option maxRecDepth 100000 in
set_option maxHeartbeats 4000000 in
theorem c_Law_body (l : Launch) (G : GG) (A : Nat → Prop) (rb : Nat) (n : Nat) (md : Int32) (rd : Nat → Nat) (sd : Nat → Nat) (ms : Nat → Int32) (fl : Nat → Nat) (mn : Nat → Nat) (sc : Nat → Int32) (ar : Nat → Nat → Int32) (b : Bt) (w0 : WF) (np : Nat) (a1 : Int32) (a2 : Int32) (a3 : Int32) (a4 : Int32) (a5 : Int32) (hn3 : n < 3) (hrb : 100 ≤ rb) (hrbE : rb = 100 ∨ rb = 200) (hw : ∀ m, 100 ≤ m → m < 300 → w0 m = none) (hmq : ∀ q, q < 4 → mn q ≤ 6) (hv : p_in a1 1 200 = 1 ∧ p_in a2 0 200 = 1 ∧ p_in a3 0 60 = 1 ∧ p_in a4 0 60 = 1 ∧ p_in a5 1 20 = 1) (h1 : sc 1 = nI n) (h6 : sc 6 = nI np) (hnp : np ≤ 20) (hg : ∀ k, k < n + 1 → rgC (bgI (bgS (fBodyS sc)) (fBodyA ar n a1 a2 a3 a4 a5) 3) k) (oa : Nat) (f0 : Nat → Int64) (hn : n ≤ 3) (ho : w0 500 = some (oa, .inl (G.2.1 2, 1, .inr (.inl f0)))) : Met l y_Law_body (Cond.codeWith y_Law_body method_3_code 8 (some FieldType.int) [(0, 16, 19, 13), (0, 16, 23, 15)] :: wt) { frames := 11, cells := 16, slots := 315, locals := 290 } (Pre G A (cW G rb n md rd sd ms fl mn sc ar b w0) (fun _ => True) [.ref (sd 0), .int a1, .int a2, .int a3, .int a4, .int a5, .ref oa]) (Qx1 (X := ((Nat → Nat) × Bt) × (Nat → Nat)) A (fun _ => .int 0) (fun x _ => BR x.1.2 ((fBegin (fBodyS sc, fBodyA ar n a1 a2 a3 a4 a5)).2 17) ∧ x.2 0 = sd 0) G (fun x => (cW G (300 - rb) (n + 1) (nI (n + 1)) x.1.1 x.2 (va_up ms 0 (ms 0 + 1)) fl mn (fBegin (fBodyS sc, fBodyA ar n a1 a2 a3 a4 a5)).1 (fBegin (fBodyS sc, fBodyA ar n a1 a2 a3 a4 a5)).2 x.1.2 (va_up w0 500 (some (oa, .inl (G.2.1 2, 1, .inr (.inl (vp_updL f0 0 (nI n).toInt64))))))))) 16 315 A := by
  refine mtW_of (by decide) (Nat.le_of_ble_eq_true rfl) ?_
  intro p e s m below meth c ls C hH hA hE hr htab hl
  have hl : lv_has ls 8 [(0, .ref (sd 0)), (1, .int a1), (2, .int a2), (3, .int a3), (4, .int a4), (5, .int a5), (6, .ref oa)] := hl
  refine x_sx C b_Law_body_0_11 hl (L' := [(0, .ref (sd 0)), (1, .int a1), (2, .int a2), (3, .int a3), (4, .int a4), (5, .int a5), (6, .ref oa)]) (st' := [.int a5, .int a4, .int a3, .int a2, .int a1, .ref (sd 0), .int 0, .ref oa]) rfl (fun ls hl => ?_)
  refine x_q1 (x_cV C hH.1 ((rW_0 (Or.inl (by omega)) hn).trans sp_0) rfl (c_SP_body l G A rb n md rd sd ms fl mn sc ar b w0 np a1 a2 a3 a4 a5 hn3 hrb hrbE hw hmq hv h1 h6 hnp hg) t_362 t_1 t_359 t_360 t_361 hd_SP_body blind_Pre (pre_mt C hH hA trivial) (As := [.int a1, .int a2, .int a3, .int a4, .int a5]) (rest := [.int 0, .ref oa]) rfl hl.1 rfl rfl rfl ⟨Nat.le_of_ble_eq_true rfl, Nat.le_of_ble_eq_true rfl⟩ (Nat.le_of_ble_eq_true rfl) ⟨Nat.le_of_ble_eq_true rfl, Nat.le_of_ble_eq_true rfl⟩ d_Law_body_11) hH.2.2 (fun x H locs hx hH hz => ?_)
  refine x_sx C b_Law_body_14_15 hl (L' := [(0, .ref (sd 0)), (1, .int a1), (2, .int a2), (3, .int a3), (4, .int a4), (5, .int a5), (6, .ref oa)]) (st' := [.long (nI n).toInt64, .int 0, .ref oa]) rfl (fun ls hl => ?_)
  refine x_lst C hH 500 ((cW_hi (by decide) (by omega : n + 1 ≤ 3) (by omega)).trans ho) (j := 0) rfl (by decide) (by decide) d_Law_body_15 (fun H locs hH => ?_)
  rw [cW_up (by decide) (by omega : n + 1 ≤ 3) (by omega)] at hH
  refine x_goto (tgt := 27) C d_Law_body_16 (by decide) ?_
  refine x_sx C b_Law_body_27_28 hl (L' := [(0, .ref (sd 0)), (1, .int a1), (2, .int a2), (3, .int a3), (4, .int a4), (5, .int a5), (6, .ref oa)]) (st' := [.int 0]) rfl (fun ls hl => ?_)
  exact x_irt C hr hH.2.2 ⟨x, rfl, hx, hH.1, hH.2.1⟩ (Nat.le_of_ble_eq_true rfl) (Nat.le_of_ble_eq_true rfl) d_Law_body_28
theorem b_Law_body_19_22 : decs method_3_code [(.astore 7, 2), (.iconst 1, 1)] 19 22 = true := by decide +kernel
theorem d_Law_body_22 : decode method_3_code 22 = .ok (.ireturn, 1) := by decide +kernel
set_option maxRecDepth 100000 in
set_option maxHeartbeats 4000000 in
theorem c_Law_body_1 (l : Launch) (G : GG) (A : Nat → Prop) (rb : Nat) (n : Nat) (md : Int32) (rd : Nat → Nat) (sd : Nat → Nat) (ms : Nat → Int32) (fl : Nat → Nat) (mn : Nat → Nat) (sc : Nat → Int32) (ar : Nat → Nat → Int32) (b : Bt) (w0 : WF) (a1 : Int32) (a2 : Int32) (a3 : Int32) (a4 : Int32) (a5 : Int32) (hfl : l.flags = pinnedFlags ++ [noTraceFlag]) (hn : n ≤ 3) (hrb : 100 ≤ rb) (hv : ¬ (p_in a1 1 200 = 1 ∧ p_in a2 0 200 = 1 ∧ p_in a3 0 60 = 1 ∧ p_in a4 0 60 = 1 ∧ p_in a5 1 20 = 1)) (oa : Nat) (f0 : Nat → Int64) (hrbE : rb = 100 ∨ rb = 200) (ho : w0 500 = some (oa, .inl (G.2.1 2, 1, .inr (.inl f0)))) : Met l y_Law_body (Cond.codeWith y_Law_body method_3_code 8 (some FieldType.int) [(0, 16, 19, 13), (0, 16, 23, 15)] :: wt) { frames := 11, cells := 1, slots := 6, locals := 290 } (Pre G A (cW G rb n md rd sd ms fl mn sc ar b w0) (fun _ => True) [.ref (sd 0), .int a1, .int a2, .int a3, .int a4, .int a5, .ref oa]) (Qx1 (X := Unit) A (fun _ => .int 1) (fun _ _ => True) G (fun _ => (cW G rb n md rd sd ms fl mn sc ar b w0))) 1 6 A := by
  refine mtW_of (by decide) (Nat.le_of_ble_eq_true rfl) ?_
  intro p e s m below meth c ls C hH hA hE hr htab hl
  have hl : lv_has ls 8 [(0, .ref (sd 0)), (1, .int a1), (2, .int a2), (3, .int a3), (4, .int a4), (5, .int a5), (6, .ref oa)] := hl
  refine x_sx C b_Law_body_0_11 hl (L' := [(0, .ref (sd 0)), (1, .int a1), (2, .int a2), (3, .int a3), (4, .int a4), (5, .int a5), (6, .ref oa)]) (st' := [.int a5, .int a4, .int a3, .int a2, .int a1, .ref (sd 0), .int 0, .ref oa]) rfl (fun ls hl => ?_)
  refine t_V C hH.1 ((rW_0 (Or.inl (by omega)) hn).trans sp_0) rfl (c_SP_body_1 l G rb n md rd sd ms fl mn sc ar b w0 a1 a2 a3 a4 a5 hfl hn hrb hv) t_362 t_1 t_359 t_360 t_361 hd_SP_body blind_Pro (pre_ro C hH.1 hH.2.2) (As := [.int a1, .int a2, .int a3, .int a4, .int a5]) (rest := [.int 0, .ref oa]) rfl hl.1 rfl rfl rfl ⟨(Nat.le_of_ble_eq_true rfl), (Nat.le_of_ble_eq_true rfl)⟩ (Nat.le_of_ble_eq_true rfl) ⟨(Nat.le_of_ble_eq_true rfl), (Nat.le_of_ble_eq_true rfl)⟩ d_Law_body_11 (fun xx st t hst hW hq => ?_)
  obtain ⟨ce, hH, hce, hob, hcl⟩ := hq.in hst hW hH
  refine t_catch1 C htab ⟨by decide, by decide⟩ (by decide) t_357 t_371 hcl hce hob ?_
  refine x_sx C b_Law_body_19_22 hl (L' := [(7, .ref xx), (0, .ref (sd 0)), (1, .int a1), (2, .int a2), (3, .int a3), (4, .int a4), (5, .int a5), (6, .ref oa)]) (st' := [.int 1]) rfl (fun ls hl => ?_)
  exact x_irt C hr hH.2.2 ⟨(), rfl, trivial, hH.1, hH.2.1⟩ (Nat.le_of_ble_eq_true rfl) (Nat.le_of_ble_eq_true rfl) d_Law_body_22
theorem b_Law_body_23_26 : decs method_3_code [(.astore 7, 2), (.iconst 2, 1)] 23 26 = true := by decide +kernel
theorem d_Law_body_26 : decode method_3_code 26 = .ok (.ireturn, 1) := by decide +kernel
set_option maxRecDepth 100000 in
set_option maxHeartbeats 4000000 in
theorem c_Law_body_2 (l : Launch) (G : GG) (A : Nat → Prop) (rb : Nat) (n : Nat) (md : Int32) (rd : Nat → Nat) (sd : Nat → Nat) (ms : Nat → Int32) (fl : Nat → Nat) (mn : Nat → Nat) (sc : Nat → Int32) (ar : Nat → Nat → Int32) (b : Bt) (w0 : WF) (a1 : Int32) (a2 : Int32) (a3 : Int32) (a4 : Int32) (a5 : Int32) (hfl : l.flags = pinnedFlags ++ [noTraceFlag]) (hn : n ≤ 3) (hrb : 100 ≤ rb) (hv : p_in a1 1 200 = 1 ∧ p_in a2 0 200 = 1 ∧ p_in a3 0 60 = 1 ∧ p_in a4 0 60 = 1 ∧ p_in a5 1 20 = 1) (h3 : n = 3) (oa : Nat) (f0 : Nat → Int64) (hrbE : rb = 100 ∨ rb = 200) (ho : w0 500 = some (oa, .inl (G.2.1 2, 1, .inr (.inl f0)))) : Met l y_Law_body (Cond.codeWith y_Law_body method_3_code 8 (some FieldType.int) [(0, 16, 19, 13), (0, 16, 23, 15)] :: wt) { frames := 11, cells := 1, slots := 6, locals := 290 } (Pre G A (cW G rb n md rd sd ms fl mn sc ar b w0) (fun _ => True) [.ref (sd 0), .int a1, .int a2, .int a3, .int a4, .int a5, .ref oa]) (Qx1 (X := Unit) A (fun _ => .int 2) (fun _ _ => True) G (fun _ => (cW G rb n md rd sd ms fl mn sc ar b w0))) 1 6 A := by
  refine mtW_of (by decide) (Nat.le_of_ble_eq_true rfl) ?_
  intro p e s m below meth c ls C hH hA hE hr htab hl
  have hl : lv_has ls 8 [(0, .ref (sd 0)), (1, .int a1), (2, .int a2), (3, .int a3), (4, .int a4), (5, .int a5), (6, .ref oa)] := hl
  refine x_sx C b_Law_body_0_11 hl (L' := [(0, .ref (sd 0)), (1, .int a1), (2, .int a2), (3, .int a3), (4, .int a4), (5, .int a5), (6, .ref oa)]) (st' := [.int a5, .int a4, .int a3, .int a2, .int a1, .ref (sd 0), .int 0, .ref oa]) rfl (fun ls hl => ?_)
  refine t_V C hH.1 ((rW_0 (Or.inl (by omega)) hn).trans sp_0) rfl (c_SP_body_2 l G rb n md rd sd ms fl mn sc ar b w0 a1 a2 a3 a4 a5 hfl hn hrb hv h3) t_362 t_1 t_359 t_360 t_361 hd_SP_body blind_Pro (pre_ro C hH.1 hH.2.2) (As := [.int a1, .int a2, .int a3, .int a4, .int a5]) (rest := [.int 0, .ref oa]) rfl hl.1 rfl rfl rfl ⟨(Nat.le_of_ble_eq_true rfl), (Nat.le_of_ble_eq_true rfl)⟩ (Nat.le_of_ble_eq_true rfl) ⟨(Nat.le_of_ble_eq_true rfl), (Nat.le_of_ble_eq_true rfl)⟩ d_Law_body_11 (fun xx st t hst hW hq => ?_)
  obtain ⟨ce, hH, hce, hob, hcl⟩ := hq.in hst hW hH
  refine t_catch2 C htab ⟨by decide, by decide⟩ ⟨by decide, by decide⟩ (by decide) (by decide) t_357 t_358 (fun c1 h => C.Z.2.2.2.2.2.2.2 _ _ hcl h) t_437 hcl hce hob ?_
  refine x_sx C b_Law_body_23_26 hl (L' := [(7, .ref xx), (0, .ref (sd 0)), (1, .int a1), (2, .int a2), (3, .int a3), (4, .int a4), (5, .int a5), (6, .ref oa)]) (st' := [.int 2]) rfl (fun ls hl => ?_)
  exact x_irt C hr hH.2.2 ⟨(), rfl, trivial, hH.1, hH.2.1⟩ (Nat.le_of_ble_eq_true rfl) (Nat.le_of_ble_eq_true rfl) d_Law_body_26
theorem hd_Law_body : hdP y_Law_body 7 := ⟨by decide +kernel, by decide +kernel, by decide +kernel⟩
theorem b_Law_start_0_4 : decs method_4_code [(.aload_n 0, 1), (.iload_n 1, 1), (.iload_n 2, 1), (.iload_n 3, 1)] 0 4 = true := by decide +kernel
theorem d_Law_start_4 : decode method_4_code 4 = .ok (.invokevirtual 17, 3) := by decide +kernel
theorem d_Law_start_7 : decode method_4_code 7 = .ok (.goto 7, 3) := by decide +kernel
theorem b_Law_start_14_15 : decs method_4_code [(.iconst 0, 1)] 14 15 = true := by decide +kernel
theorem d_Law_start_15 : decode method_4_code 15 = .ok (.ireturn, 1) := by decide +kernel
set_option maxRecDepth 100000 in
set_option maxHeartbeats 4000000 in
theorem c_Law_start (l : Launch) (G : GG) (A : Nat → Prop) (rb : Nat) (n : Nat) (md : Int32) (rd : Nat → Nat) (sd : Nat → Nat) (ms : Nat → Int32) (fl : Nat → Nat) (mn : Nat → Nat) (sc : Nat → Int32) (ar : Nat → Nat → Int32) (b : Bt) (w0 : WF) (np : Nat) (a1 : Int32) (a2 : Int32) (a3 : Int32) (hn : n ≤ 3) (hrb : 100 ≤ rb) (hrbE : rb = 100 ∨ rb = 200) (hw : ∀ m, 100 ≤ m → m < 300 → w0 m = none) (hv : p_in a1 (-1000) 1000 = 1 ∧ p_in a2 (-1000) 1000 = 1 ∧ p_in a3 0 63 = 1) (h1 : sc 1 = nI n) (h6 : sc 6 = nI np) (hnp : np ≤ 20) (hg : ∀ k, k < n → rgC (bgI (bgS (fStartS sc a1 a2 a3)) ar 3) k) : Met l y_Law_start (Cond.codeWith y_Law_start method_4_code 5 (some FieldType.int) [(0, 7, 10, 13)] :: wt) { frames := 11, cells := 14, slots := 300, locals := 290 } (Pre G A (cW G rb n md rd sd ms fl mn sc ar b w0) (fun _ => True) [.ref (sd 0), .int a1, .int a2, .int a3]) (Qx1 (X := (Nat → Nat) × Bt) A (fun _ => .int 0) (fun x _ => BR x.2 ((fBegin (fStartS sc a1 a2 a3, ar)).2 17)) G (fun x => (cW G (300 - rb) n (nI n) x.1 sd ms fl mn (fBegin (fStartS sc a1 a2 a3, ar)).1 (fBegin (fStartS sc a1 a2 a3, ar)).2 x.2 w0))) 14 300 A := by
  refine mtW_of (by decide) (Nat.le_of_ble_eq_true rfl) ?_
  intro p e s m below meth c ls C hH hA hE hr htab hl
  have hl : lv_has ls 5 [(0, .ref (sd 0)), (1, .int a1), (2, .int a2), (3, .int a3)] := hl
  refine x_sx C b_Law_start_0_4 hl (L' := [(0, .ref (sd 0)), (1, .int a1), (2, .int a2), (3, .int a3)]) (st' := [.int a3, .int a2, .int a1, .ref (sd 0)]) rfl (fun ls hl => ?_)
  refine x_q0 (x_cV C hH.1 ((rW_0 (Or.inl (by omega)) hn).trans sp_0) rfl (c_SP_start l G A rb n md rd sd ms fl mn sc ar b w0 np a1 a2 a3 hn hrb hrbE hw hv h1 h6 hnp hg) t_489 t_1 t_486 t_487 t_488 hd_SP_start blind_Pre (pre_mt C hH hA trivial) (As := [.int a1, .int a2, .int a3]) (rest := []) rfl hl.1 rfl rfl rfl ⟨Nat.le_of_ble_eq_true rfl, Nat.le_of_ble_eq_true rfl⟩ (Nat.le_of_ble_eq_true rfl) ⟨Nat.le_of_ble_eq_true rfl, Nat.le_of_ble_eq_true rfl⟩ d_Law_start_4) hH.2.2 (fun x H locs hx hH hz => ?_)
  refine x_goto (tgt := 14) C d_Law_start_7 (by decide) ?_
  refine x_sx C b_Law_start_14_15 hl (L' := [(0, .ref (sd 0)), (1, .int a1), (2, .int a2), (3, .int a3)]) (st' := [.int 0]) rfl (fun ls hl => ?_)
  exact x_irt C hr hH.2.2 ⟨x, rfl, hx, hH.1, hH.2.1⟩ (Nat.le_of_ble_eq_true rfl) (Nat.le_of_ble_eq_true rfl) d_Law_start_15
theorem b_Law_start_10_13 : decs method_4_code [(.astore 4, 2), (.iconst 1, 1)] 10 13 = true := by decide +kernel
theorem d_Law_start_13 : decode method_4_code 13 = .ok (.ireturn, 1) := by decide +kernel
set_option maxRecDepth 100000 in
set_option maxHeartbeats 4000000 in
theorem c_Law_start_1 (l : Launch) (G : GG) (A : Nat → Prop) (rb : Nat) (n : Nat) (md : Int32) (rd : Nat → Nat) (sd : Nat → Nat) (ms : Nat → Int32) (fl : Nat → Nat) (mn : Nat → Nat) (sc : Nat → Int32) (ar : Nat → Nat → Int32) (b : Bt) (w0 : WF) (a1 : Int32) (a2 : Int32) (a3 : Int32) (hfl : l.flags = pinnedFlags ++ [noTraceFlag]) (hn : n ≤ 3) (hrb : 100 ≤ rb) (hv : ¬ (p_in a1 (-1000) 1000 = 1 ∧ p_in a2 (-1000) 1000 = 1 ∧ p_in a3 0 63 = 1)) (hrbE : rb = 100 ∨ rb = 200) : Met l y_Law_start (Cond.codeWith y_Law_start method_4_code 5 (some FieldType.int) [(0, 7, 10, 13)] :: wt) { frames := 11, cells := 1, slots := 6, locals := 290 } (Pre G A (cW G rb n md rd sd ms fl mn sc ar b w0) (fun _ => True) [.ref (sd 0), .int a1, .int a2, .int a3]) (Qx1 (X := Unit) A (fun _ => .int 1) (fun _ _ => True) G (fun _ => (cW G rb n md rd sd ms fl mn sc ar b w0))) 1 6 A := by
  refine mtW_of (by decide) (Nat.le_of_ble_eq_true rfl) ?_
  intro p e s m below meth c ls C hH hA hE hr htab hl
  have hl : lv_has ls 5 [(0, .ref (sd 0)), (1, .int a1), (2, .int a2), (3, .int a3)] := hl
  refine x_sx C b_Law_start_0_4 hl (L' := [(0, .ref (sd 0)), (1, .int a1), (2, .int a2), (3, .int a3)]) (st' := [.int a3, .int a2, .int a1, .ref (sd 0)]) rfl (fun ls hl => ?_)
  refine t_V C hH.1 ((rW_0 (Or.inl (by omega)) hn).trans sp_0) rfl (c_SP_start_1 l G rb n md rd sd ms fl mn sc ar b w0 a1 a2 a3 hfl hn hrb hv) t_489 t_1 t_486 t_487 t_488 hd_SP_start blind_Pro (pre_ro C hH.1 hH.2.2) (As := [.int a1, .int a2, .int a3]) (rest := []) rfl hl.1 rfl rfl rfl ⟨(Nat.le_of_ble_eq_true rfl), (Nat.le_of_ble_eq_true rfl)⟩ (Nat.le_of_ble_eq_true rfl) ⟨(Nat.le_of_ble_eq_true rfl), (Nat.le_of_ble_eq_true rfl)⟩ d_Law_start_4 (fun xx st t hst hW hq => ?_)
  obtain ⟨ce, hH, hce, hob, hcl⟩ := hq.in hst hW hH
  refine t_catch1 C htab ⟨by decide, by decide⟩ (by decide) t_357 t_371 hcl hce hob ?_
  refine x_sx C b_Law_start_10_13 hl (L' := [(4, .ref xx), (0, .ref (sd 0)), (1, .int a1), (2, .int a2), (3, .int a3)]) (st' := [.int 1]) rfl (fun ls hl => ?_)
  exact x_irt C hr hH.2.2 ⟨(), rfl, trivial, hH.1, hH.2.1⟩ (Nat.le_of_ble_eq_true rfl) (Nat.le_of_ble_eq_true rfl) d_Law_start_13
theorem hd_Law_start : hdP y_Law_start 4 := ⟨by decide +kernel, by decide +kernel, by decide +kernel⟩
theorem b_Law_step_0_4 : decs method_5_code [(.aload_n 2, 1), (.iconst 0, 1), (.aload_n 0, 1), (.iload_n 1, 1)] 0 4 = true := by decide +kernel
theorem d_Law_step_4 : decode method_5_code 4 = .ok (.invokevirtual 21, 3) := by decide +kernel
theorem b_Law_step_7_8 : decs method_5_code [(.i2l, 1)] 7 8 = true := by decide +kernel
theorem d_Law_step_8 : decode method_5_code 8 = .ok (.lastore, 1) := by decide +kernel
theorem d_Law_step_9 : decode method_5_code 9 = .ok (.goto 6, 3) := by decide +kernel
theorem b_Law_step_15_16 : decs method_5_code [(.iconst 0, 1)] 15 16 = true := by decide +kernel
theorem d_Law_step_16 : decode method_5_code 16 = .ok (.ireturn, 1) := by decide +kernel
set_option maxRecDepth 100000 in
set_option maxHeartbeats 4000000 in
theorem c_Law_step (l : Launch) (G : GG) (A : Nat → Prop) (rb : Nat) (n : Nat) (md : Int32) (rd : Nat → Nat) (sd : Nat → Nat) (ms : Nat → Int32) (fl : Nat → Nat) (mn : Nat → Nat) (sc : Nat → Int32) (ar : Nat → Nat → Int32) (b : Bt) (w0 : WF) (np : Nat) (a1 : Int32) (hn : n ≤ 3) (hrb : 100 ≤ rb) (hrbE : rb = 100 ∨ rb = 200) (hw : ∀ m, 100 ≤ m → m < 300 → w0 m = none) (hv : p_in a1 1 20 = 1) (h1 : sc 1 = nI n) (h6 : sc 6 = nI np) (hnp : np ≤ 20) (hg : ∀ k, k < n → rgC (bgI (bgS (fStepS sc a1)) ar 3) k) (oa : Nat) (f0 : Nat → Int64) (ho : w0 500 = some (oa, .inl (G.2.1 2, 1, .inr (.inl f0)))) : Met l y_Law_step (Cond.codeWith y_Law_step method_5_code 4 (some FieldType.int) [(0, 9, 12, 13)] :: wt) { frames := 11, cells := 14, slots := 300, locals := 290 } (Pre G A (cW G rb n md rd sd ms fl mn sc ar b w0) (fun _ => True) [.ref (sd 0), .int a1, .ref oa]) (Qx1 (X := (Nat → Nat) × Bt) A (fun _ => .int 0) (fun x _ => BR x.2 ((fBegin (fStepS sc a1, ar)).2 17)) G (fun x => (cW G (300 - rb) n (nI n) x.1 sd ms fl mn (fBegin (fStepS sc a1, ar)).1 (fBegin (fStepS sc a1, ar)).2 x.2 (va_up w0 500 (some (oa, .inl (G.2.1 2, 1, .inr (.inl (vp_updL f0 0 (sc 5).toInt64))))))))) 14 300 A := by
  refine mtW_of (by decide) (Nat.le_of_ble_eq_true rfl) ?_
  intro p e s m below meth c ls C hH hA hE hr htab hl
  have hl : lv_has ls 4 [(0, .ref (sd 0)), (1, .int a1), (2, .ref oa)] := hl
  refine x_sx C b_Law_step_0_4 hl (L' := [(0, .ref (sd 0)), (1, .int a1), (2, .ref oa)]) (st' := [.int a1, .ref (sd 0), .int 0, .ref oa]) rfl (fun ls hl => ?_)
  refine x_q1 (x_cV C hH.1 ((rW_0 (Or.inl (by omega)) hn).trans sp_0) rfl (c_SP_step l G A rb n md rd sd ms fl mn sc ar b w0 np a1 hn hrb hrbE hw hv h1 h6 hnp hg) t_496 t_1 t_493 t_494 t_495 hd_SP_step blind_Pre (pre_mt C hH hA trivial) (As := [.int a1]) (rest := [.int 0, .ref oa]) rfl hl.1 rfl rfl rfl ⟨Nat.le_of_ble_eq_true rfl, Nat.le_of_ble_eq_true rfl⟩ (Nat.le_of_ble_eq_true rfl) ⟨Nat.le_of_ble_eq_true rfl, Nat.le_of_ble_eq_true rfl⟩ d_Law_step_4) hH.2.2 (fun x H locs hx hH hz => ?_)
  refine x_sx C b_Law_step_7_8 hl (L' := [(0, .ref (sd 0)), (1, .int a1), (2, .ref oa)]) (st' := [.long (sc 5).toInt64, .int 0, .ref oa]) rfl (fun ls hl => ?_)
  refine x_lst C hH 500 ((cW_hi (by decide) hn (by omega)).trans ho) (j := 0) rfl (by decide) (by decide) d_Law_step_8 (fun H locs hH => ?_)
  rw [cW_up (by decide) hn (by omega)] at hH
  refine x_goto (tgt := 15) C d_Law_step_9 (by decide) ?_
  refine x_sx C b_Law_step_15_16 hl (L' := [(0, .ref (sd 0)), (1, .int a1), (2, .ref oa)]) (st' := [.int 0]) rfl (fun ls hl => ?_)
  exact x_irt C hr hH.2.2 ⟨x, rfl, hx, hH.1, hH.2.1⟩ (Nat.le_of_ble_eq_true rfl) (Nat.le_of_ble_eq_true rfl) d_Law_step_16
theorem b_Law_step_12_14 : decs method_5_code [(.astore_n 3, 1), (.iconst 1, 1)] 12 14 = true := by decide +kernel
theorem d_Law_step_14 : decode method_5_code 14 = .ok (.ireturn, 1) := by decide +kernel
set_option maxRecDepth 100000 in
set_option maxHeartbeats 4000000 in
theorem c_Law_step_1 (l : Launch) (G : GG) (A : Nat → Prop) (rb : Nat) (n : Nat) (md : Int32) (rd : Nat → Nat) (sd : Nat → Nat) (ms : Nat → Int32) (fl : Nat → Nat) (mn : Nat → Nat) (sc : Nat → Int32) (ar : Nat → Nat → Int32) (b : Bt) (w0 : WF) (a1 : Int32) (hfl : l.flags = pinnedFlags ++ [noTraceFlag]) (hn : n ≤ 3) (hrb : 100 ≤ rb) (hv : ¬ (p_in a1 1 20 = 1)) (oa : Nat) (f0 : Nat → Int64) (hrbE : rb = 100 ∨ rb = 200) (ho : w0 500 = some (oa, .inl (G.2.1 2, 1, .inr (.inl f0)))) : Met l y_Law_step (Cond.codeWith y_Law_step method_5_code 4 (some FieldType.int) [(0, 9, 12, 13)] :: wt) { frames := 11, cells := 1, slots := 6, locals := 290 } (Pre G A (cW G rb n md rd sd ms fl mn sc ar b w0) (fun _ => True) [.ref (sd 0), .int a1, .ref oa]) (Qx1 (X := Unit) A (fun _ => .int 1) (fun _ _ => True) G (fun _ => (cW G rb n md rd sd ms fl mn sc ar b w0))) 1 6 A := by
  refine mtW_of (by decide) (Nat.le_of_ble_eq_true rfl) ?_
  intro p e s m below meth c ls C hH hA hE hr htab hl
  have hl : lv_has ls 4 [(0, .ref (sd 0)), (1, .int a1), (2, .ref oa)] := hl
  refine x_sx C b_Law_step_0_4 hl (L' := [(0, .ref (sd 0)), (1, .int a1), (2, .ref oa)]) (st' := [.int a1, .ref (sd 0), .int 0, .ref oa]) rfl (fun ls hl => ?_)
  refine t_V C hH.1 ((rW_0 (Or.inl (by omega)) hn).trans sp_0) rfl (c_SP_step_1 l G rb n md rd sd ms fl mn sc ar b w0 a1 hfl hn hrb hv) t_496 t_1 t_493 t_494 t_495 hd_SP_step blind_Pro (pre_ro C hH.1 hH.2.2) (As := [.int a1]) (rest := [.int 0, .ref oa]) rfl hl.1 rfl rfl rfl ⟨(Nat.le_of_ble_eq_true rfl), (Nat.le_of_ble_eq_true rfl)⟩ (Nat.le_of_ble_eq_true rfl) ⟨(Nat.le_of_ble_eq_true rfl), (Nat.le_of_ble_eq_true rfl)⟩ d_Law_step_4 (fun xx st t hst hW hq => ?_)
  obtain ⟨ce, hH, hce, hob, hcl⟩ := hq.in hst hW hH
  refine t_catch1 C htab ⟨by decide, by decide⟩ (by decide) t_357 t_371 hcl hce hob ?_
  refine x_sx C b_Law_step_12_14 hl (L' := [(3, .ref xx), (0, .ref (sd 0)), (1, .int a1), (2, .ref oa)]) (st' := [.int 1]) rfl (fun ls hl => ?_)
  exact x_irt C hr hH.2.2 ⟨(), rfl, trivial, hH.1, hH.2.1⟩ (Nat.le_of_ble_eq_true rfl) (Nat.le_of_ble_eq_true rfl) d_Law_step_14
theorem hd_Law_step : hdP y_Law_step 3 := ⟨by decide +kernel, by decide +kernel, by decide +kernel⟩
theorem b_Law_pole_0_5 : decs method_6_code [(.aload_n 3, 1), (.iconst 0, 1), (.aload_n 0, 1), (.iload_n 1, 1), (.iload_n 2, 1)] 0 5 = true := by decide +kernel
theorem d_Law_pole_5 : decode method_6_code 5 = .ok (.invokevirtual 25, 3) := by decide +kernel
theorem b_Law_pole_8_9 : decs method_6_code [(.i2l, 1)] 8 9 = true := by decide +kernel
theorem d_Law_pole_9 : decode method_6_code 9 = .ok (.lastore, 1) := by decide +kernel
theorem d_Law_pole_10 : decode method_6_code 10 = .ok (.goto 11, 3) := by decide +kernel
theorem b_Law_pole_21_22 : decs method_6_code [(.iconst 0, 1)] 21 22 = true := by decide +kernel
theorem d_Law_pole_22 : decode method_6_code 22 = .ok (.ireturn, 1) := by decide +kernel
set_option maxRecDepth 100000 in
set_option maxHeartbeats 4000000 in
theorem c_Law_pole (l : Launch) (G : GG) (A : Nat → Prop) (rb : Nat) (n : Nat) (md : Int32) (rd : Nat → Nat) (sd : Nat → Nat) (ms : Nat → Int32) (fl : Nat → Nat) (mn : Nat → Nat) (sc : Nat → Int32) (ar : Nat → Nat → Int32) (b : Bt) (w0 : WF) (np : Nat) (a1 : Int32) (a2 : Int32) (hn : n ≤ 3) (hrb : 100 ≤ rb) (hv : p_in a1 (-1000) 1000 = 1 ∧ p_in a2 (-1000) 1000 = 1) (h6 : sc 6 = nI np) (hnp : np < 20) (oa : Nat) (f0 : Nat → Int64) (hrbE : rb = 100 ∨ rb = 200) (ho : w0 500 = some (oa, .inl (G.2.1 2, 1, .inr (.inl f0)))) : Met l y_Law_pole (Cond.codeWith y_Law_pole method_6_code 5 (some FieldType.int) [(0, 10, 13, 13), (0, 10, 17, 15)] :: wt) { frames := 11, cells := 0, slots := 0, locals := 290 } (Pre G A (cW G rb n md rd sd ms fl mn sc ar b w0) (fun _ => True) [.ref (sd 0), .int a1, .int a2, .ref oa]) (Qx1 (X := Unit) A (fun _ => .int 0) (fun _ _ => True) G (fun _ => (cW G rb n md rd sd ms fl mn (fPoleS sc) (fPoleA ar np a1 a2) b (va_up w0 500 (some (oa, .inl (G.2.1 2, 1, .inr (.inl (vp_updL f0 0 (nI np).toInt64))))))))) 0 0 A := by
  refine mtW_of (by decide) (Nat.le_of_ble_eq_true rfl) ?_
  intro p e s m below meth c ls C hH hA hE hr htab hl
  have hl : lv_has ls 5 [(0, .ref (sd 0)), (1, .int a1), (2, .int a2), (3, .ref oa)] := hl
  refine x_sx C b_Law_pole_0_5 hl (L' := [(0, .ref (sd 0)), (1, .int a1), (2, .int a2), (3, .ref oa)]) (st' := [.int a2, .int a1, .ref (sd 0), .int 0, .ref oa]) rfl (fun ls hl => ?_)
  refine x_q1 (x_cV C hH.1 ((rW_0 (Or.inl (by omega)) hn).trans sp_0) rfl (c_SP_pole l G A rb n md rd sd ms fl mn sc ar b w0 np a1 a2 hn hrb hv h6 hnp) t_503 t_1 t_500 t_501 t_502 hd_SP_pole blind_Pre (pre_mt C hH hA trivial) (As := [.int a1, .int a2]) (rest := [.int 0, .ref oa]) rfl hl.1 rfl rfl rfl ⟨Nat.le_of_ble_eq_true rfl, Nat.le_of_ble_eq_true rfl⟩ (Nat.le_of_ble_eq_true rfl) ⟨Nat.le_of_ble_eq_true rfl, Nat.le_of_ble_eq_true rfl⟩ d_Law_pole_5) hH.2.2 (fun x H locs hx hH hz => ?_)
  refine x_sx C b_Law_pole_8_9 hl (L' := [(0, .ref (sd 0)), (1, .int a1), (2, .int a2), (3, .ref oa)]) (st' := [.long (nI np).toInt64, .int 0, .ref oa]) rfl (fun ls hl => ?_)
  refine x_lst C hH 500 ((cW_hi (by decide) hn (by omega)).trans ho) (j := 0) rfl (by decide) (by decide) d_Law_pole_9 (fun H locs hH => ?_)
  rw [cW_up (by decide) hn (by omega)] at hH
  refine x_goto (tgt := 21) C d_Law_pole_10 (by decide) ?_
  refine x_sx C b_Law_pole_21_22 hl (L' := [(0, .ref (sd 0)), (1, .int a1), (2, .int a2), (3, .ref oa)]) (st' := [.int 0]) rfl (fun ls hl => ?_)
  exact x_irt C hr hH.2.2 ⟨x, rfl, hx, hH.1, hH.2.1⟩ (Nat.le_of_ble_eq_true rfl) (Nat.le_of_ble_eq_true rfl) d_Law_pole_22
theorem b_Law_pole_13_16 : decs method_6_code [(.astore 4, 2), (.iconst 1, 1)] 13 16 = true := by decide +kernel
theorem d_Law_pole_16 : decode method_6_code 16 = .ok (.ireturn, 1) := by decide +kernel
set_option maxRecDepth 100000 in
set_option maxHeartbeats 4000000 in
theorem c_Law_pole_1 (l : Launch) (G : GG) (A : Nat → Prop) (rb : Nat) (n : Nat) (md : Int32) (rd : Nat → Nat) (sd : Nat → Nat) (ms : Nat → Int32) (fl : Nat → Nat) (mn : Nat → Nat) (sc : Nat → Int32) (ar : Nat → Nat → Int32) (b : Bt) (w0 : WF) (a1 : Int32) (a2 : Int32) (hfl : l.flags = pinnedFlags ++ [noTraceFlag]) (hn : n ≤ 3) (hrb : 100 ≤ rb) (hv : ¬ (p_in a1 (-1000) 1000 = 1 ∧ p_in a2 (-1000) 1000 = 1)) (oa : Nat) (f0 : Nat → Int64) (hrbE : rb = 100 ∨ rb = 200) (ho : w0 500 = some (oa, .inl (G.2.1 2, 1, .inr (.inl f0)))) : Met l y_Law_pole (Cond.codeWith y_Law_pole method_6_code 5 (some FieldType.int) [(0, 10, 13, 13), (0, 10, 17, 15)] :: wt) { frames := 11, cells := 1, slots := 6, locals := 290 } (Pre G A (cW G rb n md rd sd ms fl mn sc ar b w0) (fun _ => True) [.ref (sd 0), .int a1, .int a2, .ref oa]) (Qx1 (X := Unit) A (fun _ => .int 1) (fun _ _ => True) G (fun _ => (cW G rb n md rd sd ms fl mn sc ar b w0))) 1 6 A := by
  refine mtW_of (by decide) (Nat.le_of_ble_eq_true rfl) ?_
  intro p e s m below meth c ls C hH hA hE hr htab hl
  have hl : lv_has ls 5 [(0, .ref (sd 0)), (1, .int a1), (2, .int a2), (3, .ref oa)] := hl
  refine x_sx C b_Law_pole_0_5 hl (L' := [(0, .ref (sd 0)), (1, .int a1), (2, .int a2), (3, .ref oa)]) (st' := [.int a2, .int a1, .ref (sd 0), .int 0, .ref oa]) rfl (fun ls hl => ?_)
  refine t_V C hH.1 ((rW_0 (Or.inl (by omega)) hn).trans sp_0) rfl (c_SP_pole_1 l G rb n md rd sd ms fl mn sc ar b w0 a1 a2 hfl hn hrb hv) t_503 t_1 t_500 t_501 t_502 hd_SP_pole blind_Pro (pre_ro C hH.1 hH.2.2) (As := [.int a1, .int a2]) (rest := [.int 0, .ref oa]) rfl hl.1 rfl rfl rfl ⟨(Nat.le_of_ble_eq_true rfl), (Nat.le_of_ble_eq_true rfl)⟩ (Nat.le_of_ble_eq_true rfl) ⟨(Nat.le_of_ble_eq_true rfl), (Nat.le_of_ble_eq_true rfl)⟩ d_Law_pole_5 (fun xx st t hst hW hq => ?_)
  obtain ⟨ce, hH, hce, hob, hcl⟩ := hq.in hst hW hH
  refine t_catch1 C htab ⟨by decide, by decide⟩ (by decide) t_357 t_371 hcl hce hob ?_
  refine x_sx C b_Law_pole_13_16 hl (L' := [(4, .ref xx), (0, .ref (sd 0)), (1, .int a1), (2, .int a2), (3, .ref oa)]) (st' := [.int 1]) rfl (fun ls hl => ?_)
  exact x_irt C hr hH.2.2 ⟨(), rfl, trivial, hH.1, hH.2.1⟩ (Nat.le_of_ble_eq_true rfl) (Nat.le_of_ble_eq_true rfl) d_Law_pole_16
theorem b_Law_pole_17_20 : decs method_6_code [(.astore 4, 2), (.iconst 2, 1)] 17 20 = true := by decide +kernel
theorem d_Law_pole_20 : decode method_6_code 20 = .ok (.ireturn, 1) := by decide +kernel
set_option maxRecDepth 100000 in
set_option maxHeartbeats 4000000 in
theorem c_Law_pole_2 (l : Launch) (G : GG) (A : Nat → Prop) (rb : Nat) (n : Nat) (md : Int32) (rd : Nat → Nat) (sd : Nat → Nat) (ms : Nat → Int32) (fl : Nat → Nat) (mn : Nat → Nat) (sc : Nat → Int32) (ar : Nat → Nat → Int32) (b : Bt) (w0 : WF) (a1 : Int32) (a2 : Int32) (hfl : l.flags = pinnedFlags ++ [noTraceFlag]) (hn : n ≤ 3) (hrb : 100 ≤ rb) (hv : p_in a1 (-1000) 1000 = 1 ∧ p_in a2 (-1000) 1000 = 1) (h6 : sc 6 = 20) (oa : Nat) (f0 : Nat → Int64) (hrbE : rb = 100 ∨ rb = 200) (ho : w0 500 = some (oa, .inl (G.2.1 2, 1, .inr (.inl f0)))) : Met l y_Law_pole (Cond.codeWith y_Law_pole method_6_code 5 (some FieldType.int) [(0, 10, 13, 13), (0, 10, 17, 15)] :: wt) { frames := 11, cells := 1, slots := 6, locals := 290 } (Pre G A (cW G rb n md rd sd ms fl mn sc ar b w0) (fun _ => True) [.ref (sd 0), .int a1, .int a2, .ref oa]) (Qx1 (X := Unit) A (fun _ => .int 2) (fun _ _ => True) G (fun _ => (cW G rb n md rd sd ms fl mn sc ar b w0))) 1 6 A := by
  refine mtW_of (by decide) (Nat.le_of_ble_eq_true rfl) ?_
  intro p e s m below meth c ls C hH hA hE hr htab hl
  have hl : lv_has ls 5 [(0, .ref (sd 0)), (1, .int a1), (2, .int a2), (3, .ref oa)] := hl
  refine x_sx C b_Law_pole_0_5 hl (L' := [(0, .ref (sd 0)), (1, .int a1), (2, .int a2), (3, .ref oa)]) (st' := [.int a2, .int a1, .ref (sd 0), .int 0, .ref oa]) rfl (fun ls hl => ?_)
  refine t_V C hH.1 ((rW_0 (Or.inl (by omega)) hn).trans sp_0) rfl (c_SP_pole_2 l G rb n md rd sd ms fl mn sc ar b w0 a1 a2 hfl hn hrb hv h6) t_503 t_1 t_500 t_501 t_502 hd_SP_pole blind_Pro (pre_ro C hH.1 hH.2.2) (As := [.int a1, .int a2]) (rest := [.int 0, .ref oa]) rfl hl.1 rfl rfl rfl ⟨(Nat.le_of_ble_eq_true rfl), (Nat.le_of_ble_eq_true rfl)⟩ (Nat.le_of_ble_eq_true rfl) ⟨(Nat.le_of_ble_eq_true rfl), (Nat.le_of_ble_eq_true rfl)⟩ d_Law_pole_5 (fun xx st t hst hW hq => ?_)
  obtain ⟨ce, hH, hce, hob, hcl⟩ := hq.in hst hW hH
  refine t_catch2 C htab ⟨by decide, by decide⟩ ⟨by decide, by decide⟩ (by decide) (by decide) t_357 t_358 (fun c1 h => C.Z.2.2.2.2.2.2.2 _ _ hcl h) t_437 hcl hce hob ?_
  refine x_sx C b_Law_pole_17_20 hl (L' := [(4, .ref xx), (0, .ref (sd 0)), (1, .int a1), (2, .int a2), (3, .ref oa)]) (st' := [.int 2]) rfl (fun ls hl => ?_)
  exact x_irt C hr hH.2.2 ⟨(), rfl, trivial, hH.1, hH.2.1⟩ (Nat.le_of_ble_eq_true rfl) (Nat.le_of_ble_eq_true rfl) d_Law_pole_20
theorem hd_Law_pole : hdP y_Law_pole 4 := ⟨by decide +kernel, by decide +kernel, by decide +kernel⟩
theorem b_Law_go_0_7 : decs method_7_code [(.aload 4, 2), (.iconst 0, 1), (.aload_n 0, 1), (.iload_n 1, 1), (.iload_n 2, 1), (.iload_n 3, 1)] 0 7 = true := by decide +kernel
theorem d_Law_go_7 : decode method_7_code 7 = .ok (.invokevirtual 29, 3) := by decide +kernel
theorem b_Law_go_10_11 : decs method_7_code [(.i2l, 1)] 10 11 = true := by decide +kernel
theorem d_Law_go_11 : decode method_7_code 11 = .ok (.lastore, 1) := by decide +kernel
theorem d_Law_go_12 : decode method_7_code 12 = .ok (.goto 11, 3) := by decide +kernel
theorem b_Law_go_23_24 : decs method_7_code [(.iconst 0, 1)] 23 24 = true := by decide +kernel
theorem d_Law_go_24 : decode method_7_code 24 = .ok (.ireturn, 1) := by decide +kernel
set_option maxRecDepth 100000 in
set_option maxHeartbeats 4000000 in
theorem c_Law_go (l : Launch) (G : GG) (A : Nat → Prop) (rb : Nat) (n : Nat) (md : Int32) (rd : Nat → Nat) (sd : Nat → Nat) (ms : Nat → Int32) (fl : Nat → Nat) (mn : Nat → Nat) (sc : Nat → Int32) (ar : Nat → Nat → Int32) (b : Bt) (w0 : WF) (np : Nat) (N : Nat) (a1 : Int32) (fw : Int32) (K : SA → Prop) (hn : n ≤ 3) (hrb : 100 ≤ rb) (hn0 : 0 < n) (hN : N < 2 ^ 31) (hv : p_in a1 (-3) 3 = 1 ∧ p_in (nI N) 1 200 = 1) (hB : BR b (ar 17)) (hK : Kc n np K) (hk0 : K (sc, ar)) (oa : Nat) (f0 : Nat → Int64) (hrbE : rb = 100 ∨ rb = 200) (ho : w0 500 = some (oa, .inl (G.2.1 2, 1, .inr (.inl f0)))) : Met l y_Law_go (Cond.codeWith y_Law_go method_7_code 6 (some FieldType.int) [(0, 12, 15, 13), (0, 12, 19, 15)] :: wt) { frames := 11, cells := 6, slots := 256, locals := 290 } (Pre G A (cW G rb n md rd sd ms fl mn sc ar b w0) (fun _ => True) [.ref (sd 0), .int a1, .int (nI N), .int fw, .ref oa]) (Qx1 (X := Bt) A (fun _ => .int 0) (fun x _ => BR x ((goI (sc, ar) a1 fw N).2 17)) G (fun x => (cW G rb n md rd sd ms fl mn (goI (sc, ar) a1 fw N).1 (goI (sc, ar) a1 fw N).2 x (va_up w0 500 (some (oa, .inl (G.2.1 2, 1, .inr (.inl (vp_updL f0 0 ((goI (sc, ar) a1 fw N).1 7).toInt64))))))))) 6 256 A := by
  refine mtW_of (by decide) (Nat.le_of_ble_eq_true rfl) ?_
  intro p e s m below meth c ls C hH hA hE hr htab hl
  have hl : lv_has ls 6 [(0, .ref (sd 0)), (1, .int a1), (2, .int (nI N)), (3, .int fw), (4, .ref oa)] := hl
  refine x_sx C b_Law_go_0_7 hl (L' := [(0, .ref (sd 0)), (1, .int a1), (2, .int (nI N)), (3, .int fw), (4, .ref oa)]) (st' := [.int fw, .int (nI N), .int a1, .ref (sd 0), .int 0, .ref oa]) rfl (fun ls hl => ?_)
  refine x_q1 (x_cV C hH.1 ((rW_0 (Or.inl (by omega)) hn).trans sp_0) rfl (c_SP_go l G A rb n md rd sd ms fl mn sc ar b w0 np N a1 fw K hn hrb hn0 hN hv hB hK hk0) t_510 t_1 t_507 t_508 t_509 hd_SP_go blind_Pre (pre_mt C hH hA trivial) (As := [.int a1, .int (nI N), .int fw]) (rest := [.int 0, .ref oa]) rfl hl.1 rfl rfl rfl ⟨Nat.le_of_ble_eq_true rfl, Nat.le_of_ble_eq_true rfl⟩ (Nat.le_of_ble_eq_true rfl) ⟨Nat.le_of_ble_eq_true rfl, Nat.le_of_ble_eq_true rfl⟩ d_Law_go_7) hH.2.2 (fun x H locs hx hH hz => ?_)
  refine x_sx C b_Law_go_10_11 hl (L' := [(0, .ref (sd 0)), (1, .int a1), (2, .int (nI N)), (3, .int fw), (4, .ref oa)]) (st' := [.long ((goI (sc, ar) a1 fw N).1 7).toInt64, .int 0, .ref oa]) rfl (fun ls hl => ?_)
  refine x_lst C hH 500 ((cW_hi (by decide) hn (by omega)).trans ho) (j := 0) rfl (by decide) (by decide) d_Law_go_11 (fun H locs hH => ?_)
  rw [cW_up (by decide) hn (by omega)] at hH
  refine x_goto (tgt := 23) C d_Law_go_12 (by decide) ?_
  refine x_sx C b_Law_go_23_24 hl (L' := [(0, .ref (sd 0)), (1, .int a1), (2, .int (nI N)), (3, .int fw), (4, .ref oa)]) (st' := [.int 0]) rfl (fun ls hl => ?_)
  exact x_irt C hr hH.2.2 ⟨x, rfl, hx, hH.1, hH.2.1⟩ (Nat.le_of_ble_eq_true rfl) (Nat.le_of_ble_eq_true rfl) d_Law_go_24
theorem b_Law_go_15_18 : decs method_7_code [(.astore 5, 2), (.iconst 1, 1)] 15 18 = true := by decide +kernel
theorem d_Law_go_18 : decode method_7_code 18 = .ok (.ireturn, 1) := by decide +kernel
set_option maxRecDepth 100000 in
set_option maxHeartbeats 4000000 in
theorem c_Law_go_1 (l : Launch) (G : GG) (A : Nat → Prop) (rb : Nat) (n : Nat) (md : Int32) (rd : Nat → Nat) (sd : Nat → Nat) (ms : Nat → Int32) (fl : Nat → Nat) (mn : Nat → Nat) (sc : Nat → Int32) (ar : Nat → Nat → Int32) (b : Bt) (w0 : WF) (a1 : Int32) (a2 : Int32) (fw : Int32) (hfl : l.flags = pinnedFlags ++ [noTraceFlag]) (hn : n ≤ 3) (hrb : 100 ≤ rb) (hv : ¬ (p_in a1 (-3) 3 = 1 ∧ p_in a2 1 200 = 1)) (oa : Nat) (f0 : Nat → Int64) (hrbE : rb = 100 ∨ rb = 200) (ho : w0 500 = some (oa, .inl (G.2.1 2, 1, .inr (.inl f0)))) : Met l y_Law_go (Cond.codeWith y_Law_go method_7_code 6 (some FieldType.int) [(0, 12, 15, 13), (0, 12, 19, 15)] :: wt) { frames := 11, cells := 1, slots := 6, locals := 290 } (Pre G A (cW G rb n md rd sd ms fl mn sc ar b w0) (fun _ => True) [.ref (sd 0), .int a1, .int a2, .int fw, .ref oa]) (Qx1 (X := Unit) A (fun _ => .int 1) (fun _ _ => True) G (fun _ => (cW G rb n md rd sd ms fl mn sc ar b w0))) 1 6 A := by
  refine mtW_of (by decide) (Nat.le_of_ble_eq_true rfl) ?_
  intro p e s m below meth c ls C hH hA hE hr htab hl
  have hl : lv_has ls 6 [(0, .ref (sd 0)), (1, .int a1), (2, .int a2), (3, .int fw), (4, .ref oa)] := hl
  refine x_sx C b_Law_go_0_7 hl (L' := [(0, .ref (sd 0)), (1, .int a1), (2, .int a2), (3, .int fw), (4, .ref oa)]) (st' := [.int fw, .int a2, .int a1, .ref (sd 0), .int 0, .ref oa]) rfl (fun ls hl => ?_)
  refine t_V C hH.1 ((rW_0 (Or.inl (by omega)) hn).trans sp_0) rfl (c_SP_go_1 l G rb n md rd sd ms fl mn sc ar b w0 a1 a2 fw hfl hn hrb hv) t_510 t_1 t_507 t_508 t_509 hd_SP_go blind_Pro (pre_ro C hH.1 hH.2.2) (As := [.int a1, .int a2, .int fw]) (rest := [.int 0, .ref oa]) rfl hl.1 rfl rfl rfl ⟨(Nat.le_of_ble_eq_true rfl), (Nat.le_of_ble_eq_true rfl)⟩ (Nat.le_of_ble_eq_true rfl) ⟨(Nat.le_of_ble_eq_true rfl), (Nat.le_of_ble_eq_true rfl)⟩ d_Law_go_7 (fun xx st t hst hW hq => ?_)
  obtain ⟨ce, hH, hce, hob, hcl⟩ := hq.in hst hW hH
  refine t_catch1 C htab ⟨by decide, by decide⟩ (by decide) t_357 t_371 hcl hce hob ?_
  refine x_sx C b_Law_go_15_18 hl (L' := [(5, .ref xx), (0, .ref (sd 0)), (1, .int a1), (2, .int a2), (3, .int fw), (4, .ref oa)]) (st' := [.int 1]) rfl (fun ls hl => ?_)
  exact x_irt C hr hH.2.2 ⟨(), rfl, trivial, hH.1, hH.2.1⟩ (Nat.le_of_ble_eq_true rfl) (Nat.le_of_ble_eq_true rfl) d_Law_go_18
theorem b_Law_go_19_22 : decs method_7_code [(.astore 5, 2), (.iconst 2, 1)] 19 22 = true := by decide +kernel
theorem d_Law_go_22 : decode method_7_code 22 = .ok (.ireturn, 1) := by decide +kernel
set_option maxRecDepth 100000 in
set_option maxHeartbeats 4000000 in
theorem c_Law_go_2 (l : Launch) (G : GG) (A : Nat → Prop) (rb : Nat) (n : Nat) (md : Int32) (rd : Nat → Nat) (sd : Nat → Nat) (ms : Nat → Int32) (fl : Nat → Nat) (mn : Nat → Nat) (sc : Nat → Int32) (ar : Nat → Nat → Int32) (b : Bt) (w0 : WF) (a1 : Int32) (a2 : Int32) (fw : Int32) (hfl : l.flags = pinnedFlags ++ [noTraceFlag]) (hn : n ≤ 3) (hrb : 100 ≤ rb) (hv : p_in a1 (-3) 3 = 1 ∧ p_in a2 1 200 = 1) (h0 : n = 0) (oa : Nat) (f0 : Nat → Int64) (hrbE : rb = 100 ∨ rb = 200) (ho : w0 500 = some (oa, .inl (G.2.1 2, 1, .inr (.inl f0)))) : Met l y_Law_go (Cond.codeWith y_Law_go method_7_code 6 (some FieldType.int) [(0, 12, 15, 13), (0, 12, 19, 15)] :: wt) { frames := 11, cells := 1, slots := 6, locals := 290 } (Pre G A (cW G rb n md rd sd ms fl mn sc ar b w0) (fun _ => True) [.ref (sd 0), .int a1, .int a2, .int fw, .ref oa]) (Qx1 (X := Unit) A (fun _ => .int 2) (fun _ _ => True) G (fun _ => (cW G rb n md rd sd ms fl mn sc ar b w0))) 1 6 A := by
  refine mtW_of (by decide) (Nat.le_of_ble_eq_true rfl) ?_
  intro p e s m below meth c ls C hH hA hE hr htab hl
  have hl : lv_has ls 6 [(0, .ref (sd 0)), (1, .int a1), (2, .int a2), (3, .int fw), (4, .ref oa)] := hl
  refine x_sx C b_Law_go_0_7 hl (L' := [(0, .ref (sd 0)), (1, .int a1), (2, .int a2), (3, .int fw), (4, .ref oa)]) (st' := [.int fw, .int a2, .int a1, .ref (sd 0), .int 0, .ref oa]) rfl (fun ls hl => ?_)
  refine t_V C hH.1 ((rW_0 (Or.inl (by omega)) hn).trans sp_0) rfl (c_SP_go_2 l G rb n md rd sd ms fl mn sc ar b w0 a1 a2 fw hfl hn hrb hv h0) t_510 t_1 t_507 t_508 t_509 hd_SP_go blind_Pro (pre_ro C hH.1 hH.2.2) (As := [.int a1, .int a2, .int fw]) (rest := [.int 0, .ref oa]) rfl hl.1 rfl rfl rfl ⟨(Nat.le_of_ble_eq_true rfl), (Nat.le_of_ble_eq_true rfl)⟩ (Nat.le_of_ble_eq_true rfl) ⟨(Nat.le_of_ble_eq_true rfl), (Nat.le_of_ble_eq_true rfl)⟩ d_Law_go_7 (fun xx st t hst hW hq => ?_)
  obtain ⟨ce, hH, hce, hob, hcl⟩ := hq.in hst hW hH
  refine t_catch2 C htab ⟨by decide, by decide⟩ ⟨by decide, by decide⟩ (by decide) (by decide) t_357 t_358 (fun c1 h => C.Z.2.2.2.2.2.2.2 _ _ hcl h) t_437 hcl hce hob ?_
  refine x_sx C b_Law_go_19_22 hl (L' := [(5, .ref xx), (0, .ref (sd 0)), (1, .int a1), (2, .int a2), (3, .int fw), (4, .ref oa)]) (st' := [.int 2]) rfl (fun ls hl => ?_)
  exact x_irt C hr hH.2.2 ⟨(), rfl, trivial, hH.1, hH.2.1⟩ (Nat.le_of_ble_eq_true rfl) (Nat.le_of_ble_eq_true rfl) d_Law_go_22
theorem hd_Law_go : hdP y_Law_go 5 := ⟨by decide +kernel, by decide +kernel, by decide +kernel⟩
theorem b_Law_told_0_5 : decs method_8_code [(.aload_n 3, 1), (.iconst 0, 1), (.aload_n 0, 1), (.iload_n 1, 1), (.iload_n 2, 1)] 0 5 = true := by decide +kernel
theorem d_Law_told_5 : decode method_8_code 5 = .ok (.invokevirtual 33, 3) := by decide +kernel
theorem b_Law_told_8_9 : decs method_8_code [(.i2l, 1)] 8 9 = true := by decide +kernel
theorem d_Law_told_9 : decode method_8_code 9 = .ok (.lastore, 1) := by decide +kernel
theorem d_Law_told_10 : decode method_8_code 10 = .ok (.goto 7, 3) := by decide +kernel
theorem b_Law_told_17_18 : decs method_8_code [(.iconst 0, 1)] 17 18 = true := by decide +kernel
theorem d_Law_told_18 : decode method_8_code 18 = .ok (.ireturn, 1) := by decide +kernel
set_option maxRecDepth 100000 in
set_option maxHeartbeats 4000000 in
theorem c_Law_told (l : Launch) (G : GG) (A : Nat → Prop) (rb : Nat) (n : Nat) (md : Int32) (rd : Nat → Nat) (sd : Nat → Nat) (ms : Nat → Int32) (fl : Nat → Nat) (mn : Nat → Nat) (sc : Nat → Int32) (ar : Nat → Nat → Int32) (b : Bt) (w0 : WF) (k : Nat) (a2 : Int32) (hn : n ≤ 3) (hrb : 100 ≤ rb) (hk : k < n) (hv : p_in a2 0 4 = 1) (oa : Nat) (f0 : Nat → Int64) (hrbE : rb = 100 ∨ rb = 200) (ho : w0 500 = some (oa, .inl (G.2.1 2, 1, .inr (.inl f0)))) : Met l y_Law_told (Cond.codeWith y_Law_told method_8_code 5 (some FieldType.int) [(0, 10, 13, 13)] :: wt) { frames := 11, cells := 0, slots := 0, locals := 290 } (Pre G A (cW G rb n md rd sd ms fl mn sc ar b w0) (fun _ => True) [.ref (sd 0), .int (nI k), .int a2, .ref oa]) (Qx1 (X := Unit) A (fun _ => .int 0) (fun _ _ => True) G (fun _ => (cW G rb n md rd sd ms fl mn sc ar b (va_up w0 500 (some (oa, .inl (G.2.1 2, 1, .inr (.inl (vp_updL f0 0 (fTold ar k a2).toInt64))))))))) 0 0 A := by
  refine mtW_of (by decide) (Nat.le_of_ble_eq_true rfl) ?_
  intro p e s m below meth c ls C hH hA hE hr htab hl
  have hl : lv_has ls 5 [(0, .ref (sd 0)), (1, .int (nI k)), (2, .int a2), (3, .ref oa)] := hl
  refine x_sx C b_Law_told_0_5 hl (L' := [(0, .ref (sd 0)), (1, .int (nI k)), (2, .int a2), (3, .ref oa)]) (st' := [.int a2, .int (nI k), .ref (sd 0), .int 0, .ref oa]) rfl (fun ls hl => ?_)
  refine x_ro (x_cV C hH.1 ((rW_0 (Or.inl (by omega)) hn).trans sp_0) rfl (c_SP_told l G rb n md rd sd ms fl mn sc ar b w0 k a2 hn hrb hk hv) t_543 t_1 t_540 t_541 t_542 hd_SP_told blind_Pro (pre_ro C hH.1 hH.2.2) (As := [.int (nI k), .int a2]) (rest := [.int 0, .ref oa]) rfl hl.1 rfl rfl rfl ⟨Nat.le_of_ble_eq_true rfl, Nat.le_of_ble_eq_true rfl⟩ (Nat.le_of_ble_eq_true rfl) ⟨Nat.le_of_ble_eq_true rfl, Nat.le_of_ble_eq_true rfl⟩ d_Law_told_5) ?_
  refine x_sx C b_Law_told_8_9 hl (L' := [(0, .ref (sd 0)), (1, .int (nI k)), (2, .int a2), (3, .ref oa)]) (st' := [.long (fTold ar k a2).toInt64, .int 0, .ref oa]) rfl (fun ls hl => ?_)
  refine x_lst C hH 500 ((cW_hi (by decide) hn (by omega)).trans ho) (j := 0) rfl (by decide) (by decide) d_Law_told_9 (fun H locs hH => ?_)
  rw [cW_up (by decide) hn (by omega)] at hH
  refine x_goto (tgt := 17) C d_Law_told_10 (by decide) ?_
  refine x_sx C b_Law_told_17_18 hl (L' := [(0, .ref (sd 0)), (1, .int (nI k)), (2, .int a2), (3, .ref oa)]) (st' := [.int 0]) rfl (fun ls hl => ?_)
  exact x_irt C hr hH.2.2 ⟨(), rfl, trivial, hH.1, hH.2.1⟩ (Nat.le_of_ble_eq_true rfl) (Nat.le_of_ble_eq_true rfl) d_Law_told_18
theorem b_Law_told_13_16 : decs method_8_code [(.astore 4, 2), (.iconst 1, 1)] 13 16 = true := by decide +kernel
theorem d_Law_told_16 : decode method_8_code 16 = .ok (.ireturn, 1) := by decide +kernel
set_option maxRecDepth 100000 in
set_option maxHeartbeats 4000000 in
theorem c_Law_told_1 (l : Launch) (G : GG) (A : Nat → Prop) (rb : Nat) (n : Nat) (md : Int32) (rd : Nat → Nat) (sd : Nat → Nat) (ms : Nat → Int32) (fl : Nat → Nat) (mn : Nat → Nat) (sc : Nat → Int32) (ar : Nat → Nat → Int32) (b : Bt) (w0 : WF) (a1 : Int32) (a2 : Int32) (hfl : l.flags = pinnedFlags ++ [noTraceFlag]) (hn : n ≤ 3) (hrb : 100 ≤ rb) (hv : ¬ (p_in a1 0 (nI n - 1) = 1 ∧ p_in a2 0 4 = 1)) (oa : Nat) (f0 : Nat → Int64) (hrbE : rb = 100 ∨ rb = 200) (ho : w0 500 = some (oa, .inl (G.2.1 2, 1, .inr (.inl f0)))) : Met l y_Law_told (Cond.codeWith y_Law_told method_8_code 5 (some FieldType.int) [(0, 10, 13, 13)] :: wt) { frames := 11, cells := 1, slots := 6, locals := 290 } (Pre G A (cW G rb n md rd sd ms fl mn sc ar b w0) (fun _ => True) [.ref (sd 0), .int a1, .int a2, .ref oa]) (Qx1 (X := Unit) A (fun _ => .int 1) (fun _ _ => True) G (fun _ => (cW G rb n md rd sd ms fl mn sc ar b w0))) 1 6 A := by
  refine mtW_of (by decide) (Nat.le_of_ble_eq_true rfl) ?_
  intro p e s m below meth c ls C hH hA hE hr htab hl
  have hl : lv_has ls 5 [(0, .ref (sd 0)), (1, .int a1), (2, .int a2), (3, .ref oa)] := hl
  refine x_sx C b_Law_told_0_5 hl (L' := [(0, .ref (sd 0)), (1, .int a1), (2, .int a2), (3, .ref oa)]) (st' := [.int a2, .int a1, .ref (sd 0), .int 0, .ref oa]) rfl (fun ls hl => ?_)
  refine t_V C hH.1 ((rW_0 (Or.inl (by omega)) hn).trans sp_0) rfl (c_SP_told_1 l G rb n md rd sd ms fl mn sc ar b w0 a1 a2 hfl hn hrb hv) t_543 t_1 t_540 t_541 t_542 hd_SP_told blind_Pro (pre_ro C hH.1 hH.2.2) (As := [.int a1, .int a2]) (rest := [.int 0, .ref oa]) rfl hl.1 rfl rfl rfl ⟨(Nat.le_of_ble_eq_true rfl), (Nat.le_of_ble_eq_true rfl)⟩ (Nat.le_of_ble_eq_true rfl) ⟨(Nat.le_of_ble_eq_true rfl), (Nat.le_of_ble_eq_true rfl)⟩ d_Law_told_5 (fun xx st t hst hW hq => ?_)
  obtain ⟨ce, hH, hce, hob, hcl⟩ := hq.in hst hW hH
  refine t_catch1 C htab ⟨by decide, by decide⟩ (by decide) t_357 t_371 hcl hce hob ?_
  refine x_sx C b_Law_told_13_16 hl (L' := [(4, .ref xx), (0, .ref (sd 0)), (1, .int a1), (2, .int a2), (3, .ref oa)]) (st' := [.int 1]) rfl (fun ls hl => ?_)
  exact x_irt C hr hH.2.2 ⟨(), rfl, trivial, hH.1, hH.2.1⟩ (Nat.le_of_ble_eq_true rfl) (Nat.le_of_ble_eq_true rfl) d_Law_told_16
theorem hd_Law_told : hdP y_Law_told 4 := ⟨by decide +kernel, by decide +kernel, by decide +kernel⟩
theorem b_Law_corner_0_7 : decs method_9_code [(.aload 4, 2), (.iconst 0, 1), (.aload_n 0, 1), (.iload_n 1, 1), (.iload_n 2, 1), (.iload_n 3, 1)] 0 7 = true := by decide +kernel
theorem d_Law_corner_7 : decode method_9_code 7 = .ok (.invokevirtual 36, 3) := by decide +kernel
theorem b_Law_corner_10_11 : decs method_9_code [(.i2l, 1)] 10 11 = true := by decide +kernel
theorem d_Law_corner_11 : decode method_9_code 11 = .ok (.lastore, 1) := by decide +kernel
theorem d_Law_corner_12 : decode method_9_code 12 = .ok (.goto 7, 3) := by decide +kernel
theorem b_Law_corner_19_20 : decs method_9_code [(.iconst 0, 1)] 19 20 = true := by decide +kernel
theorem d_Law_corner_20 : decode method_9_code 20 = .ok (.ireturn, 1) := by decide +kernel
set_option maxRecDepth 100000 in
set_option maxHeartbeats 4000000 in
theorem c_Law_corner (l : Launch) (G : GG) (A : Nat → Prop) (rb : Nat) (n : Nat) (md : Int32) (rd : Nat → Nat) (sd : Nat → Nat) (ms : Nat → Int32) (fl : Nat → Nat) (mn : Nat → Nat) (sc : Nat → Int32) (ar : Nat → Nat → Int32) (b : Bt) (w0 : WF) (k : Nat) (a2 : Int32) (a3 : Int32) (hn : n ≤ 3) (hrb : 100 ≤ rb) (hk : k < n) (hv : p_in a2 0 3 = 1 ∧ p_in a3 0 1 = 1) (oa : Nat) (f0 : Nat → Int64) (hrbE : rb = 100 ∨ rb = 200) (ho : w0 500 = some (oa, .inl (G.2.1 2, 1, .inr (.inl f0)))) : Met l y_Law_corner (Cond.codeWith y_Law_corner method_9_code 6 (some FieldType.int) [(0, 12, 15, 13)] :: wt) { frames := 11, cells := 0, slots := 0, locals := 290 } (Pre G A (cW G rb n md rd sd ms fl mn sc ar b w0) (fun _ => True) [.ref (sd 0), .int (nI k), .int a2, .int a3, .ref oa]) (Qx1 (X := Unit) A (fun _ => .int 0) (fun _ _ => True) G (fun _ => (cW G rb n md rd sd ms fl mn sc ar b (va_up w0 500 (some (oa, .inl (G.2.1 2, 1, .inr (.inl (vp_updL f0 0 (fCorner ar k a2 a3).toInt64))))))))) 0 0 A := by
  refine mtW_of (by decide) (Nat.le_of_ble_eq_true rfl) ?_
  intro p e s m below meth c ls C hH hA hE hr htab hl
  have hl : lv_has ls 6 [(0, .ref (sd 0)), (1, .int (nI k)), (2, .int a2), (3, .int a3), (4, .ref oa)] := hl
  refine x_sx C b_Law_corner_0_7 hl (L' := [(0, .ref (sd 0)), (1, .int (nI k)), (2, .int a2), (3, .int a3), (4, .ref oa)]) (st' := [.int a3, .int a2, .int (nI k), .ref (sd 0), .int 0, .ref oa]) rfl (fun ls hl => ?_)
  refine x_ro (x_cV C hH.1 ((rW_0 (Or.inl (by omega)) hn).trans sp_0) rfl (c_SP_corner l G rb n md rd sd ms fl mn sc ar b w0 k a2 a3 hn hrb hk hv) t_557 t_1 t_554 t_555 t_556 hd_SP_corner blind_Pro (pre_ro C hH.1 hH.2.2) (As := [.int (nI k), .int a2, .int a3]) (rest := [.int 0, .ref oa]) rfl hl.1 rfl rfl rfl ⟨Nat.le_of_ble_eq_true rfl, Nat.le_of_ble_eq_true rfl⟩ (Nat.le_of_ble_eq_true rfl) ⟨Nat.le_of_ble_eq_true rfl, Nat.le_of_ble_eq_true rfl⟩ d_Law_corner_7) ?_
  refine x_sx C b_Law_corner_10_11 hl (L' := [(0, .ref (sd 0)), (1, .int (nI k)), (2, .int a2), (3, .int a3), (4, .ref oa)]) (st' := [.long (fCorner ar k a2 a3).toInt64, .int 0, .ref oa]) rfl (fun ls hl => ?_)
  refine x_lst C hH 500 ((cW_hi (by decide) hn (by omega)).trans ho) (j := 0) rfl (by decide) (by decide) d_Law_corner_11 (fun H locs hH => ?_)
  rw [cW_up (by decide) hn (by omega)] at hH
  refine x_goto (tgt := 19) C d_Law_corner_12 (by decide) ?_
  refine x_sx C b_Law_corner_19_20 hl (L' := [(0, .ref (sd 0)), (1, .int (nI k)), (2, .int a2), (3, .int a3), (4, .ref oa)]) (st' := [.int 0]) rfl (fun ls hl => ?_)
  exact x_irt C hr hH.2.2 ⟨(), rfl, trivial, hH.1, hH.2.1⟩ (Nat.le_of_ble_eq_true rfl) (Nat.le_of_ble_eq_true rfl) d_Law_corner_20
theorem b_Law_corner_15_18 : decs method_9_code [(.astore 5, 2), (.iconst 1, 1)] 15 18 = true := by decide +kernel
theorem d_Law_corner_18 : decode method_9_code 18 = .ok (.ireturn, 1) := by decide +kernel
set_option maxRecDepth 100000 in
set_option maxHeartbeats 4000000 in
theorem c_Law_corner_1 (l : Launch) (G : GG) (A : Nat → Prop) (rb : Nat) (n : Nat) (md : Int32) (rd : Nat → Nat) (sd : Nat → Nat) (ms : Nat → Int32) (fl : Nat → Nat) (mn : Nat → Nat) (sc : Nat → Int32) (ar : Nat → Nat → Int32) (b : Bt) (w0 : WF) (a1 : Int32) (a2 : Int32) (a3 : Int32) (hfl : l.flags = pinnedFlags ++ [noTraceFlag]) (hn : n ≤ 3) (hrb : 100 ≤ rb) (hv : ¬ (p_in a1 0 (nI n - 1) = 1 ∧ p_in a2 0 3 = 1 ∧ p_in a3 0 1 = 1)) (oa : Nat) (f0 : Nat → Int64) (hrbE : rb = 100 ∨ rb = 200) (ho : w0 500 = some (oa, .inl (G.2.1 2, 1, .inr (.inl f0)))) : Met l y_Law_corner (Cond.codeWith y_Law_corner method_9_code 6 (some FieldType.int) [(0, 12, 15, 13)] :: wt) { frames := 11, cells := 1, slots := 6, locals := 290 } (Pre G A (cW G rb n md rd sd ms fl mn sc ar b w0) (fun _ => True) [.ref (sd 0), .int a1, .int a2, .int a3, .ref oa]) (Qx1 (X := Unit) A (fun _ => .int 1) (fun _ _ => True) G (fun _ => (cW G rb n md rd sd ms fl mn sc ar b w0))) 1 6 A := by
  refine mtW_of (by decide) (Nat.le_of_ble_eq_true rfl) ?_
  intro p e s m below meth c ls C hH hA hE hr htab hl
  have hl : lv_has ls 6 [(0, .ref (sd 0)), (1, .int a1), (2, .int a2), (3, .int a3), (4, .ref oa)] := hl
  refine x_sx C b_Law_corner_0_7 hl (L' := [(0, .ref (sd 0)), (1, .int a1), (2, .int a2), (3, .int a3), (4, .ref oa)]) (st' := [.int a3, .int a2, .int a1, .ref (sd 0), .int 0, .ref oa]) rfl (fun ls hl => ?_)
  refine t_V C hH.1 ((rW_0 (Or.inl (by omega)) hn).trans sp_0) rfl (c_SP_corner_1 l G rb n md rd sd ms fl mn sc ar b w0 a1 a2 a3 hfl hn hrb hv) t_557 t_1 t_554 t_555 t_556 hd_SP_corner blind_Pro (pre_ro C hH.1 hH.2.2) (As := [.int a1, .int a2, .int a3]) (rest := [.int 0, .ref oa]) rfl hl.1 rfl rfl rfl ⟨(Nat.le_of_ble_eq_true rfl), (Nat.le_of_ble_eq_true rfl)⟩ (Nat.le_of_ble_eq_true rfl) ⟨(Nat.le_of_ble_eq_true rfl), (Nat.le_of_ble_eq_true rfl)⟩ d_Law_corner_7 (fun xx st t hst hW hq => ?_)
  obtain ⟨ce, hH, hce, hob, hcl⟩ := hq.in hst hW hH
  refine t_catch1 C htab ⟨by decide, by decide⟩ (by decide) t_357 t_371 hcl hce hob ?_
  refine x_sx C b_Law_corner_15_18 hl (L' := [(5, .ref xx), (0, .ref (sd 0)), (1, .int a1), (2, .int a2), (3, .int a3), (4, .ref oa)]) (st' := [.int 1]) rfl (fun ls hl => ?_)
  exact x_irt C hr hH.2.2 ⟨(), rfl, trivial, hH.1, hH.2.1⟩ (Nat.le_of_ble_eq_true rfl) (Nat.le_of_ble_eq_true rfl) d_Law_corner_18
theorem hd_Law_corner : hdP y_Law_corner 5 := ⟨by decide +kernel, by decide +kernel, by decide +kernel⟩
theorem b_Law_cell_0_5 : decs method_10_code [(.aload_n 3, 1), (.iconst 0, 1), (.aload_n 0, 1), (.iload_n 1, 1), (.iload_n 2, 1)] 0 5 = true := by decide +kernel
theorem d_Law_cell_5 : decode method_10_code 5 = .ok (.invokevirtual 40, 3) := by decide +kernel
theorem d_Law_cell_8 : decode method_10_code 8 = .ok (.ifCond .eq 7, 3) := by decide +kernel
theorem b_Law_cell_15_16 : decs method_10_code [(.lconst 0, 1)] 15 16 = true := by decide +kernel
theorem d_Law_cell_16 : decode method_10_code 16 = .ok (.lastore, 1) := by decide +kernel
theorem d_Law_cell_17 : decode method_10_code 17 = .ok (.goto 7, 3) := by decide +kernel
theorem b_Law_cell_24_25 : decs method_10_code [(.iconst 0, 1)] 24 25 = true := by decide +kernel
theorem d_Law_cell_25 : decode method_10_code 25 = .ok (.ireturn, 1) := by decide +kernel
theorem b_Law_cell_11_12 : decs method_10_code [(.lconst 1, 1)] 11 12 = true := by decide +kernel
theorem d_Law_cell_12 : decode method_10_code 12 = .ok (.goto 4, 3) := by decide +kernel
set_option maxRecDepth 100000 in
set_option maxHeartbeats 4000000 in
theorem c_Law_cell (l : Launch) (G : GG) (A : Nat → Prop) (rb : Nat) (n : Nat) (md : Int32) (rd : Nat → Nat) (sd : Nat → Nat) (ms : Nat → Int32) (fl : Nat → Nat) (mn : Nat → Nat) (sc : Nat → Int32) (ar : Nat → Nat → Int32) (b : Bt) (w0 : WF) (x : Nat) (y : Nat) (hn : n ≤ 3) (hrb : 100 ≤ rb) (hx : x < 64) (hy : y < 64) (hv : p_in (zs x) (-32) 31 = 1 ∧ p_in (zs y) (-32) 31 = 1) (hB : BR b (ar 17)) (hz : Z01 (ar 17)) (oa : Nat) (f0 : Nat → Int64) (hrbE : rb = 100 ∨ rb = 200) (ho : w0 500 = some (oa, .inl (G.2.1 2, 1, .inr (.inl f0)))) : Met l y_Law_cell (Cond.codeWith y_Law_cell method_10_code 5 (some FieldType.int) [(0, 17, 20, 13)] :: wt) { frames := 11, cells := 0, slots := 0, locals := 290 } (Pre G A (cW G rb n md rd sd ms fl mn sc ar b w0) (fun _ => True) [.ref (sd 0), .int (zs x), .int (zs y), .ref oa]) (Qx1 (X := Unit) A (fun _ => .int 0) (fun _ _ => True) G (fun _ => (cW G rb n md rd sd ms fl mn sc ar b (va_up w0 500 (some (oa, .inl (G.2.1 2, 1, .inr (.inl (vp_updL f0 0 ((ar 17 (64 * x + y))).toInt64))))))))) 0 0 A := by
  refine mtW_of (by decide) (Nat.le_of_ble_eq_true rfl) ?_
  intro p e s m below meth c ls C hH hA hE hr htab hl
  have hl : lv_has ls 5 [(0, .ref (sd 0)), (1, .int (zs x)), (2, .int (zs y)), (3, .ref oa)] := hl
  refine x_sx C b_Law_cell_0_5 hl (L' := [(0, .ref (sd 0)), (1, .int (zs x)), (2, .int (zs y)), (3, .ref oa)]) (st' := [.int (zs y), .int (zs x), .ref (sd 0), .int 0, .ref oa]) rfl (fun ls hl => ?_)
  refine x_ro (x_cV C hH.1 ((rW_0 (Or.inl (by omega)) hn).trans sp_0) rfl (c_SP_cell l G rb n md rd sd ms fl mn sc ar b w0 x y hn hrb hx hy hv hB hz) t_565 t_1 t_562 t_563 t_564 hd_SP_cell blind_Pro (pre_ro C hH.1 hH.2.2) (As := [.int (zs x), .int (zs y)]) (rest := [.int 0, .ref oa]) rfl hl.1 rfl rfl rfl ⟨Nat.le_of_ble_eq_true rfl, Nat.le_of_ble_eq_true rfl⟩ (Nat.le_of_ble_eq_true rfl) ⟨Nat.le_of_ble_eq_true rfl, Nat.le_of_ble_eq_true rfl⟩ d_Law_cell_5) ?_
  refine lv_if_eq (tgt := 15) C.1 C.2.1 d_Law_cell_8 (by decide) (fun h1 => ?_) (fun h1 => ?_)
  · refine x_sx C b_Law_cell_15_16 hl (L' := [(0, .ref (sd 0)), (1, .int (zs x)), (2, .int (zs y)), (3, .ref oa)]) (st' := [.long 0, .int 0, .ref oa]) rfl (fun ls hl => ?_)
    have ev : (0 : Int64) = ((ar 17 (64 * x + y))).toInt64 := (by rw [h1]; rfl)
    rw [ev]
    refine x_lst C hH 500 ((cW_hi (by decide) hn (by omega)).trans ho) (j := 0) rfl (by decide) (by decide) d_Law_cell_16 (fun H locs hH => ?_)
    rw [cW_up (by decide) hn (by omega)] at hH
    refine x_goto (tgt := 24) C d_Law_cell_17 (by decide) ?_
    refine x_sx C b_Law_cell_24_25 hl (L' := [(0, .ref (sd 0)), (1, .int (zs x)), (2, .int (zs y)), (3, .ref oa)]) (st' := [.int 0]) rfl (fun ls hl => ?_)
    exact x_irt C hr hH.2.2 ⟨(), rfl, trivial, hH.1, hH.2.1⟩ (Nat.le_of_ble_eq_true rfl) (Nat.le_of_ble_eq_true rfl) d_Law_cell_25
  · refine x_sx C b_Law_cell_11_12 hl (L' := [(0, .ref (sd 0)), (1, .int (zs x)), (2, .int (zs y)), (3, .ref oa)]) (st' := [.long 1, .int 0, .ref oa]) rfl (fun ls hl => ?_)
    refine x_goto (tgt := 16) C d_Law_cell_12 (by decide) ?_
    have ev : (1 : Int64) = ((ar 17 (64 * x + y))).toInt64 := (by rcases hz (64 * x + y) (by omega) with q | q; exact absurd q h1; rw [q]; rfl)
    rw [ev]
    refine x_lst C hH 500 ((cW_hi (by decide) hn (by omega)).trans ho) (j := 0) rfl (by decide) (by decide) d_Law_cell_16 (fun H locs hH => ?_)
    rw [cW_up (by decide) hn (by omega)] at hH
    refine x_goto (tgt := 24) C d_Law_cell_17 (by decide) ?_
    refine x_sx C b_Law_cell_24_25 hl (L' := [(0, .ref (sd 0)), (1, .int (zs x)), (2, .int (zs y)), (3, .ref oa)]) (st' := [.int 0]) rfl (fun ls hl => ?_)
    exact x_irt C hr hH.2.2 ⟨(), rfl, trivial, hH.1, hH.2.1⟩ (Nat.le_of_ble_eq_true rfl) (Nat.le_of_ble_eq_true rfl) d_Law_cell_25
theorem b_Law_cell_20_23 : decs method_10_code [(.astore 4, 2), (.iconst 1, 1)] 20 23 = true := by decide +kernel
theorem d_Law_cell_23 : decode method_10_code 23 = .ok (.ireturn, 1) := by decide +kernel
set_option maxRecDepth 100000 in
set_option maxHeartbeats 4000000 in
theorem c_Law_cell_1 (l : Launch) (G : GG) (A : Nat → Prop) (rb : Nat) (n : Nat) (md : Int32) (rd : Nat → Nat) (sd : Nat → Nat) (ms : Nat → Int32) (fl : Nat → Nat) (mn : Nat → Nat) (sc : Nat → Int32) (ar : Nat → Nat → Int32) (b : Bt) (w0 : WF) (a1 : Int32) (a2 : Int32) (hfl : l.flags = pinnedFlags ++ [noTraceFlag]) (hn : n ≤ 3) (hrb : 100 ≤ rb) (hv : ¬ (p_in a1 (-32) 31 = 1 ∧ p_in a2 (-32) 31 = 1)) (oa : Nat) (f0 : Nat → Int64) (hrbE : rb = 100 ∨ rb = 200) (ho : w0 500 = some (oa, .inl (G.2.1 2, 1, .inr (.inl f0)))) : Met l y_Law_cell (Cond.codeWith y_Law_cell method_10_code 5 (some FieldType.int) [(0, 17, 20, 13)] :: wt) { frames := 11, cells := 1, slots := 6, locals := 290 } (Pre G A (cW G rb n md rd sd ms fl mn sc ar b w0) (fun _ => True) [.ref (sd 0), .int a1, .int a2, .ref oa]) (Qx1 (X := Unit) A (fun _ => .int 1) (fun _ _ => True) G (fun _ => (cW G rb n md rd sd ms fl mn sc ar b w0))) 1 6 A := by
  refine mtW_of (by decide) (Nat.le_of_ble_eq_true rfl) ?_
  intro p e s m below meth c ls C hH hA hE hr htab hl
  have hl : lv_has ls 5 [(0, .ref (sd 0)), (1, .int a1), (2, .int a2), (3, .ref oa)] := hl
  refine x_sx C b_Law_cell_0_5 hl (L' := [(0, .ref (sd 0)), (1, .int a1), (2, .int a2), (3, .ref oa)]) (st' := [.int a2, .int a1, .ref (sd 0), .int 0, .ref oa]) rfl (fun ls hl => ?_)
  refine t_V C hH.1 ((rW_0 (Or.inl (by omega)) hn).trans sp_0) rfl (c_SP_cell_1 l G rb n md rd sd ms fl mn sc ar b w0 a1 a2 hfl hn hrb hv) t_565 t_1 t_562 t_563 t_564 hd_SP_cell blind_Pro (pre_ro C hH.1 hH.2.2) (As := [.int a1, .int a2]) (rest := [.int 0, .ref oa]) rfl hl.1 rfl rfl rfl ⟨(Nat.le_of_ble_eq_true rfl), (Nat.le_of_ble_eq_true rfl)⟩ (Nat.le_of_ble_eq_true rfl) ⟨(Nat.le_of_ble_eq_true rfl), (Nat.le_of_ble_eq_true rfl)⟩ d_Law_cell_5 (fun xx st t hst hW hq => ?_)
  obtain ⟨ce, hH, hce, hob, hcl⟩ := hq.in hst hW hH
  refine t_catch1 C htab ⟨by decide, by decide⟩ (by decide) t_357 t_371 hcl hce hob ?_
  refine x_sx C b_Law_cell_20_23 hl (L' := [(4, .ref xx), (0, .ref (sd 0)), (1, .int a1), (2, .int a2), (3, .ref oa)]) (st' := [.int 1]) rfl (fun ls hl => ?_)
  exact x_irt C hr hH.2.2 ⟨(), rfl, trivial, hH.1, hH.2.1⟩ (Nat.le_of_ble_eq_true rfl) (Nat.le_of_ble_eq_true rfl) d_Law_cell_23
theorem hd_Law_cell : hdP y_Law_cell 4 := ⟨by decide +kernel, by decide +kernel, by decide +kernel⟩
theorem b_Law_clash_0_4 : decs method_11_code [(.aload_n 2, 1), (.iconst 0, 1), (.aload_n 0, 1), (.iload_n 1, 1)] 0 4 = true := by decide +kernel
theorem d_Law_clash_4 : decode method_11_code 4 = .ok (.invokevirtual 44, 3) := by decide +kernel
theorem b_Law_clash_7_8 : decs method_11_code [(.i2l, 1)] 7 8 = true := by decide +kernel
theorem d_Law_clash_8 : decode method_11_code 8 = .ok (.lastore, 1) := by decide +kernel
theorem d_Law_clash_9 : decode method_11_code 9 = .ok (.goto 6, 3) := by decide +kernel
theorem b_Law_clash_15_16 : decs method_11_code [(.iconst 0, 1)] 15 16 = true := by decide +kernel
theorem d_Law_clash_16 : decode method_11_code 16 = .ok (.ireturn, 1) := by decide +kernel
set_option maxRecDepth 100000 in
set_option maxHeartbeats 4000000 in
theorem c_Law_clash (l : Launch) (G : GG) (A : Nat → Prop) (rb : Nat) (n : Nat) (md : Int32) (rd : Nat → Nat) (sd : Nat → Nat) (ms : Nat → Int32) (fl : Nat → Nat) (mn : Nat → Nat) (sc : Nat → Int32) (ar : Nat → Nat → Int32) (b : Bt) (w0 : WF) (a1 : Int32) (hn : n ≤ 3) (hrb : 100 ≤ rb) (hv : p_in a1 0 2 = 1) (oa : Nat) (f0 : Nat → Int64) (hrbE : rb = 100 ∨ rb = 200) (ho : w0 500 = some (oa, .inl (G.2.1 2, 1, .inr (.inl f0)))) : Met l y_Law_clash (Cond.codeWith y_Law_clash method_11_code 4 (some FieldType.int) [(0, 9, 12, 13)] :: wt) { frames := 11, cells := 0, slots := 0, locals := 290 } (Pre G A (cW G rb n md rd sd ms fl mn sc ar b w0) (fun _ => True) [.ref (sd 0), .int a1, .ref oa]) (Qx1 (X := Unit) A (fun _ => .int 0) (fun _ _ => True) G (fun _ => (cW G rb n md rd sd ms fl mn sc ar b (va_up w0 500 (some (oa, .inl (G.2.1 2, 1, .inr (.inl (vp_updL f0 0 (fClash sc a1).toInt64))))))))) 0 0 A := by
  refine mtW_of (by decide) (Nat.le_of_ble_eq_true rfl) ?_
  intro p e s m below meth c ls C hH hA hE hr htab hl
  have hl : lv_has ls 4 [(0, .ref (sd 0)), (1, .int a1), (2, .ref oa)] := hl
  refine x_sx C b_Law_clash_0_4 hl (L' := [(0, .ref (sd 0)), (1, .int a1), (2, .ref oa)]) (st' := [.int a1, .ref (sd 0), .int 0, .ref oa]) rfl (fun ls hl => ?_)
  refine x_ro (x_cV C hH.1 ((rW_0 (Or.inl (by omega)) hn).trans sp_0) rfl (c_SP_clash l G rb n md rd sd ms fl mn sc ar b w0 a1 hn hrb hv) t_576 t_1 t_573 t_574 t_575 hd_SP_clash blind_Pro (pre_ro C hH.1 hH.2.2) (As := [.int a1]) (rest := [.int 0, .ref oa]) rfl hl.1 rfl rfl rfl ⟨Nat.le_of_ble_eq_true rfl, Nat.le_of_ble_eq_true rfl⟩ (Nat.le_of_ble_eq_true rfl) ⟨Nat.le_of_ble_eq_true rfl, Nat.le_of_ble_eq_true rfl⟩ d_Law_clash_4) ?_
  refine x_sx C b_Law_clash_7_8 hl (L' := [(0, .ref (sd 0)), (1, .int a1), (2, .ref oa)]) (st' := [.long (fClash sc a1).toInt64, .int 0, .ref oa]) rfl (fun ls hl => ?_)
  refine x_lst C hH 500 ((cW_hi (by decide) hn (by omega)).trans ho) (j := 0) rfl (by decide) (by decide) d_Law_clash_8 (fun H locs hH => ?_)
  rw [cW_up (by decide) hn (by omega)] at hH
  refine x_goto (tgt := 15) C d_Law_clash_9 (by decide) ?_
  refine x_sx C b_Law_clash_15_16 hl (L' := [(0, .ref (sd 0)), (1, .int a1), (2, .ref oa)]) (st' := [.int 0]) rfl (fun ls hl => ?_)
  exact x_irt C hr hH.2.2 ⟨(), rfl, trivial, hH.1, hH.2.1⟩ (Nat.le_of_ble_eq_true rfl) (Nat.le_of_ble_eq_true rfl) d_Law_clash_16
theorem b_Law_clash_12_14 : decs method_11_code [(.astore_n 3, 1), (.iconst 1, 1)] 12 14 = true := by decide +kernel
theorem d_Law_clash_14 : decode method_11_code 14 = .ok (.ireturn, 1) := by decide +kernel
set_option maxRecDepth 100000 in
set_option maxHeartbeats 4000000 in
theorem c_Law_clash_1 (l : Launch) (G : GG) (A : Nat → Prop) (rb : Nat) (n : Nat) (md : Int32) (rd : Nat → Nat) (sd : Nat → Nat) (ms : Nat → Int32) (fl : Nat → Nat) (mn : Nat → Nat) (sc : Nat → Int32) (ar : Nat → Nat → Int32) (b : Bt) (w0 : WF) (a1 : Int32) (hfl : l.flags = pinnedFlags ++ [noTraceFlag]) (hn : n ≤ 3) (hrb : 100 ≤ rb) (hv : ¬ (p_in a1 0 2 = 1)) (oa : Nat) (f0 : Nat → Int64) (hrbE : rb = 100 ∨ rb = 200) (ho : w0 500 = some (oa, .inl (G.2.1 2, 1, .inr (.inl f0)))) : Met l y_Law_clash (Cond.codeWith y_Law_clash method_11_code 4 (some FieldType.int) [(0, 9, 12, 13)] :: wt) { frames := 11, cells := 1, slots := 6, locals := 290 } (Pre G A (cW G rb n md rd sd ms fl mn sc ar b w0) (fun _ => True) [.ref (sd 0), .int a1, .ref oa]) (Qx1 (X := Unit) A (fun _ => .int 1) (fun _ _ => True) G (fun _ => (cW G rb n md rd sd ms fl mn sc ar b w0))) 1 6 A := by
  refine mtW_of (by decide) (Nat.le_of_ble_eq_true rfl) ?_
  intro p e s m below meth c ls C hH hA hE hr htab hl
  have hl : lv_has ls 4 [(0, .ref (sd 0)), (1, .int a1), (2, .ref oa)] := hl
  refine x_sx C b_Law_clash_0_4 hl (L' := [(0, .ref (sd 0)), (1, .int a1), (2, .ref oa)]) (st' := [.int a1, .ref (sd 0), .int 0, .ref oa]) rfl (fun ls hl => ?_)
  refine t_V C hH.1 ((rW_0 (Or.inl (by omega)) hn).trans sp_0) rfl (c_SP_clash_1 l G rb n md rd sd ms fl mn sc ar b w0 a1 hfl hn hrb hv) t_576 t_1 t_573 t_574 t_575 hd_SP_clash blind_Pro (pre_ro C hH.1 hH.2.2) (As := [.int a1]) (rest := [.int 0, .ref oa]) rfl hl.1 rfl rfl rfl ⟨(Nat.le_of_ble_eq_true rfl), (Nat.le_of_ble_eq_true rfl)⟩ (Nat.le_of_ble_eq_true rfl) ⟨(Nat.le_of_ble_eq_true rfl), (Nat.le_of_ble_eq_true rfl)⟩ d_Law_clash_4 (fun xx st t hst hW hq => ?_)
  obtain ⟨ce, hH, hce, hob, hcl⟩ := hq.in hst hW hH
  refine t_catch1 C htab ⟨by decide, by decide⟩ (by decide) t_357 t_371 hcl hce hob ?_
  refine x_sx C b_Law_clash_12_14 hl (L' := [(3, .ref xx), (0, .ref (sd 0)), (1, .int a1), (2, .ref oa)]) (st' := [.int 1]) rfl (fun ls hl => ?_)
  exact x_irt C hr hH.2.2 ⟨(), rfl, trivial, hH.1, hH.2.1⟩ (Nat.le_of_ble_eq_true rfl) (Nat.le_of_ble_eq_true rfl) d_Law_clash_14
theorem hd_Law_clash : hdP y_Law_clash 3 := ⟨by decide +kernel, by decide +kernel, by decide +kernel⟩
theorem b_Law_part_0_9 : decs method_12_code [(.aload 5, 2), (.iconst 0, 1), (.aload_n 0, 1), (.iload_n 1, 1), (.iload_n 2, 1), (.iload_n 3, 1), (.iload 4, 2)] 0 9 = true := by decide +kernel
theorem d_Law_part_9 : decode method_12_code 9 = .ok (.invokevirtual 47, 3) := by decide +kernel
theorem b_Law_part_12_13 : decs method_12_code [(.i2l, 1)] 12 13 = true := by decide +kernel
theorem d_Law_part_13 : decode method_12_code 13 = .ok (.lastore, 1) := by decide +kernel
theorem d_Law_part_14 : decode method_12_code 14 = .ok (.goto 11, 3) := by decide +kernel
theorem b_Law_part_25_26 : decs method_12_code [(.iconst 0, 1)] 25 26 = true := by decide +kernel
theorem d_Law_part_26 : decode method_12_code 26 = .ok (.ireturn, 1) := by decide +kernel
set_option maxRecDepth 100000 in
set_option maxHeartbeats 4000000 in
theorem c_Law_part (l : Launch) (G : GG) (A : Nat → Prop) (rb : Nat) (n : Nat) (md : Int32) (rd : Nat → Nat) (sd : Nat → Nat) (ms : Nat → Int32) (fl : Nat → Nat) (mn : Nat → Nat) (sc : Nat → Int32) (ar : Nat → Nat → Int32) (b : Bt) (w0 : WF) (q : Nat) (a2 : Int32) (a3 : Int32) (fw : Int32) (hn : n ≤ 3) (hrb : 100 ≤ rb) (hq : q < 4) (hz6 : mn q < 6) (hmq : ∀ q, q < 4 → mn q ≤ 6) (hf0 : ∀ q, q < 4 → fl q = 0 → mn q = 0) (hv : p_in a2 (-3) 3 = 1 ∧ p_in a3 1 60 = 1) (hfw : fw = 0 ∨ fw = 1) (oa : Nat) (f0 : Nat → Int64) (hrbE : rb = 100 ∨ rb = 200) (ho : w0 500 = some (oa, .inl (G.2.1 2, 1, .inr (.inl f0)))) : Met l y_Law_part (Cond.codeWith y_Law_part method_12_code 7 (some FieldType.int) [(0, 14, 17, 13), (0, 14, 21, 15)] :: wt) { frames := 11, cells := 2, slots := 13, locals := 290 } (Pre G A (cW G rb n md rd sd ms fl mn sc ar b w0) (fun _ => True) [.ref (sd 0), .int (nI q), .int a2, .int a3, .int fw, .ref oa]) (Qx1 (X := Nat → Nat) A (fun _ => .int 0) (fun x _ => x 0 = sd 0) G (fun x => (cW G rb n md rd x (va_up ms (2 + q) (ms (2 + q) + 1)) (va_up fl q 1) (va_up mn q (mn q + 1)) sc (fPartA ar q (mn q) a2 a3 fw) b (va_up w0 500 (some (oa, .inl (G.2.1 2, 1, .inr (.inl (vp_updL f0 0 (nI (mn q + 1)).toInt64))))))))) 2 13 A := by
  refine mtW_of (by decide) (Nat.le_of_ble_eq_true rfl) ?_
  intro p e s m below meth c ls C hH hA hE hr htab hl
  have hl : lv_has ls 7 [(0, .ref (sd 0)), (1, .int (nI q)), (2, .int a2), (3, .int a3), (4, .int fw), (5, .ref oa)] := hl
  refine x_sx C b_Law_part_0_9 hl (L' := [(0, .ref (sd 0)), (1, .int (nI q)), (2, .int a2), (3, .int a3), (4, .int fw), (5, .ref oa)]) (st' := [.int fw, .int a3, .int a2, .int (nI q), .ref (sd 0), .int 0, .ref oa]) rfl (fun ls hl => ?_)
  refine x_q1 (x_cV C hH.1 ((rW_0 (Or.inl (by omega)) hn).trans sp_0) rfl (c_SP_part l G A rb n md rd sd ms fl mn sc ar b w0 q a2 a3 fw hn hrb hq hz6 hmq hf0 hv hfw) t_583 t_1 t_580 t_581 t_582 hd_SP_part blind_Pre (pre_mt C hH hA trivial) (As := [.int (nI q), .int a2, .int a3, .int fw]) (rest := [.int 0, .ref oa]) rfl hl.1 rfl rfl rfl ⟨Nat.le_of_ble_eq_true rfl, Nat.le_of_ble_eq_true rfl⟩ (Nat.le_of_ble_eq_true rfl) ⟨Nat.le_of_ble_eq_true rfl, Nat.le_of_ble_eq_true rfl⟩ d_Law_part_9) hH.2.2 (fun x H locs hx hH hz => ?_)
  refine x_sx C b_Law_part_12_13 hl (L' := [(0, .ref (sd 0)), (1, .int (nI q)), (2, .int a2), (3, .int a3), (4, .int fw), (5, .ref oa)]) (st' := [.long (nI (mn q + 1)).toInt64, .int 0, .ref oa]) rfl (fun ls hl => ?_)
  refine x_lst C hH 500 ((cW_hi (by decide) hn (by omega)).trans ho) (j := 0) rfl (by decide) (by decide) d_Law_part_13 (fun H locs hH => ?_)
  rw [cW_up (by decide) hn (by omega)] at hH
  refine x_goto (tgt := 25) C d_Law_part_14 (by decide) ?_
  refine x_sx C b_Law_part_25_26 hl (L' := [(0, .ref (sd 0)), (1, .int (nI q)), (2, .int a2), (3, .int a3), (4, .int fw), (5, .ref oa)]) (st' := [.int 0]) rfl (fun ls hl => ?_)
  exact x_irt C hr hH.2.2 ⟨x, rfl, hx, hH.1, hH.2.1⟩ (Nat.le_of_ble_eq_true rfl) (Nat.le_of_ble_eq_true rfl) d_Law_part_26
theorem b_Law_part_17_20 : decs method_12_code [(.astore 6, 2), (.iconst 1, 1)] 17 20 = true := by decide +kernel
theorem d_Law_part_20 : decode method_12_code 20 = .ok (.ireturn, 1) := by decide +kernel
set_option maxRecDepth 100000 in
set_option maxHeartbeats 4000000 in
theorem c_Law_part_1 (l : Launch) (G : GG) (A : Nat → Prop) (rb : Nat) (n : Nat) (md : Int32) (rd : Nat → Nat) (sd : Nat → Nat) (ms : Nat → Int32) (fl : Nat → Nat) (mn : Nat → Nat) (sc : Nat → Int32) (ar : Nat → Nat → Int32) (b : Bt) (w0 : WF) (a1 : Int32) (a2 : Int32) (a3 : Int32) (fw : Int32) (hfl : l.flags = pinnedFlags ++ [noTraceFlag]) (hn : n ≤ 3) (hrb : 100 ≤ rb) (hv : ¬ (p_in a1 0 3 = 1 ∧ p_in a2 (-3) 3 = 1 ∧ p_in a3 1 60 = 1)) (oa : Nat) (f0 : Nat → Int64) (hrbE : rb = 100 ∨ rb = 200) (ho : w0 500 = some (oa, .inl (G.2.1 2, 1, .inr (.inl f0)))) : Met l y_Law_part (Cond.codeWith y_Law_part method_12_code 7 (some FieldType.int) [(0, 14, 17, 13), (0, 14, 21, 15)] :: wt) { frames := 11, cells := 1, slots := 6, locals := 290 } (Pre G A (cW G rb n md rd sd ms fl mn sc ar b w0) (fun _ => True) [.ref (sd 0), .int a1, .int a2, .int a3, .int fw, .ref oa]) (Qx1 (X := Unit) A (fun _ => .int 1) (fun _ _ => True) G (fun _ => (cW G rb n md rd sd ms fl mn sc ar b w0))) 1 6 A := by
  refine mtW_of (by decide) (Nat.le_of_ble_eq_true rfl) ?_
  intro p e s m below meth c ls C hH hA hE hr htab hl
  have hl : lv_has ls 7 [(0, .ref (sd 0)), (1, .int a1), (2, .int a2), (3, .int a3), (4, .int fw), (5, .ref oa)] := hl
  refine x_sx C b_Law_part_0_9 hl (L' := [(0, .ref (sd 0)), (1, .int a1), (2, .int a2), (3, .int a3), (4, .int fw), (5, .ref oa)]) (st' := [.int fw, .int a3, .int a2, .int a1, .ref (sd 0), .int 0, .ref oa]) rfl (fun ls hl => ?_)
  refine t_V C hH.1 ((rW_0 (Or.inl (by omega)) hn).trans sp_0) rfl (c_SP_part_1 l G rb n md rd sd ms fl mn sc ar b w0 a1 a2 a3 fw hfl hn hrb hv) t_583 t_1 t_580 t_581 t_582 hd_SP_part blind_Pro (pre_ro C hH.1 hH.2.2) (As := [.int a1, .int a2, .int a3, .int fw]) (rest := [.int 0, .ref oa]) rfl hl.1 rfl rfl rfl ⟨(Nat.le_of_ble_eq_true rfl), (Nat.le_of_ble_eq_true rfl)⟩ (Nat.le_of_ble_eq_true rfl) ⟨(Nat.le_of_ble_eq_true rfl), (Nat.le_of_ble_eq_true rfl)⟩ d_Law_part_9 (fun xx st t hst hW hq => ?_)
  obtain ⟨ce, hH, hce, hob, hcl⟩ := hq.in hst hW hH
  refine t_catch1 C htab ⟨by decide, by decide⟩ (by decide) t_357 t_371 hcl hce hob ?_
  refine x_sx C b_Law_part_17_20 hl (L' := [(6, .ref xx), (0, .ref (sd 0)), (1, .int a1), (2, .int a2), (3, .int a3), (4, .int fw), (5, .ref oa)]) (st' := [.int 1]) rfl (fun ls hl => ?_)
  exact x_irt C hr hH.2.2 ⟨(), rfl, trivial, hH.1, hH.2.1⟩ (Nat.le_of_ble_eq_true rfl) (Nat.le_of_ble_eq_true rfl) d_Law_part_20
theorem b_Law_part_21_24 : decs method_12_code [(.astore 6, 2), (.iconst 2, 1)] 21 24 = true := by decide +kernel
theorem d_Law_part_24 : decode method_12_code 24 = .ok (.ireturn, 1) := by decide +kernel
set_option maxRecDepth 100000 in
set_option maxHeartbeats 4000000 in
theorem c_Law_part_2 (l : Launch) (G : GG) (A : Nat → Prop) (rb : Nat) (n : Nat) (md : Int32) (rd : Nat → Nat) (sd : Nat → Nat) (ms : Nat → Int32) (fl : Nat → Nat) (mn : Nat → Nat) (sc : Nat → Int32) (ar : Nat → Nat → Int32) (b : Bt) (w0 : WF) (q : Nat) (a2 : Int32) (a3 : Int32) (fw : Int32) (hfl : l.flags = pinnedFlags ++ [noTraceFlag]) (hn : n ≤ 3) (hrb : 100 ≤ rb) (hq : q < 4) (hv : p_in a2 (-3) 3 = 1 ∧ p_in a3 1 60 = 1) (h6 : mn q = 6) (oa : Nat) (f0 : Nat → Int64) (hrbE : rb = 100 ∨ rb = 200) (ho : w0 500 = some (oa, .inl (G.2.1 2, 1, .inr (.inl f0)))) : Met l y_Law_part (Cond.codeWith y_Law_part method_12_code 7 (some FieldType.int) [(0, 14, 17, 13), (0, 14, 21, 15)] :: wt) { frames := 11, cells := 1, slots := 6, locals := 290 } (Pre G A (cW G rb n md rd sd ms fl mn sc ar b w0) (fun _ => True) [.ref (sd 0), .int (nI q), .int a2, .int a3, .int fw, .ref oa]) (Qx1 (X := Unit) A (fun _ => .int 2) (fun _ _ => True) G (fun _ => (cW G rb n md rd sd ms fl mn sc ar b w0))) 1 6 A := by
  refine mtW_of (by decide) (Nat.le_of_ble_eq_true rfl) ?_
  intro p e s m below meth c ls C hH hA hE hr htab hl
  have hl : lv_has ls 7 [(0, .ref (sd 0)), (1, .int (nI q)), (2, .int a2), (3, .int a3), (4, .int fw), (5, .ref oa)] := hl
  refine x_sx C b_Law_part_0_9 hl (L' := [(0, .ref (sd 0)), (1, .int (nI q)), (2, .int a2), (3, .int a3), (4, .int fw), (5, .ref oa)]) (st' := [.int fw, .int a3, .int a2, .int (nI q), .ref (sd 0), .int 0, .ref oa]) rfl (fun ls hl => ?_)
  refine t_V C hH.1 ((rW_0 (Or.inl (by omega)) hn).trans sp_0) rfl (c_SP_part_2 l G rb n md rd sd ms fl mn sc ar b w0 q a2 a3 fw hfl hn hrb hq hv h6) t_583 t_1 t_580 t_581 t_582 hd_SP_part blind_Pro (pre_ro C hH.1 hH.2.2) (As := [.int (nI q), .int a2, .int a3, .int fw]) (rest := [.int 0, .ref oa]) rfl hl.1 rfl rfl rfl ⟨(Nat.le_of_ble_eq_true rfl), (Nat.le_of_ble_eq_true rfl)⟩ (Nat.le_of_ble_eq_true rfl) ⟨(Nat.le_of_ble_eq_true rfl), (Nat.le_of_ble_eq_true rfl)⟩ d_Law_part_9 (fun xx st t hst hW hq => ?_)
  obtain ⟨ce, hH, hce, hob, hcl⟩ := hq.in hst hW hH
  refine t_catch2 C htab ⟨by decide, by decide⟩ ⟨by decide, by decide⟩ (by decide) (by decide) t_357 t_358 (fun c1 h => C.Z.2.2.2.2.2.2.2 _ _ hcl h) t_437 hcl hce hob ?_
  refine x_sx C b_Law_part_21_24 hl (L' := [(6, .ref xx), (0, .ref (sd 0)), (1, .int (nI q)), (2, .int a2), (3, .int a3), (4, .int fw), (5, .ref oa)]) (st' := [.int 2]) rfl (fun ls hl => ?_)
  exact x_irt C hr hH.2.2 ⟨(), rfl, trivial, hH.1, hH.2.1⟩ (Nat.le_of_ble_eq_true rfl) (Nat.le_of_ble_eq_true rfl) d_Law_part_24
theorem hd_Law_part : hdP y_Law_part 6 := ⟨by decide +kernel, by decide +kernel, by decide +kernel⟩
theorem b_Law_clear_0_4 : decs method_13_code [(.aload_n 2, 1), (.iconst 0, 1), (.aload_n 0, 1), (.iload_n 1, 1)] 0 4 = true := by decide +kernel
theorem d_Law_clear_4 : decode method_13_code 4 = .ok (.invokevirtual 51, 3) := by decide +kernel
theorem b_Law_clear_7_8 : decs method_13_code [(.i2l, 1)] 7 8 = true := by decide +kernel
theorem d_Law_clear_8 : decode method_13_code 8 = .ok (.lastore, 1) := by decide +kernel
theorem d_Law_clear_9 : decode method_13_code 9 = .ok (.goto 6, 3) := by decide +kernel
theorem b_Law_clear_15_16 : decs method_13_code [(.iconst 0, 1)] 15 16 = true := by decide +kernel
theorem d_Law_clear_16 : decode method_13_code 16 = .ok (.ireturn, 1) := by decide +kernel
set_option maxRecDepth 100000 in
set_option maxHeartbeats 4000000 in
theorem c_Law_clear (l : Launch) (G : GG) (A : Nat → Prop) (rb : Nat) (n : Nat) (md : Int32) (rd : Nat → Nat) (sd : Nat → Nat) (ms : Nat → Int32) (fl : Nat → Nat) (mn : Nat → Nat) (sc : Nat → Int32) (ar : Nat → Nat → Int32) (b : Bt) (w0 : WF) (q : Nat) (hn : n ≤ 3) (hrb : 100 ≤ rb) (hq : q < 4) (hmq : ∀ q, q < 4 → mn q ≤ 6) (hf0 : ∀ q, q < 4 → fl q = 0 → mn q = 0) (hw3 : ∀ m, 30 ≤ m → m < 54 → w0 m = none) (oa : Nat) (f0 : Nat → Int64) (hrbE : rb = 100 ∨ rb = 200) (ho : w0 500 = some (oa, .inl (G.2.1 2, 1, .inr (.inl f0)))) : Met l y_Law_clear (Cond.codeWith y_Law_clear method_13_code 4 (some FieldType.int) [(0, 9, 12, 13)] :: wt) { frames := 11, cells := 0, slots := 0, locals := 290 } (Pre G A (cW G rb n md rd sd ms fl mn sc ar b w0) (fun _ => True) [.ref (sd 0), .int (nI q), .ref oa]) (Qx1 (X := Unit) A (fun _ => .int 0) (fun _ _ => True) G (fun _ => (cW G rb n md rd sd (va_up ms (2 + q) (ms (2 + q) + 1)) fl (va_up mn q 0) sc (va_up ar 8 (upd (ar 8) q 0)) b (va_up w0 500 (some (oa, .inl (G.2.1 2, 1, .inr (.inl (vp_updL f0 0 (nI (mn q)).toInt64))))))))) 0 0 A := by
  refine mtW_of (by decide) (Nat.le_of_ble_eq_true rfl) ?_
  intro p e s m below meth c ls C hH hA hE hr htab hl
  have hl : lv_has ls 4 [(0, .ref (sd 0)), (1, .int (nI q)), (2, .ref oa)] := hl
  refine x_sx C b_Law_clear_0_4 hl (L' := [(0, .ref (sd 0)), (1, .int (nI q)), (2, .ref oa)]) (st' := [.int (nI q), .ref (sd 0), .int 0, .ref oa]) rfl (fun ls hl => ?_)
  refine x_q1 (x_cV C hH.1 ((rW_0 (Or.inl (by omega)) hn).trans sp_0) rfl (c_SP_clear l G A rb n md rd sd ms fl mn sc ar b w0 q hn hrb hq hmq hf0 hw3) t_613 t_1 t_610 t_611 t_612 hd_SP_clear blind_Pre (pre_mt C hH hA trivial) (As := [.int (nI q)]) (rest := [.int 0, .ref oa]) rfl hl.1 rfl rfl rfl ⟨Nat.le_of_ble_eq_true rfl, Nat.le_of_ble_eq_true rfl⟩ (Nat.le_of_ble_eq_true rfl) ⟨Nat.le_of_ble_eq_true rfl, Nat.le_of_ble_eq_true rfl⟩ d_Law_clear_4) hH.2.2 (fun x H locs hx hH hz => ?_)
  refine x_sx C b_Law_clear_7_8 hl (L' := [(0, .ref (sd 0)), (1, .int (nI q)), (2, .ref oa)]) (st' := [.long (nI (mn q)).toInt64, .int 0, .ref oa]) rfl (fun ls hl => ?_)
  refine x_lst C hH 500 ((cW_hi (by decide) hn (by omega)).trans ho) (j := 0) rfl (by decide) (by decide) d_Law_clear_8 (fun H locs hH => ?_)
  rw [cW_up (by decide) hn (by omega)] at hH
  refine x_goto (tgt := 15) C d_Law_clear_9 (by decide) ?_
  refine x_sx C b_Law_clear_15_16 hl (L' := [(0, .ref (sd 0)), (1, .int (nI q)), (2, .ref oa)]) (st' := [.int 0]) rfl (fun ls hl => ?_)
  exact x_irt C hr hH.2.2 ⟨x, rfl, hx, hH.1, hH.2.1⟩ (Nat.le_of_ble_eq_true rfl) (Nat.le_of_ble_eq_true rfl) d_Law_clear_16
theorem b_Law_clear_12_14 : decs method_13_code [(.astore_n 3, 1), (.iconst 1, 1)] 12 14 = true := by decide +kernel
theorem d_Law_clear_14 : decode method_13_code 14 = .ok (.ireturn, 1) := by decide +kernel
set_option maxRecDepth 100000 in
set_option maxHeartbeats 4000000 in
theorem c_Law_clear_1 (l : Launch) (G : GG) (A : Nat → Prop) (rb : Nat) (n : Nat) (md : Int32) (rd : Nat → Nat) (sd : Nat → Nat) (ms : Nat → Int32) (fl : Nat → Nat) (mn : Nat → Nat) (sc : Nat → Int32) (ar : Nat → Nat → Int32) (b : Bt) (w0 : WF) (a1 : Int32) (hfl : l.flags = pinnedFlags ++ [noTraceFlag]) (hn : n ≤ 3) (hrb : 100 ≤ rb) (hv : ¬ (p_in a1 0 3 = 1)) (oa : Nat) (f0 : Nat → Int64) (hrbE : rb = 100 ∨ rb = 200) (ho : w0 500 = some (oa, .inl (G.2.1 2, 1, .inr (.inl f0)))) : Met l y_Law_clear (Cond.codeWith y_Law_clear method_13_code 4 (some FieldType.int) [(0, 9, 12, 13)] :: wt) { frames := 11, cells := 1, slots := 6, locals := 290 } (Pre G A (cW G rb n md rd sd ms fl mn sc ar b w0) (fun _ => True) [.ref (sd 0), .int a1, .ref oa]) (Qx1 (X := Unit) A (fun _ => .int 1) (fun _ _ => True) G (fun _ => (cW G rb n md rd sd ms fl mn sc ar b w0))) 1 6 A := by
  refine mtW_of (by decide) (Nat.le_of_ble_eq_true rfl) ?_
  intro p e s m below meth c ls C hH hA hE hr htab hl
  have hl : lv_has ls 4 [(0, .ref (sd 0)), (1, .int a1), (2, .ref oa)] := hl
  refine x_sx C b_Law_clear_0_4 hl (L' := [(0, .ref (sd 0)), (1, .int a1), (2, .ref oa)]) (st' := [.int a1, .ref (sd 0), .int 0, .ref oa]) rfl (fun ls hl => ?_)
  refine t_V C hH.1 ((rW_0 (Or.inl (by omega)) hn).trans sp_0) rfl (c_SP_clear_1 l G rb n md rd sd ms fl mn sc ar b w0 a1 hfl hn hrb hv) t_613 t_1 t_610 t_611 t_612 hd_SP_clear blind_Pro (pre_ro C hH.1 hH.2.2) (As := [.int a1]) (rest := [.int 0, .ref oa]) rfl hl.1 rfl rfl rfl ⟨(Nat.le_of_ble_eq_true rfl), (Nat.le_of_ble_eq_true rfl)⟩ (Nat.le_of_ble_eq_true rfl) ⟨(Nat.le_of_ble_eq_true rfl), (Nat.le_of_ble_eq_true rfl)⟩ d_Law_clear_4 (fun xx st t hst hW hq => ?_)
  obtain ⟨ce, hH, hce, hob, hcl⟩ := hq.in hst hW hH
  refine t_catch1 C htab ⟨by decide, by decide⟩ (by decide) t_357 t_371 hcl hce hob ?_
  refine x_sx C b_Law_clear_12_14 hl (L' := [(3, .ref xx), (0, .ref (sd 0)), (1, .int a1), (2, .ref oa)]) (st' := [.int 1]) rfl (fun ls hl => ?_)
  exact x_irt C hr hH.2.2 ⟨(), rfl, trivial, hH.1, hH.2.1⟩ (Nat.le_of_ble_eq_true rfl) (Nat.le_of_ble_eq_true rfl) d_Law_clear_14
theorem hd_Law_clear : hdP y_Law_clear 3 := ⟨by decide +kernel, by decide +kernel, by decide +kernel⟩
theorem b_Law_best_0_3 : decs method_14_code [(.aload_n 1, 1), (.iconst 0, 1), (.aload_n 0, 1)] 0 3 = true := by decide +kernel
theorem d_Law_best_3 : decode method_14_code 3 = .ok (.invokevirtual 54, 3) := by decide +kernel
theorem b_Law_best_6_7 : decs method_14_code [(.i2l, 1)] 6 7 = true := by decide +kernel
theorem d_Law_best_7 : decode method_14_code 7 = .ok (.lastore, 1) := by decide +kernel
theorem d_Law_best_8 : decode method_14_code 8 = .ok (.goto 6, 3) := by decide +kernel
theorem b_Law_best_14_15 : decs method_14_code [(.iconst 0, 1)] 14 15 = true := by decide +kernel
theorem d_Law_best_15 : decode method_14_code 15 = .ok (.ireturn, 1) := by decide +kernel
set_option maxRecDepth 100000 in
set_option maxHeartbeats 4000000 in
theorem c_Law_best (l : Launch) (G : GG) (A : Nat → Prop) (rb : Nat) (n : Nat) (md : Int32) (rd : Nat → Nat) (sd : Nat → Nat) (ms : Nat → Int32) (fl : Nat → Nat) (mn : Nat → Nat) (sc : Nat → Int32) (ar : Nat → Nat → Int32) (b : Bt) (w0 : WF) (np : Nat) (st : SA) (K : SA → Prop) (hn : n ≤ 3) (hrb : 100 ≤ rb) (hrbE : rb = 100 ∨ rb = 200) (hn0 : 0 < n) (hmq : ∀ q, q < 4 → mn q ≤ 6) (hf0 : ∀ q, q < 4 → fl q = 0 → mn q = 0) (h8 : ∀ q, q < 4 → ar 8 q = nI (mn q)) (e1 : ∀ j, 1 ≤ j → j ≤ 6 → st.1 j = sc j) (e2 : ∀ i, 1 ≤ i → i ≤ 11 → st.2 i = ar i) (h1 : sc 1 = nI n) (h6 : sc 6 = nI np) (hnp : np ≤ 20) (hg : ∀ st', eqB st st' → ∀ k, k < n → rgC (bgI (bgS st'.1) st'.2 3) k) (hcn : ∀ q, q < 4 → ∀ k, k < mn q → ∃ N, N < 2 ^ 31 ∧ ar 10 (6 * q + k) = nI N) (htn : ∀ q, q < 4 → ∀ k, k < mn q → -3 ≤ ar 9 (6 * q + k) ∧ ar 9 (6 * q + k) ≤ 3) (hK : Kc n np K) (hB : ∀ st', eqB st st' → K (fBegin st')) (h12 : ∀ st', eqB st st' → ∀ q, q < 4 → (fPlan st' q).1 12 = nI (cnt ((fPlan st' q).2 17))) (hcd : ∀ (b : Bt) (g : Nat → Int32), BR b g → bsC b.2.2.2 b.2.2.1 = nI (cnt g)) (hw : ∀ m, 100 ≤ m → m < 300 → w0 m = none) (oa : Nat) (f0 : Nat → Int64) (ho : w0 500 = some (oa, .inl (G.2.1 2, 1, .inr (.inl f0)))) : Met l y_Law_best (Cond.codeWith y_Law_best method_14_code 3 (some FieldType.int) [(0, 8, 11, 15)] :: wt) { frames := 11, cells := 80, slots := 2224, locals := 290 } (Pre G A (cW G rb n md rd sd ms fl mn sc ar b w0) (fun _ => True) [.ref (sd 0), .ref oa]) (Qx1 (X := Unit) A (fun _ => .int 0) (fun _ _ => True) G (fun _ => (cW G rb n md rd sd ms fl mn sc ar b (va_up w0 500 (some (oa, .inl (G.2.1 2, 1, .inr (.inl (vp_updL f0 0 (bsI st 4).2.1.toInt64))))))))) 80 2224 A := by
  refine mtW_of (by decide) (Nat.le_of_ble_eq_true rfl) ?_
  intro p e s m below meth c ls C hH hA hE hr htab hl
  have hl : lv_has ls 3 [(0, .ref (sd 0)), (1, .ref oa)] := hl
  refine x_sx C b_Law_best_0_3 hl (L' := [(0, .ref (sd 0)), (1, .ref oa)]) (st' := [.ref (sd 0), .int 0, .ref oa]) rfl (fun ls hl => ?_)
  refine x_q1 (x_cV C hH.1 ((rW_0 (Or.inl (by omega)) hn).trans sp_0) rfl (c_SP_best l G A rb n md rd sd ms fl mn sc ar b w0 np st K hn hrb hrbE hn0 hmq hf0 h8 e1 e2 h1 h6 hnp hg hcn htn hK hB h12 hcd hw) t_624 t_1 t_621 t_622 t_623 hd_SP_best blind_Pre (pre_mt C hH hA trivial) (As := []) (rest := [.int 0, .ref oa]) rfl hl.1 rfl rfl rfl ⟨Nat.le_of_ble_eq_true rfl, Nat.le_of_ble_eq_true rfl⟩ (Nat.le_of_ble_eq_true rfl) ⟨Nat.le_of_ble_eq_true rfl, Nat.le_of_ble_eq_true rfl⟩ d_Law_best_3) hH.2.2 (fun x H locs hx hH hz => ?_)
  refine x_sx C b_Law_best_6_7 hl (L' := [(0, .ref (sd 0)), (1, .ref oa)]) (st' := [.long (bsI st 4).2.1.toInt64, .int 0, .ref oa]) rfl (fun ls hl => ?_)
  refine x_lst C hH 500 ((cW_hi (by decide) hn (by omega)).trans ho) (j := 0) rfl (by decide) (by decide) d_Law_best_7 (fun H locs hH => ?_)
  rw [cW_up (by decide) hn (by omega)] at hH
  refine x_goto (tgt := 14) C d_Law_best_8 (by decide) ?_
  refine x_sx C b_Law_best_14_15 hl (L' := [(0, .ref (sd 0)), (1, .ref oa)]) (st' := [.int 0]) rfl (fun ls hl => ?_)
  exact x_irt C hr hH.2.2 ⟨x, rfl, hx, hH.1, hH.2.1⟩ (Nat.le_of_ble_eq_true rfl) (Nat.le_of_ble_eq_true rfl) d_Law_best_15
theorem b_Law_best_11_13 : decs method_14_code [(.astore_n 2, 1), (.iconst 1, 1)] 11 13 = true := by decide +kernel
theorem d_Law_best_13 : decode method_14_code 13 = .ok (.ireturn, 1) := by decide +kernel
set_option maxRecDepth 100000 in
set_option maxHeartbeats 4000000 in
theorem c_Law_best_1 (l : Launch) (G : GG) (A : Nat → Prop) (rb : Nat) (n : Nat) (md : Int32) (rd : Nat → Nat) (sd : Nat → Nat) (ms : Nat → Int32) (fl : Nat → Nat) (mn : Nat → Nat) (sc : Nat → Int32) (ar : Nat → Nat → Int32) (b : Bt) (w0 : WF) (hfl : l.flags = pinnedFlags ++ [noTraceFlag]) (hn : n ≤ 3) (hrb : 100 ≤ rb) (h0 : n = 0) (oa : Nat) (f0 : Nat → Int64) (hrbE : rb = 100 ∨ rb = 200) (ho : w0 500 = some (oa, .inl (G.2.1 2, 1, .inr (.inl f0)))) : Met l y_Law_best (Cond.codeWith y_Law_best method_14_code 3 (some FieldType.int) [(0, 8, 11, 15)] :: wt) { frames := 11, cells := 1, slots := 6, locals := 290 } (Pre G A (cW G rb n md rd sd ms fl mn sc ar b w0) (fun _ => True) [.ref (sd 0), .ref oa]) (Qx1 (X := Unit) A (fun _ => .int 1) (fun _ _ => True) G (fun _ => (cW G rb n md rd sd ms fl mn sc ar b w0))) 1 6 A := by
  refine mtW_of (by decide) (Nat.le_of_ble_eq_true rfl) ?_
  intro p e s m below meth c ls C hH hA hE hr htab hl
  have hl : lv_has ls 3 [(0, .ref (sd 0)), (1, .ref oa)] := hl
  refine x_sx C b_Law_best_0_3 hl (L' := [(0, .ref (sd 0)), (1, .ref oa)]) (st' := [.ref (sd 0), .int 0, .ref oa]) rfl (fun ls hl => ?_)
  refine t_V C hH.1 ((rW_0 (Or.inl (by omega)) hn).trans sp_0) rfl (c_SP_best_1 l G rb n md rd sd ms fl mn sc ar b w0 hfl hn hrb h0) t_624 t_1 t_621 t_622 t_623 hd_SP_best blind_Pro (pre_ro C hH.1 hH.2.2) (As := []) (rest := [.int 0, .ref oa]) rfl hl.1 rfl rfl rfl ⟨(Nat.le_of_ble_eq_true rfl), (Nat.le_of_ble_eq_true rfl)⟩ (Nat.le_of_ble_eq_true rfl) ⟨(Nat.le_of_ble_eq_true rfl), (Nat.le_of_ble_eq_true rfl)⟩ d_Law_best_3 (fun xx st t hst hW hq => ?_)
  obtain ⟨ce, hH, hce, hob, hcl⟩ := hq.in hst hW hH
  refine t_catch1 C htab ⟨by decide, by decide⟩ (by decide) t_358 t_437 hcl hce hob ?_
  refine x_sx C b_Law_best_11_13 hl (L' := [(2, .ref xx), (0, .ref (sd 0)), (1, .ref oa)]) (st' := [.int 1]) rfl (fun ls hl => ?_)
  exact x_irt C hr hH.2.2 ⟨(), rfl, trivial, hH.1, hH.2.1⟩ (Nat.le_of_ble_eq_true rfl) (Nat.le_of_ble_eq_true rfl) d_Law_best_13
theorem hd_Law_best : hdP y_Law_best 2 := ⟨by decide +kernel, by decide +kernel, by decide +kernel⟩
theorem b_Law_sweeps_0_4 : decs method_15_code [(.aload_n 2, 1), (.iconst 0, 1), (.aload_n 0, 1), (.iload_n 1, 1)] 0 4 = true := by decide +kernel
theorem d_Law_sweeps_4 : decode method_15_code 4 = .ok (.invokevirtual 58, 3) := by decide +kernel
theorem b_Law_sweeps_7_8 : decs method_15_code [(.i2l, 1)] 7 8 = true := by decide +kernel
theorem d_Law_sweeps_8 : decode method_15_code 8 = .ok (.lastore, 1) := by decide +kernel
theorem d_Law_sweeps_9 : decode method_15_code 9 = .ok (.goto 9, 3) := by decide +kernel
theorem b_Law_sweeps_18_19 : decs method_15_code [(.iconst 0, 1)] 18 19 = true := by decide +kernel
theorem d_Law_sweeps_19 : decode method_15_code 19 = .ok (.ireturn, 1) := by decide +kernel
set_option maxRecDepth 100000 in
set_option maxHeartbeats 4000000 in
theorem c_Law_sweeps (l : Launch) (G : GG) (A : Nat → Prop) (rb : Nat) (n : Nat) (md : Int32) (rd : Nat → Nat) (sd : Nat → Nat) (ms : Nat → Int32) (fl : Nat → Nat) (mn : Nat → Nat) (sc : Nat → Int32) (ar : Nat → Nat → Int32) (b : Bt) (w0 : WF) (q : Nat) (np : Nat) (sc1 : Nat → Int32) (ar1 : Nat → Nat → Int32) (K : SA → Prop) (hn : n ≤ 3) (hrb : 100 ≤ rb) (hrbE : rb = 100 ∨ rb = 200) (hn0 : 0 < n) (hq : q < 4) (hmq : ∀ q, q < 4 → mn q ≤ 6) (hf0 : ∀ q, q < 4 → fl q = 0 → mn q = 0) (h8 : ar 8 q = nI (mn q)) (e1 : ∀ j, 2 ≤ j → j ≤ 6 → sc1 j = sc j) (e2 : ∀ i, 1 ≤ i → i ≤ 11 → ar1 i = ar i) (h1 : sc1 1 = nI n) (h6 : sc1 6 = nI np) (hnp : np ≤ 20) (hg : ∀ k, k < n → rgC (bgI (bgS sc1) ar1 3) k) (hcn : ∀ k, k < mn q → ∃ N, N < 2 ^ 31 ∧ ar 10 (6 * q + k) = nI N) (htn : ∀ k, k < mn q → -3 ≤ ar 9 (6 * q + k) ∧ ar 9 (6 * q + k) ≤ 3) (hK : Kc n np K) (hB : K (fBegin (sc1, ar1))) (hcd : ∀ (b : Bt) (g : Nat → Int32), BR b g → bsC b.2.2.2 b.2.2.1 = nI (cnt g)) (hw : ∀ m, 100 ≤ m → m < 300 → w0 m = none) (oa : Nat) (f0 : Nat → Int64) (ho : w0 500 = some (oa, .inl (G.2.1 2, 1, .inr (.inl f0)))) : Met l y_Law_sweeps (Cond.codeWith y_Law_sweeps method_15_code 4 (some FieldType.int) [(0, 9, 12, 13), (0, 9, 15, 15)] :: wt) { frames := 11, cells := 20, slots := 556, locals := 290 } (Pre G A (cW G rb n md rd sd ms fl mn sc ar b w0) (fun _ => True) [.ref (sd 0), .int (nI q), .ref oa]) (Qx1 (X := Unit) A (fun _ => .int 0) (fun _ _ => True) G (fun _ => (cW G rb n md rd sd ms fl mn sc ar b (va_up w0 500 (some (oa, .inl (G.2.1 2, 1, .inr (.inl (vp_updL f0 0 (nI (cnt ((fPlan (sc1, ar1) q).2 17))).toInt64))))))))) 20 556 A := by
  refine mtW_of (by decide) (Nat.le_of_ble_eq_true rfl) ?_
  intro p e s m below meth c ls C hH hA hE hr htab hl
  have hl : lv_has ls 4 [(0, .ref (sd 0)), (1, .int (nI q)), (2, .ref oa)] := hl
  refine x_sx C b_Law_sweeps_0_4 hl (L' := [(0, .ref (sd 0)), (1, .int (nI q)), (2, .ref oa)]) (st' := [.int (nI q), .ref (sd 0), .int 0, .ref oa]) rfl (fun ls hl => ?_)
  refine x_q1 (x_cV C hH.1 ((rW_0 (Or.inl (by omega)) hn).trans sp_0) rfl (c_SP_sweeps l G A rb n md rd sd ms fl mn sc ar b w0 q np sc1 ar1 K hn hrb hrbE hn0 hq hmq hf0 h8 e1 e2 h1 h6 hnp hg hcn htn hK hB hcd hw) t_635 t_1 t_632 t_633 t_634 hd_SP_sweeps blind_Pre (pre_mt C hH hA trivial) (As := [.int (nI q)]) (rest := [.int 0, .ref oa]) rfl hl.1 rfl rfl rfl ⟨Nat.le_of_ble_eq_true rfl, Nat.le_of_ble_eq_true rfl⟩ (Nat.le_of_ble_eq_true rfl) ⟨Nat.le_of_ble_eq_true rfl, Nat.le_of_ble_eq_true rfl⟩ d_Law_sweeps_4) hH.2.2 (fun x H locs hx hH hz => ?_)
  refine x_sx C b_Law_sweeps_7_8 hl (L' := [(0, .ref (sd 0)), (1, .int (nI q)), (2, .ref oa)]) (st' := [.long (nI (cnt ((fPlan (sc1, ar1) q).2 17))).toInt64, .int 0, .ref oa]) rfl (fun ls hl => ?_)
  refine x_lst C hH 500 ((cW_hi (by decide) hn (by omega)).trans ho) (j := 0) rfl (by decide) (by decide) d_Law_sweeps_8 (fun H locs hH => ?_)
  rw [cW_up (by decide) hn (by omega)] at hH
  refine x_goto (tgt := 18) C d_Law_sweeps_9 (by decide) ?_
  refine x_sx C b_Law_sweeps_18_19 hl (L' := [(0, .ref (sd 0)), (1, .int (nI q)), (2, .ref oa)]) (st' := [.int 0]) rfl (fun ls hl => ?_)
  exact x_irt C hr hH.2.2 ⟨x, rfl, hx, hH.1, hH.2.1⟩ (Nat.le_of_ble_eq_true rfl) (Nat.le_of_ble_eq_true rfl) d_Law_sweeps_19
theorem b_Law_sweeps_12_14 : decs method_15_code [(.astore_n 3, 1), (.iconst 1, 1)] 12 14 = true := by decide +kernel
theorem d_Law_sweeps_14 : decode method_15_code 14 = .ok (.ireturn, 1) := by decide +kernel
set_option maxRecDepth 100000 in
set_option maxHeartbeats 4000000 in
theorem c_Law_sweeps_1 (l : Launch) (G : GG) (A : Nat → Prop) (rb : Nat) (n : Nat) (md : Int32) (rd : Nat → Nat) (sd : Nat → Nat) (ms : Nat → Int32) (fl : Nat → Nat) (mn : Nat → Nat) (sc : Nat → Int32) (ar : Nat → Nat → Int32) (b : Bt) (w0 : WF) (a1 : Int32) (hfl : l.flags = pinnedFlags ++ [noTraceFlag]) (hn : n ≤ 3) (hrb : 100 ≤ rb) (hv : ¬ (p_in a1 0 3 = 1)) (oa : Nat) (f0 : Nat → Int64) (hrbE : rb = 100 ∨ rb = 200) (ho : w0 500 = some (oa, .inl (G.2.1 2, 1, .inr (.inl f0)))) : Met l y_Law_sweeps (Cond.codeWith y_Law_sweeps method_15_code 4 (some FieldType.int) [(0, 9, 12, 13), (0, 9, 15, 15)] :: wt) { frames := 11, cells := 1, slots := 6, locals := 290 } (Pre G A (cW G rb n md rd sd ms fl mn sc ar b w0) (fun _ => True) [.ref (sd 0), .int a1, .ref oa]) (Qx1 (X := Unit) A (fun _ => .int 1) (fun _ _ => True) G (fun _ => (cW G rb n md rd sd ms fl mn sc ar b w0))) 1 6 A := by
  refine mtW_of (by decide) (Nat.le_of_ble_eq_true rfl) ?_
  intro p e s m below meth c ls C hH hA hE hr htab hl
  have hl : lv_has ls 4 [(0, .ref (sd 0)), (1, .int a1), (2, .ref oa)] := hl
  refine x_sx C b_Law_sweeps_0_4 hl (L' := [(0, .ref (sd 0)), (1, .int a1), (2, .ref oa)]) (st' := [.int a1, .ref (sd 0), .int 0, .ref oa]) rfl (fun ls hl => ?_)
  refine t_V C hH.1 ((rW_0 (Or.inl (by omega)) hn).trans sp_0) rfl (c_SP_sweeps_1 l G rb n md rd sd ms fl mn sc ar b w0 a1 hfl hn hrb hv) t_635 t_1 t_632 t_633 t_634 hd_SP_sweeps blind_Pro (pre_ro C hH.1 hH.2.2) (As := [.int a1]) (rest := [.int 0, .ref oa]) rfl hl.1 rfl rfl rfl ⟨(Nat.le_of_ble_eq_true rfl), (Nat.le_of_ble_eq_true rfl)⟩ (Nat.le_of_ble_eq_true rfl) ⟨(Nat.le_of_ble_eq_true rfl), (Nat.le_of_ble_eq_true rfl)⟩ d_Law_sweeps_4 (fun xx st t hst hW hq => ?_)
  obtain ⟨ce, hH, hce, hob, hcl⟩ := hq.in hst hW hH
  refine t_catch1 C htab ⟨by decide, by decide⟩ (by decide) t_357 t_371 hcl hce hob ?_
  refine x_sx C b_Law_sweeps_12_14 hl (L' := [(3, .ref xx), (0, .ref (sd 0)), (1, .int a1), (2, .ref oa)]) (st' := [.int 1]) rfl (fun ls hl => ?_)
  exact x_irt C hr hH.2.2 ⟨(), rfl, trivial, hH.1, hH.2.1⟩ (Nat.le_of_ble_eq_true rfl) (Nat.le_of_ble_eq_true rfl) d_Law_sweeps_14
theorem b_Law_sweeps_15_17 : decs method_15_code [(.astore_n 3, 1), (.iconst 2, 1)] 15 17 = true := by decide +kernel
theorem d_Law_sweeps_17 : decode method_15_code 17 = .ok (.ireturn, 1) := by decide +kernel
set_option maxRecDepth 100000 in
set_option maxHeartbeats 4000000 in
theorem c_Law_sweeps_2 (l : Launch) (G : GG) (A : Nat → Prop) (rb : Nat) (n : Nat) (md : Int32) (rd : Nat → Nat) (sd : Nat → Nat) (ms : Nat → Int32) (fl : Nat → Nat) (mn : Nat → Nat) (sc : Nat → Int32) (ar : Nat → Nat → Int32) (b : Bt) (w0 : WF) (q : Nat) (hfl : l.flags = pinnedFlags ++ [noTraceFlag]) (hn : n ≤ 3) (hrb : 100 ≤ rb) (hq : q < 4) (h0 : n = 0) (oa : Nat) (f0 : Nat → Int64) (hrbE : rb = 100 ∨ rb = 200) (ho : w0 500 = some (oa, .inl (G.2.1 2, 1, .inr (.inl f0)))) : Met l y_Law_sweeps (Cond.codeWith y_Law_sweeps method_15_code 4 (some FieldType.int) [(0, 9, 12, 13), (0, 9, 15, 15)] :: wt) { frames := 11, cells := 1, slots := 6, locals := 290 } (Pre G A (cW G rb n md rd sd ms fl mn sc ar b w0) (fun _ => True) [.ref (sd 0), .int (nI q), .ref oa]) (Qx1 (X := Unit) A (fun _ => .int 2) (fun _ _ => True) G (fun _ => (cW G rb n md rd sd ms fl mn sc ar b w0))) 1 6 A := by
  refine mtW_of (by decide) (Nat.le_of_ble_eq_true rfl) ?_
  intro p e s m below meth c ls C hH hA hE hr htab hl
  have hl : lv_has ls 4 [(0, .ref (sd 0)), (1, .int (nI q)), (2, .ref oa)] := hl
  refine x_sx C b_Law_sweeps_0_4 hl (L' := [(0, .ref (sd 0)), (1, .int (nI q)), (2, .ref oa)]) (st' := [.int (nI q), .ref (sd 0), .int 0, .ref oa]) rfl (fun ls hl => ?_)
  refine t_V C hH.1 ((rW_0 (Or.inl (by omega)) hn).trans sp_0) rfl (c_SP_sweeps_2 l G rb n md rd sd ms fl mn sc ar b w0 q hfl hn hrb hq h0) t_635 t_1 t_632 t_633 t_634 hd_SP_sweeps blind_Pro (pre_ro C hH.1 hH.2.2) (As := [.int (nI q)]) (rest := [.int 0, .ref oa]) rfl hl.1 rfl rfl rfl ⟨(Nat.le_of_ble_eq_true rfl), (Nat.le_of_ble_eq_true rfl)⟩ (Nat.le_of_ble_eq_true rfl) ⟨(Nat.le_of_ble_eq_true rfl), (Nat.le_of_ble_eq_true rfl)⟩ d_Law_sweeps_4 (fun xx st t hst hW hq => ?_)
  obtain ⟨ce, hH, hce, hob, hcl⟩ := hq.in hst hW hH
  refine t_catch2 C htab ⟨by decide, by decide⟩ ⟨by decide, by decide⟩ (by decide) (by decide) t_357 t_358 (fun c1 h => C.Z.2.2.2.2.2.2.2 _ _ hcl h) t_437 hcl hce hob ?_
  refine x_sx C b_Law_sweeps_15_17 hl (L' := [(3, .ref xx), (0, .ref (sd 0)), (1, .int (nI q)), (2, .ref oa)]) (st' := [.int 2]) rfl (fun ls hl => ?_)
  exact x_irt C hr hH.2.2 ⟨(), rfl, trivial, hH.1, hH.2.1⟩ (Nat.le_of_ble_eq_true rfl) (Nat.le_of_ble_eq_true rfl) d_Law_sweeps_17
theorem hd_Law_sweeps : hdP y_Law_sweeps 3 := ⟨by decide +kernel, by decide +kernel, by decide +kernel⟩
