theorem bgI_s (sc : Nat → Int32) (ar : Nat → Nat → Int32) (b : Nat) : bgI sc ar (b + 1) = bgB sc (bgI sc ar b) b := by rw [bgI]
theorem bgI_17 (sc : Nat → Int32) (ar : Nat → Nat → Int32) (b : Nat) : bgI sc ar b 17 = fun _ => 0 := by
  induction b with
  | zero => rw [bgI]; rfl
  | succ b ih =>
    rw [bgI_s]
    unfold bgB
    split
    · unfold fHang
      rw [up_n _ _ (by decide), up_n _ _ (by decide), up_n _ _ (by decide), up_n _ _ (by decide), up_n _ _ (by decide)]; exact ih
    · rw [up_n _ _ (by decide), up_n _ _ (by decide), up_n _ _ (by decide)]; exact ih
theorem mvI_s (ar : Nat → Nat → Int32) (way sl : Int32) (i : Nat) : mvI ar way sl (i + 1) = mvB (mvI ar way sl i) way sl (i + 1) := by rw [mvI]
theorem grI_s (st : SA) (i : Nat) : grI st (i + 1) = grB (grI st i) (i + 1) := by rw [grI]
theorem fHang_n (ar : Nat → Nat → Int32) (k : Nat) {i : Nat} (h1 : i ≠ 12) (h2 : i ≠ 13) : fHang ar k i = ar i := by
  unfold fHang
  rw [up_n _ _ h2, up_n _ _ h1]
theorem mvB_n (ar : Nat → Nat → Int32) (way sl : Int32) (b : Nat) {i : Nat} (h12 : i ≠ 12) (h13 : i ≠ 13) (h14 : i ≠ 14) (h15 : i ≠ 15) : mvB ar way sl b i = ar i := by
  unfold mvB
  rw [fHang_n _ _ h12 h13, up_n _ _ h15, up_n _ _ h14, up_n _ _ h15]
theorem mvI_n (ar : Nat → Nat → Int32) (way sl : Int32) (b : Nat) {i : Nat} (h12 : i ≠ 12) (h13 : i ≠ 13) (h14 : i ≠ 14) (h15 : i ≠ 15) : mvI ar way sl b i = ar i := by
  induction b with
  | zero => rw [mvI]
  | succ b ih => rw [mvI_s, mvB_n _ _ _ _ h12 h13 h14 h15]; exact ih
theorem grB_sc (st : SA) (b : Nat) {j : Nat} (h : j ≠ 8) : (grB st b).1 j = st.1 j := by unfold grB; dsimp only; rw [up_n _ _ h]
theorem grB_ar (st : SA) (b : Nat) {i : Nat} (h : i ≠ 16) : (grB st b).2 i = st.2 i := by unfold grB; dsimp only; rw [up_n _ _ h]
theorem grI_sc (st : SA) (b : Nat) {j : Nat} (h : j ≠ 8) : (grI st b).1 j = st.1 j := by
  induction b with
  | zero => rw [grI]
  | succ b ih => rw [grI_s, grB_sc _ _ h]; exact ih
theorem grI_ar (st : SA) (b : Nat) {i : Nat} (h : i ≠ 16) : (grI st b).2 i = st.2 i := by
  induction b with
  | zero => rw [grI]
  | succ b ih => rw [grI_s, grB_ar _ _ h]; exact ih
theorem mvA_n (sc : Nat → Int32) (ar : Nat → Nat → Int32) (turn way : Int32) {i : Nat} (h12 : i ≠ 12) (h13 : i ≠ 13) (h14 : i ≠ 14) : mvA sc ar turn way i = ar i := by
  unfold mvA
  rw [up_n _ _ h14, up_n _ _ h13, up_n _ _ h12]
theorem b_Mo_beginAnew_0_2 : decs prog_7_method_14_code [(.aload_n 0, 1), (.iconst 0, 1)] 0 2 = true := by decide +kernel
theorem d_Mo_beginAnew_2 : decode prog_7_method_14_code 2 = .ok (.putfield 122, 3) := by decide +kernel
theorem b_Mo_beginAnew_5_7 : decs prog_7_method_14_code [(.aload_n 0, 1), (.iconst 0, 1)] 5 7 = true := by decide +kernel
theorem d_Mo_beginAnew_7 : decode prog_7_method_14_code 7 = .ok (.putfield 125, 3) := by decide +kernel
theorem b_Mo_beginAnew_10_12 : decs prog_7_method_14_code [(.aload_n 0, 1), (.iconst (-1), 1)] 10 12 = true := by decide +kernel
theorem d_Mo_beginAnew_12 : decode prog_7_method_14_code 12 = .ok (.putfield 66, 3) := by decide +kernel
theorem b_Mo_beginAnew_15_17 : decs prog_7_method_14_code [(.aload_n 0, 1), (.iconst (-1), 1)] 15 17 = true := by decide +kernel
theorem d_Mo_beginAnew_17 : decode prog_7_method_14_code 17 = .ok (.putfield 69, 3) := by decide +kernel
theorem b_Mo_beginAnew_20_22 : decs prog_7_method_14_code [(.aload_n 0, 1), (.iconst (-1), 1)] 20 22 = true := by decide +kernel
theorem d_Mo_beginAnew_22 : decode prog_7_method_14_code 22 = .ok (.putfield 72, 3) := by decide +kernel
theorem b_Mo_beginAnew_25_27 : decs prog_7_method_14_code [(.aload_n 0, 1), (.iconst 0, 1)] 25 27 = true := by decide +kernel
theorem d_Mo_beginAnew_27 : decode prog_7_method_14_code 27 = .ok (.putfield 116, 3) := by decide +kernel
theorem b_Mo_beginAnew_30_32 : decs prog_7_method_14_code [(.iconst 0, 1), (.istore_n 1, 1)] 30 32 = true := by decide +kernel
theorem b_Mo_beginAnew_32_36 : decs prog_7_method_14_code [(.iload_n 1, 1), (.sipush 4096, 3)] 32 36 = true := by decide +kernel
theorem d_Mo_beginAnew_36 : decode prog_7_method_14_code 36 = .ok (.if_icmp .ge 16, 3) := by decide +kernel
theorem b_Mo_beginAnew_52_53 : decs prog_7_method_14_code [(.aload_n 0, 1)] 52 53 = true := by decide +kernel
theorem d_Mo_beginAnew_53 : decode prog_7_method_14_code 53 = .ok (.getfield 51, 3) := by decide +kernel
theorem b_Mo_beginAnew_56_61 : decs prog_7_method_14_code [(.iconst 0, 1), (.sipush 4096, 3), (.aload_n 0, 1)] 56 61 = true := by decide +kernel
theorem d_Mo_beginAnew_61 : decode prog_7_method_14_code 61 = .ok (.getfield 129, 3) := by decide +kernel
theorem b_Mo_beginAnew_64_65 : decs prog_7_method_14_code [(.imul, 1)] 64 65 = true := by decide +kernel
theorem d_Mo_beginAnew_65 : decode prog_7_method_14_code 65 = .ok (.iastore, 1) := by decide +kernel
theorem b_Mo_beginAnew_66_67 : decs prog_7_method_14_code [(.aload_n 0, 1)] 66 67 = true := by decide +kernel
theorem d_Mo_beginAnew_67 : decode prog_7_method_14_code 67 = .ok (.getfield 54, 3) := by decide +kernel
theorem b_Mo_beginAnew_70_75 : decs prog_7_method_14_code [(.iconst 0, 1), (.sipush 4096, 3), (.aload_n 0, 1)] 70 75 = true := by decide +kernel
theorem d_Mo_beginAnew_75 : decode prog_7_method_14_code 75 = .ok (.getfield 132, 3) := by decide +kernel
theorem b_Mo_beginAnew_78_79 : decs prog_7_method_14_code [(.imul, 1)] 78 79 = true := by decide +kernel
theorem d_Mo_beginAnew_79 : decode prog_7_method_14_code 79 = .ok (.iastore, 1) := by decide +kernel
theorem b_Mo_beginAnew_80_82 : decs prog_7_method_14_code [(.iconst 0, 1), (.istore_n 1, 1)] 80 82 = true := by decide +kernel
theorem b_Mo_beginAnew_82_84 : decs prog_7_method_14_code [(.iload_n 1, 1), (.iconst 3, 1)] 82 84 = true := by decide +kernel
theorem d_Mo_beginAnew_84 : decode prog_7_method_14_code 84 = .ok (.if_icmp .ge 50, 3) := by decide +kernel
theorem b_Mo_beginAnew_134_135 : decs prog_7_method_14_code [(.aload_n 0, 1)] 134 135 = true := by decide +kernel
theorem d_Mo_beginAnew_135 : decode prog_7_method_14_code 135 = .ok (.invokevirtual 142, 3) := by decide +kernel
theorem d_Mo_beginAnew_138 : decode prog_7_method_14_code 138 = .ok (.return_, 1) := by decide +kernel
theorem b_Mo_beginAnew_87_88 : decs prog_7_method_14_code [(.aload_n 0, 1)] 87 88 = true := by decide +kernel
theorem d_Mo_beginAnew_88 : decode prog_7_method_14_code 88 = .ok (.getfield 57, 3) := by decide +kernel
theorem b_Mo_beginAnew_91_93 : decs prog_7_method_14_code [(.iload_n 1, 1), (.aload_n 0, 1)] 91 93 = true := by decide +kernel
theorem d_Mo_beginAnew_93 : decode prog_7_method_14_code 93 = .ok (.getfield 135, 3) := by decide +kernel
theorem d_Mo_beginAnew_96 : decode prog_7_method_14_code 96 = .ok (.iastore, 1) := by decide +kernel
theorem b_Mo_beginAnew_97_98 : decs prog_7_method_14_code [(.aload_n 0, 1)] 97 98 = true := by decide +kernel
theorem d_Mo_beginAnew_98 : decode prog_7_method_14_code 98 = .ok (.getfield 60, 3) := by decide +kernel
theorem b_Mo_beginAnew_101_103 : decs prog_7_method_14_code [(.iload_n 1, 1), (.iconst 0, 1)] 101 103 = true := by decide +kernel
theorem d_Mo_beginAnew_103 : decode prog_7_method_14_code 103 = .ok (.iastore, 1) := by decide +kernel
theorem b_Mo_beginAnew_104_105 : decs prog_7_method_14_code [(.aload_n 0, 1)] 104 105 = true := by decide +kernel
theorem d_Mo_beginAnew_105 : decode prog_7_method_14_code 105 = .ok (.getfield 63, 3) := by decide +kernel
theorem b_Mo_beginAnew_108_110 : decs prog_7_method_14_code [(.iload_n 1, 1), (.iconst 0, 1)] 108 110 = true := by decide +kernel
theorem d_Mo_beginAnew_110 : decode prog_7_method_14_code 110 = .ok (.iastore, 1) := by decide +kernel
theorem b_Mo_beginAnew_111_112 : decs prog_7_method_14_code [(.iload_n 1, 1)] 111 112 = true := by decide +kernel
theorem d_Mo_beginAnew_112 : decode prog_7_method_14_code 112 = .ok (.ifCond .le 16, 3) := by decide +kernel
theorem b_Mo_beginAnew_128_131 : decs prog_7_method_14_code [(.iinc 1 1, 3)] 128 131 = true := by decide +kernel
theorem d_Mo_beginAnew_131 : decode prog_7_method_14_code 131 = .ok (.goto (-49), 3) := by decide +kernel
theorem b_Mo_beginAnew_115_117 : decs prog_7_method_14_code [(.iload_n 1, 1), (.aload_n 0, 1)] 115 117 = true := by decide +kernel
theorem d_Mo_beginAnew_117 : decode prog_7_method_14_code 117 = .ok (.getfield 84, 3) := by decide +kernel
theorem d_Mo_beginAnew_120 : decode prog_7_method_14_code 120 = .ok (.if_icmp .ge 8, 3) := by decide +kernel
theorem b_Mo_beginAnew_123_125 : decs prog_7_method_14_code [(.aload_n 0, 1), (.iload_n 1, 1)] 123 125 = true := by decide +kernel
theorem d_Mo_beginAnew_125 : decode prog_7_method_14_code 125 = .ok (.invokevirtual 138, 3) := by decide +kernel
theorem b_Mo_beginAnew_39_40 : decs prog_7_method_14_code [(.aload_n 0, 1)] 39 40 = true := by decide +kernel
theorem d_Mo_beginAnew_40 : decode prog_7_method_14_code 40 = .ok (.getfield 75, 3) := by decide +kernel
theorem b_Mo_beginAnew_43_45 : decs prog_7_method_14_code [(.iload_n 1, 1), (.iconst 0, 1)] 43 45 = true := by decide +kernel
theorem d_Mo_beginAnew_45 : decode prog_7_method_14_code 45 = .ok (.bastore, 1) := by decide +kernel
theorem b_Mo_beginAnew_46_49 : decs prog_7_method_14_code [(.iinc 1 1, 3)] 46 49 = true := by decide +kernel
theorem d_Mo_beginAnew_49 : decode prog_7_method_14_code 49 = .ok (.goto (-17), 3) := by decide +kernel
set_option maxRecDepth 100000 in
set_option maxHeartbeats 4000000 in
theorem c_Mo_beginAnew (l : Launch) (G : GG) (A : Nat → Prop) (ad : Nat → Nat) (w0 : WF) (sc : Nat → Int32) (ar : Nat → Nat → Int32) (n np : Nat) (h1 : sc 1 = nI n) (hn : n ≤ 3) (h6 : sc 6 = nI np) (hnp : np ≤ 20) (hg : ∀ k, k < n → rgT (bgI (bgS sc) ar 3) k) : Met l y_Mo_beginAnew (Cond.code y_Mo_beginAnew prog_7_method_14_code 2 none :: wt) { frames := 4, cells := 0, slots := 0, locals := 106 } (Pre G A (mW G ad w0 sc ar) (fun _ => True) [.ref (ad 20)]) (Qw A none G (mW G ad w0 (fBegin (sc, ar)).1 (fBegin (sc, ar)).2)) 0 0 A := by
  refine mt_of (by decide) (Nat.le_of_ble_eq_true rfl) ?_
  intro p e s m below meth c ls C hH hA hE hr hmn hl
  have hl : lv_has ls 2 [(0, .ref (ad 20))] := hl
  refine x_sx C b_Mo_beginAnew_0_2 hl (L' := [(0, .ref (ad 20))]) (st' := [.int 0, .ref (ad 20)]) rfl (fun ls hl => ?_)
  refine m_put C hH 24 7 rfl (by decide) t_666 rfl rfl rfl rfl d_Mo_beginAnew_2 (fun H locs hH => ?_)
  refine x_sx C b_Mo_beginAnew_5_7 hl (L' := [(0, .ref (ad 20))]) (st' := [.int 0, .ref (ad 20)]) rfl (fun ls hl => ?_)
  refine m_put C hH 25 8 rfl (by decide) t_667 rfl rfl rfl rfl d_Mo_beginAnew_7 (fun H locs hH => ?_)
  refine x_sx C b_Mo_beginAnew_10_12 hl (L' := [(0, .ref (ad 20))]) (st' := [.int (-1), .ref (ad 20)]) rfl (fun ls hl => ?_)
  refine m_put C hH 26 9 rfl (by decide) t_668 rfl rfl rfl rfl d_Mo_beginAnew_12 (fun H locs hH => ?_)
  refine x_sx C b_Mo_beginAnew_15_17 hl (L' := [(0, .ref (ad 20))]) (st' := [.int (-1), .ref (ad 20)]) rfl (fun ls hl => ?_)
  refine m_put C hH 27 10 rfl (by decide) t_669 rfl rfl rfl rfl d_Mo_beginAnew_17 (fun H locs hH => ?_)
  refine x_sx C b_Mo_beginAnew_20_22 hl (L' := [(0, .ref (ad 20))]) (st' := [.int (-1), .ref (ad 20)]) rfl (fun ls hl => ?_)
  refine m_put C hH 28 11 rfl (by decide) t_670 rfl rfl rfl rfl d_Mo_beginAnew_22 (fun H locs hH => ?_)
  refine x_sx C b_Mo_beginAnew_25_27 hl (L' := [(0, .ref (ad 20))]) (st' := [.int 0, .ref (ad 20)]) rfl (fun ls hl => ?_)
  refine m_put C hH 29 12 rfl (by decide) t_671 rfl rfl rfl rfl d_Mo_beginAnew_27 (fun H locs hH => ?_)
  refine x_sx C b_Mo_beginAnew_30_32 hl (L' := [(1, .int 0), (0, .ref (ad 20))]) (st' := []) rfl (fun ls hl => ?_)
  have hH : Hw G A s (mW G ad w0 (bgS sc) (va_up ar 17 (ar 17))) H locs := by rw [up_id ar 17 _ rfl]; exact hH
  refine x_loop (X := Nat × (Nat → Int32)) (fun x => 4096 - x.1) (fun x H locs => x.1 ≤ 4096 ∧ (∀ j, j < x.1 → x.2 j = 0) ∧ Hw G A s (mW G ad w0 (bgS sc) (va_up ar 17 x.2)) H locs) (fun x => [(0, .ref (ad 20)), (1, .int (nI x.1))]) 32 ?_ (0, ar 17) _ _ _ ⟨Nat.zero_le _, fun j hj => absurd hj (Nat.not_lt_zero j), hH⟩ (lv_sub hl [1, 0] rfl)
  intro x H locs ls hI hl IH1
  obtain ⟨k, f⟩ := x
  obtain ⟨hk, hf, hH⟩ := hI
  dsimp only at hk hf hH IH1
  have hl : lv_has ls 2 [(0, .ref (ad 20)), (1, .int (nI k))] := hl
  refine x_sx C b_Mo_beginAnew_32_36 hl (L' := [(0, .ref (ad 20)), (1, .int (nI k))]) (st' := [.int 4096, .int (nI k)]) rfl (fun ls hl => ?_)
  refine lv_icmp_ge (tgt := 52) C.1 C.2.1 d_Mo_beginAnew_36 (by decide) (fun hb => ?_) (fun hb => ?_)
  · have e1 : k = 4096 := by rw [show (4096 : Int32) = nI 4096 from rfl, nI_leI (by omega) (by omega)] at hb; omega
    have hH : Hw G A s (mW G ad w0 (bgS sc) (va_up ar 17 (fun _ => 0))) H locs := by
      refine hH.mcongr (fun i h0 h1 j hj => ?_)
      by_cases e : i = 17
      · subst e; rw [up_s, up_s]; exact hf j (by rw [e1]; exact hj)
      · rw [up_n _ _ e, up_n _ _ e]
    refine x_sx C b_Mo_beginAnew_52_53 hl (L' := [(0, .ref (ad 20)), (1, .int (nI k))]) (st' := [.ref (ad 20)]) rfl (fun ls hl => ?_)
    refine x_get C hH.1 1000 mW_o 19 (v := .ref (ad 12)) rfl rfl (by decide) t_661 (fun _ z => z) d_Mo_beginAnew_53 ?_
    refine x_sx C b_Mo_beginAnew_56_61 hl (L' := [(0, .ref (ad 20)), (1, .int (nI k))]) (st' := [.ref (ad 20), .int 4096, .int 0, .ref (ad 12)]) rfl (fun ls hl => ?_)
    refine x_get C hH.1 1000 mW_o 8 (v := .int ((bgS sc) 2)) rfl rfl (by decide) t_650 (fun _ z => z) d_Mo_beginAnew_61 ?_
    refine x_sx C b_Mo_beginAnew_64_65 hl (L' := [(0, .ref (ad 20)), (1, .int (nI k))]) (st' := [.int (4096 * ((bgS sc) 2)), .int 0, .ref (ad 12)]) rfl (fun ls hl => ?_)
    refine m_ast C hH 12 (by decide) (by decide) rfl (N := 3) rfl (f := ((va_up ar 17 (fun _ => 0)) 12)) rfl (j := 0) rfl (by decide) d_Mo_beginAnew_65 (fun H locs hH => ?_)
    refine x_sx C b_Mo_beginAnew_66_67 hl (L' := [(0, .ref (ad 20)), (1, .int (nI k))]) (st' := [.ref (ad 20)]) rfl (fun ls hl => ?_)
    refine x_get C hH.1 1000 mW_o 20 (v := .ref (ad 13)) rfl rfl (by decide) t_662 (fun _ z => z) d_Mo_beginAnew_67 ?_
    refine x_sx C b_Mo_beginAnew_70_75 hl (L' := [(0, .ref (ad 20)), (1, .int (nI k))]) (st' := [.ref (ad 20), .int 4096, .int 0, .ref (ad 13)]) rfl (fun ls hl => ?_)
    refine x_get C hH.1 1000 mW_o 9 (v := .int ((bgS sc) 3)) rfl rfl (by decide) t_651 (fun _ z => z) d_Mo_beginAnew_75 ?_
    refine x_sx C b_Mo_beginAnew_78_79 hl (L' := [(0, .ref (ad 20)), (1, .int (nI k))]) (st' := [.int (4096 * ((bgS sc) 3)), .int 0, .ref (ad 13)]) rfl (fun ls hl => ?_)
    refine m_ast C hH 13 (by decide) (by decide) rfl (N := 3) rfl (f := ((va_up ar 17 (fun _ => 0)) 13)) rfl (j := 0) rfl (by decide) d_Mo_beginAnew_79 (fun H locs hH => ?_)
    refine x_sx C b_Mo_beginAnew_80_82 hl (L' := [(1, .int 0), (0, .ref (ad 20))]) (st' := []) rfl (fun ls hl => ?_)
    have hH : Hw G A s (mW G ad w0 (bgS sc) (bgI (bgS sc) ar 0)) H locs := hH
    refine x_loop (X := Nat) (fun x => 3 - x) (fun x H locs => x ≤ 3 ∧ Hw G A s (mW G ad w0 (bgS sc) (bgI (bgS sc) ar x)) H locs) (fun x => [(0, .ref (ad 20)), (1, .int (nI x))]) 82 ?_ 0 _ _ _ ⟨by decide, hH⟩ (lv_sub hl [1, 0] rfl)
    intro b H locs ls hI hl IH2
    obtain ⟨hb3, hH⟩ := hI
    have hl : lv_has ls 2 [(0, .ref (ad 20)), (1, .int (nI b))] := hl
    have hbs := bgI_s (bgS sc) ar b
    generalize hab : bgI (bgS sc) ar b = arb at hH hbs
    refine x_sx C b_Mo_beginAnew_82_84 hl (L' := [(0, .ref (ad 20)), (1, .int (nI b))]) (st' := [.int 3, .int (nI b)]) rfl (fun ls hl => ?_)
    refine lv_icmp_ge (tgt := 134) C.1 C.2.1 d_Mo_beginAnew_84 (by decide) (fun hb => ?_) (fun hb => ?_)
    · have e2 : b = 3 := by rw [show (3 : Int32) = nI 3 from rfl, nI_leI (by omega) (by omega)] at hb; omega
      subst e2
      have hz : Z01 (arb 17) := by rw [← hab, bgI_17]; exact fun t _ => Or.inl rfl
      have hc : (bgS sc) 12 = nI (cnt (arb 17)) := by rw [← hab, bgI_17]; show (0 : Int32) = nI (cnt (fun _ => 0)); rw [show cnt (fun _ => 0) = 0 from cntN_0 4096]; rfl
      have hg2 : ∀ k, k < n → rgT arb k := by rw [← hab]; exact hg
      have hfin : fBegin (sc, ar) = lookI (bgS sc, arb) n := by unfold fBegin fLook nB; dsimp only; rw [hab, show (bgS sc) 1 = nI n from h1, nI_clamp (by omega)]
      refine x_sx C b_Mo_beginAnew_134_135 hl (L' := [(0, .ref (ad 20)), (1, .int (nI 3))]) (st' := [.ref (ad 20)]) rfl (fun ls hl => ?_)
      refine x_mw0 (x_cV C hH.1 mW_o rfl (c_Mo_look l G A ad w0 (bgS sc) arb n np h1 hn h6 hnp (show ¬ (0 : Int32) = -1 by decide) hz hc hg2) t_773 t_14 t_770 t_772 ts_18 hd_Mo_look blind_Pre (pre_mt C hH hA trivial) (As := []) (rest := []) rfl hl.1 rfl rfl rfl ⟨Nat.le_of_ble_eq_true rfl, Nat.le_of_ble_eq_true rfl⟩ (Nat.le_of_ble_eq_true rfl) ⟨Nat.zero_le _, Nat.zero_le _⟩ d_Mo_beginAnew_135) hH.2.2 (fun H locs hH => ?_)
      exact x_vrt C hr hH.2.2 ⟨rfl, by rw [hfin]; exact hH.1, by rw [hfin]; exact hH.2.1⟩ (Nat.le_refl _) (Nat.le_refl _) d_Mo_beginAnew_138
    · have hb4 : b < 3 := by rw [show (3 : Int32) = nI 3 from rfl, nI_leI (by omega) (by omega)] at hb; omega
      refine x_sx C b_Mo_beginAnew_87_88 hl (L' := [(0, .ref (ad 20)), (1, .int (nI b))]) (st' := [.ref (ad 20)]) rfl (fun ls hl => ?_)
      refine x_get C hH.1 1000 mW_o 21 (v := .ref (ad 14)) rfl rfl (by decide) t_663 (fun _ z => z) d_Mo_beginAnew_88 ?_
      refine x_sx C b_Mo_beginAnew_91_93 hl (L' := [(0, .ref (ad 20)), (1, .int (nI b))]) (st' := [.ref (ad 20), .int (nI b), .ref (ad 14)]) rfl (fun ls hl => ?_)
      refine x_get C hH.1 1000 mW_o 10 (v := .int ((bgS sc) 4)) rfl rfl (by decide) t_652 (fun _ z => z) d_Mo_beginAnew_93 ?_
      refine m_ast C hH 14 (by decide) (by decide) rfl (N := 3) rfl (f := (arb 14)) rfl (j := b) rfl hb4 d_Mo_beginAnew_96 (fun H locs hH => ?_)
      refine x_sx C b_Mo_beginAnew_97_98 hl (L' := [(0, .ref (ad 20)), (1, .int (nI b))]) (st' := [.ref (ad 20)]) rfl (fun ls hl => ?_)
      refine x_get C hH.1 1000 mW_o 22 (v := .ref (ad 15)) rfl rfl (by decide) t_664 (fun _ z => z) d_Mo_beginAnew_98 ?_
      refine x_sx C b_Mo_beginAnew_101_103 hl (L' := [(0, .ref (ad 20)), (1, .int (nI b))]) (st' := [.int 0, .int (nI b), .ref (ad 15)]) rfl (fun ls hl => ?_)
      refine m_ast C hH 15 (by decide) (by decide) rfl (N := 3) rfl (f := (arb 15)) rfl (j := b) rfl hb4 d_Mo_beginAnew_103 (fun H locs hH => ?_)
      refine x_sx C b_Mo_beginAnew_104_105 hl (L' := [(0, .ref (ad 20)), (1, .int (nI b))]) (st' := [.ref (ad 20)]) rfl (fun ls hl => ?_)
      refine x_get C hH.1 1000 mW_o 23 (v := .ref (ad 16)) rfl rfl (by decide) t_665 (fun _ z => z) d_Mo_beginAnew_105 ?_
      refine x_sx C b_Mo_beginAnew_108_110 hl (L' := [(0, .ref (ad 20)), (1, .int (nI b))]) (st' := [.int 0, .int (nI b), .ref (ad 16)]) rfl (fun ls hl => ?_)
      refine m_ast C hH 16 (by decide) (by decide) rfl (N := 3) rfl (f := (arb 16)) rfl (j := b) rfl hb4 d_Mo_beginAnew_110 (fun H locs hH => ?_)
      refine x_sx C b_Mo_beginAnew_111_112 hl (L' := [(0, .ref (ad 20)), (1, .int (nI b))]) (st' := [.int (nI b)]) rfl (fun ls hl => ?_)
      refine lv_if_le (tgt := 128) C.1 C.2.1 d_Mo_beginAnew_112 (by decide) (fun h0 => ?_) (fun h0 => ?_)
      · refine x_sx C b_Mo_beginAnew_128_131 hl (L' := [(1, .int ((nI b) + 1)), (0, .ref (ad 20))]) (st' := []) rfl (fun ls hl => ?_)
        refine x_goto (tgt := 82) C d_Mo_beginAnew_131 (by decide) ?_
        refine IH2 (b + 1) _ _ _ (by omega) ⟨by omega, ?_⟩ (by rw [← nI_1]; exact (lv_sub hl [1, 0] rfl))
        rw [hbs]; unfold bgB; rw [if_neg (fun z => absurd h0 (nI_nle z.1 (by omega)))]; exact hH
      · have h0 : 0 < b := by rcases Nat.eq_zero_or_pos b with z | z; exact absurd (by rw [z]; decide) h0; exact z
        refine x_sx C b_Mo_beginAnew_115_117 hl (L' := [(0, .ref (ad 20)), (1, .int (nI b))]) (st' := [.ref (ad 20), .int (nI b)]) rfl (fun ls hl => ?_)
        refine x_get C hH.1 1000 mW_o 2 (v := .int ((bgS sc) 1)) rfl rfl (by decide) t_644 (fun _ z => z) d_Mo_beginAnew_117 ?_
        refine lv_icmp_ge (tgt := 128) C.1 C.2.1 d_Mo_beginAnew_120 (by decide) (fun hq => ?_) (fun hq => ?_)
        · refine x_sx C b_Mo_beginAnew_128_131 hl (L' := [(1, .int ((nI b) + 1)), (0, .ref (ad 20))]) (st' := []) rfl (fun ls hl => ?_)
          refine x_goto (tgt := 82) C d_Mo_beginAnew_131 (by decide) ?_
          refine IH2 (b + 1) _ _ _ (by omega) ⟨by omega, ?_⟩ (by rw [← nI_1]; exact (lv_sub hl [1, 0] rfl))
          rw [hbs]; unfold bgB; rw [if_neg (fun z => absurd hq (Int32.not_le.mpr z.2))]; exact hH
        · refine x_sx C b_Mo_beginAnew_123_125 hl (L' := [(0, .ref (ad 20)), (1, .int (nI b))]) (st' := [.int (nI b), .ref (ad 20)]) rfl (fun ls hl => ?_)
          refine x_mw0 (x_cV C hH.1 mW_o rfl (c_Mo_hang l G A ad w0 (bgS sc) (va_up (va_up (va_up arb 14 (upd (arb 14) b ((bgS sc) 4))) 15 (upd (arb 15) b 0)) 16 (upd (arb 16) b 0)) b (by omega) hb4) t_761 t_14 t_758 t_760 ts_15 hd_Mo_hang blind_Pre (pre_mt C hH hA trivial) (As := [.int (nI b)]) (rest := []) rfl hl.1 rfl rfl rfl ⟨Nat.le_of_ble_eq_true rfl, Nat.le_of_ble_eq_true rfl⟩ (Nat.le_of_ble_eq_true rfl) ⟨Nat.zero_le _, Nat.zero_le _⟩ d_Mo_beginAnew_125) hH.2.2 (fun H locs hH => ?_)
          refine x_sx C b_Mo_beginAnew_128_131 hl (L' := [(1, .int ((nI b) + 1)), (0, .ref (ad 20))]) (st' := []) rfl (fun ls hl => ?_)
          refine x_goto (tgt := 82) C d_Mo_beginAnew_131 (by decide) ?_
          refine IH2 (b + 1) _ _ _ (by omega) ⟨by omega, ?_⟩ (by rw [← nI_1]; exact (lv_sub hl [1, 0] rfl))
          rw [hbs]; unfold bgB; rw [if_pos ⟨h0, Int32.not_le.mp hq⟩]; exact hH
  · have hk4 : k < 4096 := by rw [show (4096 : Int32) = nI 4096 from rfl, nI_leI (by omega) (by omega)] at hb; omega
    refine x_sx C b_Mo_beginAnew_39_40 hl (L' := [(0, .ref (ad 20)), (1, .int (nI k))]) (st' := [.ref (ad 20)]) rfl (fun ls hl => ?_)
    refine x_get C hH.1 1000 mW_o 30 (v := .ref (ad 17)) rfl rfl (by decide) t_672 (fun _ z => z) d_Mo_beginAnew_40 ?_
    refine x_sx C b_Mo_beginAnew_43_45 hl (L' := [(0, .ref (ad 20)), (1, .int (nI k))]) (st' := [.int 0, .int (nI k), .ref (ad 17)]) rfl (fun ls hl => ?_)
    refine m_zst C hH 17 (by decide) (by decide) rfl (N := 4096) rfl (f := ((va_up ar 17 f) 17)) rfl (j := k) rfl hk4 rfl d_Mo_beginAnew_45 (fun H locs hH => ?_)
    rw [bx_uu] at hH
    refine x_sx C b_Mo_beginAnew_46_49 hl (L' := [(1, .int ((nI k) + 1)), (0, .ref (ad 20))]) (st' := []) rfl (fun ls hl => ?_)
    refine x_goto (tgt := 32) C d_Mo_beginAnew_49 (by decide) ?_
    exact IH1 (k + 1, upd f k 0) _ _ _ (by show 4096 - (k + 1) < 4096 - k; omega) ⟨by show k + 1 ≤ 4096; omega, fun j hj => (by show upd f k 0 j = 0; unfold upd; split; rfl; exact hf j (by have : j < k + 1 := hj; omega)), hH⟩ (by rw [← nI_1]; exact (lv_sub hl [1, 0] rfl))
theorem hd_Mo_beginAnew : hdP y_Mo_beginAnew 0 := ⟨by decide +kernel, by decide +kernel, by decide +kernel⟩
