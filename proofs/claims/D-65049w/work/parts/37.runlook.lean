theorem rgC_congr {ar ar' : Nat → Nat → Int32} {k : Nat} (h : ∀ i, i ≠ 17 → ar' i = ar i) (hg : rgC ar k) : rgC ar' k := by
  unfold rgC rchC cvB at hg ⊢
  rw [h 3 (by decide), h 4 (by decide), h 5 (by decide), h 12 (by decide), h 13 (by decide), h 14 (by decide)]
  exact hg
theorem lookI_spL {G : GG} {w0 : WF} {sd : Nat → Nat} {rv : Value} {n : Nat} {sc : Nat → Int32} {ar : Nat → Nat → Int32} (k : Nat) (h : spL G w0 sd rv n sc ar) : spL G w0 sd rv n (lookI (sc, ar) k).1 (lookI (sc, ar) k).2 :=
  h.congr (fun j h1 h2 => lookI_sc (sc, ar) k (by omega) (by omega) (by omega) (by omega)) (fun i h1 h2 => lookI_ar (sc, ar) k (by omega))
theorem b_Run_look_0_2 : decs prog_4_method_3_code [(.iconst 0, 1), (.istore_n 1, 1)] 0 2 = true := by decide +kernel
theorem b_Run_look_2_4 : decs prog_4_method_3_code [(.iload_n 1, 1), (.aload_n 0, 1)] 2 4 = true := by decide +kernel
theorem d_Run_look_4 : decode prog_4_method_3_code 4 = .ok (.getfield 18, 3) := by decide +kernel
theorem d_Run_look_7 : decode prog_4_method_3_code 7 = .ok (.invokevirtual 42, 3) := by decide +kernel
theorem d_Run_look_10 : decode prog_4_method_3_code 10 = .ok (.if_icmp .ge 112, 3) := by decide +kernel
theorem d_Run_look_122 : decode prog_4_method_3_code 122 = .ok (.return_, 1) := by decide +kernel
theorem b_Run_look_13_15 : decs prog_4_method_3_code [(.aload_n 0, 1), (.aload_n 0, 1)] 13 15 = true := by decide +kernel
theorem d_Run_look_15 : decode prog_4_method_3_code 15 = .ok (.getfield 18, 3) := by decide +kernel
theorem b_Run_look_18_19 : decs prog_4_method_3_code [(.iload_n 1, 1)] 18 19 = true := by decide +kernel
theorem d_Run_look_19 : decode prog_4_method_3_code 19 = .ok (.invokevirtual 48, 3) := by decide +kernel
theorem d_Run_look_22 : decode prog_4_method_3_code 22 = .ok (.checkcast 46, 3) := by decide +kernel
theorem d_Run_look_25 : decode prog_4_method_3_code 25 = .ok (.invokevirtual 118, 3) := by decide +kernel
theorem b_Run_look_28_30 : decs prog_4_method_3_code [(.iconst 0, 1), (.istore_n 2, 1)] 28 30 = true := by decide +kernel
theorem b_Run_look_30_32 : decs prog_4_method_3_code [(.iload_n 2, 1), (.aload_n 0, 1)] 30 32 = true := by decide +kernel
theorem d_Run_look_32 : decode prog_4_method_3_code 32 = .ok (.getfield 3, 3) := by decide +kernel
theorem d_Run_look_35 : decode prog_4_method_3_code 35 = .ok (.getfield 122, 3) := by decide +kernel
theorem d_Run_look_38 : decode prog_4_method_3_code 38 = .ok (.if_icmp .ge 78, 3) := by decide +kernel
theorem b_Run_look_116_119 : decs prog_4_method_3_code [(.iinc 1 1, 3)] 116 119 = true := by decide +kernel
theorem d_Run_look_119 : decode prog_4_method_3_code 119 = .ok (.goto (-117), 3) := by decide +kernel
theorem b_Run_look_41_42 : decs prog_4_method_3_code [(.aload_n 0, 1)] 41 42 = true := by decide +kernel
theorem d_Run_look_42 : decode prog_4_method_3_code 42 = .ok (.getfield 29, 3) := by decide +kernel
theorem b_Run_look_45_46 : decs prog_4_method_3_code [(.iconst (-1), 1)] 45 46 = true := by decide +kernel
theorem d_Run_look_46 : decode prog_4_method_3_code 46 = .ok (.if_icmp .ne 70, 3) := by decide +kernel
theorem b_Run_look_49_50 : decs prog_4_method_3_code [(.aload_n 0, 1)] 49 50 = true := by decide +kernel
theorem d_Run_look_50 : decode prog_4_method_3_code 50 = .ok (.getfield 18, 3) := by decide +kernel
theorem b_Run_look_53_54 : decs prog_4_method_3_code [(.iload_n 1, 1)] 53 54 = true := by decide +kernel
theorem d_Run_look_54 : decode prog_4_method_3_code 54 = .ok (.invokevirtual 48, 3) := by decide +kernel
theorem d_Run_look_57 : decode prog_4_method_3_code 57 = .ok (.checkcast 46, 3) := by decide +kernel
theorem b_Run_look_60_61 : decs prog_4_method_3_code [(.aload_n 0, 1)] 60 61 = true := by decide +kernel
theorem d_Run_look_61 : decode prog_4_method_3_code 61 = .ok (.getfield 3, 3) := by decide +kernel
theorem d_Run_look_64 : decode prog_4_method_3_code 64 = .ok (.getfield 125, 3) := by decide +kernel
theorem b_Run_look_67_68 : decs prog_4_method_3_code [(.iload_n 2, 1)] 67 68 = true := by decide +kernel
theorem d_Run_look_68 : decode prog_4_method_3_code 68 = .ok (.iaload, 1) := by decide +kernel
theorem b_Run_look_69_74 : decs prog_4_method_3_code [(.sipush 4096, 3), (.imul, 1), (.aload_n 0, 1)] 69 74 = true := by decide +kernel
theorem d_Run_look_74 : decode prog_4_method_3_code 74 = .ok (.getfield 3, 3) := by decide +kernel
theorem d_Run_look_77 : decode prog_4_method_3_code 77 = .ok (.getfield 129, 3) := by decide +kernel
theorem b_Run_look_80_81 : decs prog_4_method_3_code [(.iload_n 2, 1)] 80 81 = true := by decide +kernel
theorem d_Run_look_81 : decode prog_4_method_3_code 81 = .ok (.iaload, 1) := by decide +kernel
theorem b_Run_look_82_86 : decs prog_4_method_3_code [(.sipush 4096, 3), (.imul, 1)] 82 86 = true := by decide +kernel
theorem d_Run_look_86 : decode prog_4_method_3_code 86 = .ok (.invokevirtual 110, 3) := by decide +kernel
theorem d_Run_look_89 : decode prog_4_method_3_code 89 = .ok (.ifCond .eq 21, 3) := by decide +kernel
theorem b_Run_look_110_113 : decs prog_4_method_3_code [(.iinc 2 1, 3)] 110 113 = true := by decide +kernel
theorem d_Run_look_113 : decode prog_4_method_3_code 113 = .ok (.goto (-83), 3) := by decide +kernel
theorem b_Run_look_92_94 : decs prog_4_method_3_code [(.aload_n 0, 1), (.aload_n 0, 1)] 92 94 = true := by decide +kernel
theorem d_Run_look_94 : decode prog_4_method_3_code 94 = .ok (.getfield 132, 3) := by decide +kernel
theorem d_Run_look_97 : decode prog_4_method_3_code 97 = .ok (.putfield 29, 3) := by decide +kernel
theorem b_Run_look_100_102 : decs prog_4_method_3_code [(.aload_n 0, 1), (.iload_n 1, 1)] 100 102 = true := by decide +kernel
theorem d_Run_look_102 : decode prog_4_method_3_code 102 = .ok (.putfield 33, 3) := by decide +kernel
theorem b_Run_look_105_107 : decs prog_4_method_3_code [(.aload_n 0, 1), (.iload_n 2, 1)] 105 107 = true := by decide +kernel
theorem d_Run_look_107 : decode prog_4_method_3_code 107 = .ok (.putfield 36, 3) := by decide +kernel
set_option maxRecDepth 100000 in
set_option maxHeartbeats 4000000 in
theorem c_Run_look (l : Launch) (G : GG) (A : Nat → Prop) (rb n : Nat) (md : Int32) (rd sd : Nat → Nat) (w0 : WF) (rv : Value) (sc : Nat → Int32) (ar : Nat → Nat → Int32) (b : Bt) (np sz tz : Nat) (hn : n ≤ 3) (hrb : 100 ≤ rb) (hL : spL G w0 sd rv n sc ar) (hB : BR b (ar 17)) (h6 : sc 6 = nI np) (hnp : np ≤ 20) (h7 : ¬ sc 7 = -1) (hg : ∀ k, k < n → rgC ar k) : Met l y_Run_look (Cond.code y_Run_look prog_4_method_3_code 3 none :: wt) { frames := 6, cells := (pc6 b.2.1), slots := (ps6 b.2.1), locals := 161 } (Pre G A (rW G rb n md rd sd w0 sc ar b) (fun H => H.size = sz ∧ hTot H = tz) [.ref (rd 0)]) (Qx0 (X := Bt) A (fun x H => BR x ((lookI (sc, ar) n).2 17) ∧ rmP sz tz b.2.1 x.2.1 H) G (fun x => (rW G rb n md rd sd w0 (lookI (sc, ar) n).1 (lookI (sc, ar) n).2 x))) (pc6 b.2.1) (ps6 b.2.1) A := by
  refine mt_of (by decide) (Nat.le_of_ble_eq_true rfl) ?_
  intro p e s m below meth c ls C hH hA hE hr hmn hl
  have hl : lv_has ls 3 [(0, .ref (rd 0))] := hl
  refine x_sx C b_Run_look_0_2 hl (L' := [(1, .int 0), (0, .ref (rd 0))]) (st' := []) rfl (fun ls hl => ?_)
  refine x_loopC (X := Nat × Bt) (fun x => n - x.1) (fun x H locs cells slots => x.1 ≤ n ∧ BR x.2 ((lookI (sc, ar) x.1).2 17) ∧ cells + pc6 x.2.2.1 ≤ pc6 b.2.1 ∧ slots + ps6 x.2.2.1 ≤ ps6 b.2.1 ∧ b.2.1 ≤ x.2.2.1 ∧ Hw G A s (rW G rb n md rd sd w0 (lookI (sc, ar) x.1).1 (lookI (sc, ar) x.1).2 x.2) H locs) (fun x => [(0, .ref (rd 0)), (1, .int (nI x.1))]) 2 ?_ (0, b) _ _ _ _ _ ⟨Nat.zero_le _, hB, by show 0 + pc6 b.2.1 ≤ pc6 b.2.1; omega, by show 0 + ps6 b.2.1 ≤ ps6 b.2.1; omega, Nat.le_refl _, hH⟩ (lv_sub hl [1, 0] rfl)
  intro x H locs cells slots ls hI hl IH
  obtain ⟨k, ⟨d, L, u, f⟩⟩ := x
  obtain ⟨hkn, hb2, hc1, hc2, hbL, hH⟩ := hI
  dsimp only at hkn hb2 hc1 hc2 hbL hH IH
  have hl : lv_has ls 3 [(0, .ref (rd 0)), (1, .int (nI k))] := hl
  have hc3 : cells + 0 ≤ pc6 b.2.1 := by omega
  have hc4 : slots + 0 ≤ ps6 b.2.1 := by omega
  have f6 : (lookI (sc, ar) k).1 6 = nI np := (lookI_sc (sc, ar) k (by decide) (by decide) (by decide) (by decide)).trans h6
  have f7 : ¬ (lookI (sc, ar) k).1 7 = -1 := fun z => h7 ((lookI_sc (sc, ar) k (by decide) (by decide) (by decide) (by decide)).symm.trans z)
  have fa : ∀ i, i ≠ 17 → (lookI (sc, ar) k).2 i = ar i := fun i hi => lookI_ar (sc, ar) k hi
  have fn := lookI_s (sc, ar) k
  have hLk := lookI_spL k hL
  generalize fk : lookI (sc, ar) k = stk at hH hb2 f6 f7 fa fn hLk
  obtain ⟨sck, ark⟩ := stk
  dsimp only at hH hb2 f6 f7 fa fn hLk
  obtain ⟨td, htd⟩ := rW_tz (G := G) (rb := rb) (n := n) (md := md) (rd := rd) (sd := sd) (w0 := w0) (sc := sck) (ar := ark) (b := (d, L, u, f))
  refine x_sx C b_Run_look_2_4 hl (L' := [(0, .ref (rd 0)), (1, .int (nI k))]) (st' := [.ref (rd 0), .int (nI k)]) rfl (fun ls hl => ?_)
  refine x_get C hH.1 rb rW_o 0 (v := .ref (rd 1)) rfl rfl (by decide) t_265 (fun _ z => z) d_Run_look_4 ?_
  refine x_ro (x_cV C hH.1 htd rfl (c_AL_size l G (rW G rb n md rd sd w0 sck ark (d, L, u, f)) (rb + 1) (rd 1) td (nI n) md htd) t_151 t_4 t_148 t_149 t_150 hd_AL_size blind_Pro (pre_ro C hH.1 hH.2.2) (As := []) (rest := [.int (nI k)]) rfl hl.1 rfl rfl rfl ⟨Nat.le_of_ble_eq_true rfl, Nat.le_of_ble_eq_true rfl⟩ (Nat.le_of_ble_eq_true rfl) ⟨hc3, hc4⟩ d_Run_look_7) ?_
  refine lv_icmp_ge (tgt := 122) C.1 C.2.1 d_Run_look_10 (by decide) (fun hb => ?_) (fun hb => ?_)
  · have e1 : k = n := by rw [nI_leI (by omega) (by omega)] at hb; omega
    rw [e1] at fk
    refine W.know (fun k1 k2 _ _ => ?_)
    exact x_vrt C hr hH.2.2 ⟨(d, L, u, f), rfl, ⟨by rw [fk]; exact hb2, hbL, by have := hE.1; show H.size + pc6 L ≤ _; omega, by have := hE.2; show hTot H + ps6 L ≤ _; omega⟩, by rw [fk]; exact hH.1, by rw [fk]; exact hH.2.1⟩ (by omega) (by omega) d_Run_look_122
  · have hk : k < n := by rw [nI_leI (by omega) (by omega)] at hb; omega
    clear hb
    have hgk := rgC_congr fa (hg k hk)
    refine x_sx C b_Run_look_13_15 hl (L' := [(0, .ref (rd 0)), (1, .int (nI k))]) (st' := [.ref (rd 0), .ref (rd 0)]) rfl (fun ls hl => ?_)
    refine x_get C hH.1 rb rW_o 0 (v := .ref (rd 1)) rfl rfl (by decide) t_265 (fun _ z => z) d_Run_look_15 ?_
    refine x_sx C b_Run_look_18_19 hl (L' := [(0, .ref (rd 0)), (1, .int (nI k))]) (st' := [.int (nI k), .ref (rd 1), .ref (rd 0)]) rfl (fun ls hl => ?_)
    refine x_ro (x_cV C hH.1 (rW_t (by omega)) rfl (c_AL_get l G (rW G rb n md rd sd w0 sck ark (d, L, u, f)) (rb + 1) (rb + 2) (rd 1) (rd 2) n k (rd (5 + k)) md (tdF rd n) (rW_t (by omega)) (rW_d (by omega)) hk (by omega) (if_pos hk)) t_157 t_4 t_154 t_155 t_156 hd_AL_get blind_Pro (pre_ro C hH.1 hH.2.2) (As := [.int (nI k)]) (rest := [.ref (rd 0)]) rfl hl.1 rfl rfl rfl ⟨Nat.le_of_ble_eq_true rfl, Nat.le_of_ble_eq_true rfl⟩ (Nat.le_of_ble_eq_true rfl) ⟨hc3, hc4⟩ d_Run_look_19) ?_
    refine x_cast C hH.1 (rb + 5 + k) (rW_b hk) rfl t_152 d_Run_look_22 ?_
    refine W.know (fun k1 k2 _ _ => ?_)
    have kk0 : H.size + pc6 L ≤ s.heap.size + pc6 b.2.1 ∧ hTot H + ps6 L ≤ hTot s.heap + ps6 b.2.1 := ⟨by omega, by omega⟩
    refine x_q0 (x_cV C hH.1 rW_o rfl (c_Run_sweep l G A rb n md rd sd w0 rv sck ark (d, L, u, f) k H.size (hTot H) hn hk hrb hLk hb2 hgk) t_225 t_9 t_222 t_224 ts_5 hd_Run_sweep blind_Pre (pre_mt C hH hA ⟨rfl, rfl⟩) (As := [.ref (rd (5 + k))]) (rest := []) rfl hl.1 rfl rfl rfl ⟨Nat.le_of_ble_eq_true rfl, Nat.le_of_ble_eq_true rfl⟩ (Nat.le_of_ble_eq_true rfl) ⟨(by show cells + pc6 L ≤ pc6 b.2.1; omega), (by show slots + ps6 L ≤ ps6 b.2.1; omega)⟩ d_Run_look_25) hH.2.2 (fun ⟨d1, L1, u1, f1⟩ H locs hx hH hz => ?_)
    obtain ⟨hb3, hx1, hx2, hx3⟩ := hx
    dsimp only at hx1 hx2 hx3
    refine W.know (fun _ _ k3 k4 => ?_)
    obtain ⟨kz, ky⟩ := kk0
    refine W.tight (k := H.size - s.heap.size) (n := hTot H - hTot s.heap) (by omega) (by omega) ?_
    have hc5 : H.size - s.heap.size + pc6 L1 ≤ pc6 b.2.1 := by omega
    have hc6 : hTot H - hTot s.heap + ps6 L1 ≤ ps6 b.2.1 := by omega
    have hbL1 : b.2.1 ≤ L1 := by omega
    generalize H.size - s.heap.size = cells at hc5 ⊢
    generalize hTot H - hTot s.heap = slots at hc6 ⊢
    have hc3 : cells + 0 ≤ pc6 b.2.1 := by omega
    have hc4 : slots + 0 ≤ ps6 b.2.1 := by omega
    clear hx2 hx3 k1 k2 k3 k4 kz ky hc1 hc2
    refine x_sx C b_Run_look_28_30 hl (L' := [(2, .int 0), (0, .ref (rd 0)), (1, .int (nI k))]) (st' := []) rfl (fun ls hl => ?_)
    have hH : Hw G A s (rW G rb n md rd sd w0 (va_up sck 12 (nI (cnt (fSw ark k)))) (va_up ark 17 (fSw ark k)) (d1, L1, u1, f1)) H locs := by
      rw [rW_sc (rFs_n (fun j h1 h2 => up_n _ _ (by omega))), rW_ar (fun j _ => bFs_n (fun i h1 h2 => by rw [up_n _ _ (by omega)]))]
      exact hH
    have fn2 : lookI (sc, ar) (k + 1) = (fClN (va_up sck 12 (nI (cnt (fSw ark k)))) (va_up ark 17 (fSw ark k)) k 0 np, va_up ark 17 (fSw ark k)) := by rw [fn]; unfold lookB fCl; dsimp only; rw [up_n _ _ (by decide), f6, nI_clamp (by omega)]
    have k6 : va_up sck 12 (nI (cnt (fSw ark k))) 6 = nI np := (up_n _ _ (by decide)).trans f6
    have k7 : ¬ va_up sck 12 (nI (cnt (fSw ark k))) 7 = -1 := fun z => f7 ((up_n _ _ (by decide)).symm.trans z)
    have g4 : ∀ j, hitP (va_up ark 17 (fSw ark k)) k j = decide (cvB ark k (4096 * ark 6 j) (4096 * ark 7 j) = 1) := fun j => rfl
    have kL : spL G w0 sd rv n (va_up sck 12 (nI (cnt (fSw ark k)))) (va_up ark 17 (fSw ark k)) := hLk.congr (fun j h1 h2 => up_n _ _ (by omega)) (fun i h1 h2 => up_n _ _ (by omega))
    have hb3 : BR (d1, L1, u1, f1) ((va_up ark 17 (fSw ark k)) 17) := by rw [up_s]; exact hb3
    generalize va_up sck 12 (nI (cnt (fSw ark k))) = scs at hH fn2 k6 k7 kL
    generalize hars : va_up ark 17 (fSw ark k) = ars at hH fn2 g4 kL hb3
    have a6 : ars 6 = ark 6 := by rw [← hars]; exact up_n _ _ (by decide)
    have a7 : ars 7 = ark 7 := by rw [← hars]; exact up_n _ _ (by decide)
    have g5 : ∀ px py, cvB ars k px py = cvB ark k px py := fun px py => by rw [← hars]; rfl
    refine x_loop (X := Nat × (Nat → Int32)) (fun x => np + 1 - x.1) (fun x H locs => x.1 ≤ np ∧ x.2 6 = nI np ∧ ¬ x.2 7 = -1 ∧ fClN scs ars k 0 np = fClN x.2 ars k x.1 (np - x.1) ∧ spL G w0 sd rv n x.2 ars ∧ Hw G A s (rW G rb n md rd sd w0 x.2 ars (d1, L1, u1, f1)) H locs) (fun x => [(0, .ref (rd 0)), (1, .int (nI k)), (2, .int (nI x.1))]) 30 ?_ (0, scs) _ _ _ ⟨Nat.zero_le _, k6, k7, rfl, kL, hH⟩ (lv_sub hl [1, 2, 0] rfl)
    intro x H locs ls hI hl IH3
    obtain ⟨j, scj⟩ := x
    obtain ⟨hjn, j6, j7, hcl, hLj, hH⟩ := hI
    dsimp only at hjn j6 j7 hcl hLj hH IH3
    have hl : lv_has ls 3 [(0, .ref (rd 0)), (1, .int (nI k)), (2, .int (nI j))] := hl
    refine x_sx C b_Run_look_30_32 hl (L' := [(0, .ref (rd 0)), (1, .int (nI k)), (2, .int (nI j))]) (st' := [.ref (rd 0), .int (nI j)]) rfl (fun ls hl => ?_)
    refine x_get C hH.1 rb rW_o 7 (v := .ref (sd 0)) rfl rfl (by decide) t_279 (fun _ z => z) d_Run_look_32 ?_
    refine x_getN C hH.1 0 ((rW_0 (Or.inl (by omega)) hn).trans hLj.1) 4 (v := .int (scj 6)) rfl rfl (by decide) t_304 (fun _ z => z) d_Run_look_35 ?_
    refine lv_icmp_ge (tgt := 116) C.1 C.2.1 d_Run_look_38 (by decide) (fun hb => ?_) (fun hb => ?_)
    · have hst : fClN scj ars k j (np - j) = scj := by rw [j6, nI_leI (by omega) (by omega)] at hb; rw [show np - j = 0 by omega]; exact fClN_0
      refine x_sx C b_Run_look_116_119 hl (L' := [(1, .int ((nI k) + 1)), (0, .ref (rd 0)), (2, .int (nI j))]) (st' := []) rfl (fun ls hl => ?_)
      refine x_goto (tgt := 2) C d_Run_look_119 (by decide) ?_
      refine IH (k + 1, (d1, L1, u1, f1)) _ _ _ _ _ (by show n - (k + 1) < n - k; omega) ⟨by show k + 1 ≤ n; omega, ?_, hc5, hc6, hbL1, ?_⟩ (by rw [← nI_1]; exact (lv_sub hl [1, 0] rfl))
      · rw [fn2]; exact hb3
      · rw [fn2, hcl, hst]; exact hH
    · have hj : j < np := by rw [j6, nI_leI (by omega) (by omega)] at hb; omega
      have hj20 : j < 20 := by omega
      refine x_sx C b_Run_look_41_42 hl (L' := [(0, .ref (rd 0)), (1, .int (nI k)), (2, .int (nI j))]) (st' := [.ref (rd 0)]) rfl (fun ls hl => ?_)
      refine x_get C hH.1 rb rW_o 4 (v := .int (scj 9)) rfl rfl (by decide) t_273 (fun _ z => z) d_Run_look_42 ?_
      refine x_sx C b_Run_look_45_46 hl (L' := [(0, .ref (rd 0)), (1, .int (nI k)), (2, .int (nI j))]) (st' := [.int (-1), .int (scj 9)]) rfl (fun ls hl => ?_)
      refine lv_icmp_ne (tgt := 116) C.1 C.2.1 d_Run_look_46 (by decide) (fun h9 => ?_) (fun h9 => ?_)
      · have hst : fClN scj ars k j (np - j) = scj := fClN_stop h9
        refine x_sx C b_Run_look_116_119 hl (L' := [(1, .int ((nI k) + 1)), (0, .ref (rd 0)), (2, .int (nI j))]) (st' := []) rfl (fun ls hl => ?_)
        refine x_goto (tgt := 2) C d_Run_look_119 (by decide) ?_
        refine IH (k + 1, (d1, L1, u1, f1)) _ _ _ _ _ (by show n - (k + 1) < n - k; omega) ⟨by show k + 1 ≤ n; omega, ?_, hc5, hc6, hbL1, ?_⟩ (by rw [← nI_1]; exact (lv_sub hl [1, 0] rfl))
        · rw [fn2]; exact hb3
        · rw [fn2, hcl, hst]; exact hH
      · have h9 : scj 9 = -1 := h9
        refine x_sx C b_Run_look_49_50 hl (L' := [(0, .ref (rd 0)), (1, .int (nI k)), (2, .int (nI j))]) (st' := [.ref (rd 0)]) rfl (fun ls hl => ?_)
        refine x_get C hH.1 rb rW_o 0 (v := .ref (rd 1)) rfl rfl (by decide) t_265 (fun _ z => z) d_Run_look_50 ?_
        refine x_sx C b_Run_look_53_54 hl (L' := [(0, .ref (rd 0)), (1, .int (nI k)), (2, .int (nI j))]) (st' := [.int (nI k), .ref (rd 1)]) rfl (fun ls hl => ?_)
        refine x_ro (x_cV C hH.1 (rW_t (by omega)) rfl (c_AL_get l G (rW G rb n md rd sd w0 scj ars (d1, L1, u1, f1)) (rb + 1) (rb + 2) (rd 1) (rd 2) n k (rd (5 + k)) md (tdF rd n) (rW_t (by omega)) (rW_d (by omega)) hk (by omega) (if_pos hk)) t_157 t_4 t_154 t_155 t_156 hd_AL_get blind_Pro (pre_ro C hH.1 hH.2.2) (As := [.int (nI k)]) (rest := []) rfl hl.1 rfl rfl rfl ⟨Nat.le_of_ble_eq_true rfl, Nat.le_of_ble_eq_true rfl⟩ (Nat.le_of_ble_eq_true rfl) ⟨hc3, hc4⟩ d_Run_look_54) ?_
        refine x_cast C hH.1 (rb + 5 + k) (rW_b hk) rfl t_152 d_Run_look_57 ?_
        refine x_sx C b_Run_look_60_61 hl (L' := [(0, .ref (rd 0)), (1, .int (nI k)), (2, .int (nI j))]) (st' := [.ref (rd 0), .ref (rd (5 + k))]) rfl (fun ls hl => ?_)
        refine x_get C hH.1 rb rW_o 7 (v := .ref (sd 0)) rfl rfl (by decide) t_279 (fun _ z => z) d_Run_look_61 ?_
        refine x_getN C hH.1 0 ((rW_0 (Or.inl (by omega)) hn).trans hLj.1) 2 (v := .ref (sd 1)) rfl rfl (by decide) t_301 (fun _ z => z) d_Run_look_64 ?_
        refine x_sx C b_Run_look_67_68 hl (L' := [(0, .ref (rd 0)), (1, .int (nI k)), (2, .int (nI j))]) (st' := [.int (nI j), .ref (sd 1), .ref (rd (5 + k))]) rfl (fun ls hl => ?_)
        refine x_ald C hH.1 1 ((rW_0 (Or.inl (by omega)) hn).trans hLj.2.1) (j := j) rfl hj20 (by decide) d_Run_look_68 ?_
        refine x_sx C b_Run_look_69_74 hl (L' := [(0, .ref (rd 0)), (1, .int (nI k)), (2, .int (nI j))]) (st' := [.ref (rd 0), .int (((ars 6) j) * 4096), .ref (rd (5 + k))]) rfl (fun ls hl => ?_)
        refine x_get C hH.1 rb rW_o 7 (v := .ref (sd 0)) rfl rfl (by decide) t_279 (fun _ z => z) d_Run_look_74 ?_
        refine x_getN C hH.1 0 ((rW_0 (Or.inl (by omega)) hn).trans hLj.1) 3 (v := .ref (sd 2)) rfl rfl (by decide) t_303 (fun _ z => z) d_Run_look_77 ?_
        refine x_sx C b_Run_look_80_81 hl (L' := [(0, .ref (rd 0)), (1, .int (nI k)), (2, .int (nI j))]) (st' := [.int (nI j), .ref (sd 2), .int (((ars 6) j) * 4096), .ref (rd (5 + k))]) rfl (fun ls hl => ?_)
        refine x_ald C hH.1 2 ((rW_0 (Or.inl (by omega)) hn).trans hLj.2.2.1) (j := j) rfl hj20 (by decide) d_Run_look_81 ?_
        refine x_sx C b_Run_look_82_86 hl (L' := [(0, .ref (rd 0)), (1, .int (nI k)), (2, .int (nI j))]) (st' := [.int (((ars 7) j) * 4096), .int (((ars 6) j) * 4096), .ref (rd (5 + k))]) rfl (fun ls hl => ?_)
        refine x_ro (x_cV C hH.1 (rW_b hk) rfl (c_Body_has l G (rW G rb n md rd sd w0 scj ars (d1, L1, u1, f1)) (rb + 5 + k) (20 + k) (rd (5 + k)) (sd (20 + k)) (bfV rd k) (ars 12 k) (ars 13 k) (ars 14 k) (ars 15 k) (ars 16 k) (ars 1 k) (ars 2 k) (ars 3 k) (ars 4 k) (ars 5 k) (((ars 6) j) * 4096) (((ars 7) j) * 4096) (rW_b hk) ((rW_0 (Or.inl (by omega)) hn).trans (hLj.2.2.2 k hk))) t_234 t_11 t_231 t_232 t_233 hd_Body_has blind_Pro (pre_ro C hH.1 hH.2.2) (As := [.int (((ars 6) j) * 4096), .int (((ars 7) j) * 4096)]) (rest := []) rfl hl.1 rfl rfl rfl ⟨Nat.le_of_ble_eq_true rfl, Nat.le_of_ble_eq_true rfl⟩ (Nat.le_of_ble_eq_true rfl) ⟨hc3, hc4⟩ d_Run_look_86) ?_
        rw [Int32.mul_comm (ars 6 j) 4096, Int32.mul_comm (ars 7 j) 4096]
        refine lv_if_eq (tgt := 110) C.1 C.2.1 d_Run_look_89 (by decide) (fun hv => ?_) (fun hv => ?_)
        · have hm : ¬ hitP ars k j = true := by rw [g4, decide_eq_true_iff]; intro z; rw [← g5, ← a6, ← a7] at z; exact absurd ((show p_cov _ _ _ _ _ _ _ _ = 0 from hv).symm.trans z) (by decide)
          refine x_sx C b_Run_look_110_113 hl (L' := [(2, .int ((nI j) + 1)), (0, .ref (rd 0)), (1, .int (nI k))]) (st' := []) rfl (fun ls hl => ?_)
          refine x_goto (tgt := 30) C d_Run_look_113 (by decide) ?_
          exact IH3 (j + 1, scj) _ _ _ (by show np + 1 - (j + 1) < np + 1 - j; omega) ⟨by show j + 1 ≤ np; omega, j6, j7, (by rw [hcl, show np - j = (np - (j + 1)) + 1 by omega]; exact fClN_miss hm), hLj, hH⟩ (by rw [← nI_1]; exact (lv_sub hl [1, 2, 0] rfl))
        · have hm : hitP ars k j = true := by rw [g4, decide_eq_true_iff, ← g5, ← a6, ← a7]; exact cov_1 hv
          refine x_sx C b_Run_look_92_94 hl (L' := [(0, .ref (rd 0)), (1, .int (nI k)), (2, .int (nI j))]) (st' := [.ref (rd 0), .ref (rd 0)]) rfl (fun ls hl => ?_)
          refine x_get C hH.1 rb rW_o 2 (v := .int (scj 7)) rfl rfl (by decide) t_269 (fun _ z => z) d_Run_look_94 ?_
          refine x_put C hH rb rW_o 4 (v := .int (scj 7)) (show 4 < 8 by decide) rfl (by decide) t_273 (fun _ z => z) rfl rfl rfl d_Run_look_97 (fun H locs hH => ?_)
          rw [rW_ob (fs := (rFs rd sd scj).set 4 (.int (scj 7))) (sc' := (va_up scj 9 (scj 7))) rfl] at hH
          refine x_sx C b_Run_look_100_102 hl (L' := [(0, .ref (rd 0)), (1, .int (nI k)), (2, .int (nI j))]) (st' := [.int (nI k), .ref (rd 0)]) rfl (fun ls hl => ?_)
          refine x_put C hH rb rW_o 5 (v := .int (nI k)) (show 5 < 8 by decide) rfl (by decide) t_275 (fun _ z => z) rfl rfl rfl d_Run_look_102 (fun H locs hH => ?_)
          rw [rW_ob (fs := (rFs rd sd (va_up scj 9 (scj 7))).set 5 (.int (nI k))) (sc' := (va_up (va_up scj 9 (scj 7)) 10 (nI k))) rfl] at hH
          refine x_sx C b_Run_look_105_107 hl (L' := [(0, .ref (rd 0)), (1, .int (nI k)), (2, .int (nI j))]) (st' := [.int (nI j), .ref (rd 0)]) rfl (fun ls hl => ?_)
          refine x_put C hH rb rW_o 6 (v := .int (nI j)) (show 6 < 8 by decide) rfl (by decide) t_277 (fun _ z => z) rfl rfl rfl d_Run_look_107 (fun H locs hH => ?_)
          rw [rW_ob (fs := (rFs rd sd (va_up (va_up scj 9 (scj 7)) 10 (nI k))).set 6 (.int (nI j))) (sc' := (va_up (va_up (va_up scj 9 (scj 7)) 10 (nI k)) 11 (nI j))) rfl] at hH
          refine x_sx C b_Run_look_110_113 hl (L' := [(2, .int ((nI j) + 1)), (0, .ref (rd 0)), (1, .int (nI k))]) (st' := []) rfl (fun ls hl => ?_)
          refine x_goto (tgt := 30) C d_Run_look_113 (by decide) ?_
          exact IH3 (j + 1, (va_up (va_up (va_up scj 9 (scj 7)) 10 (nI k)) 11 (nI j))) _ _ _ (by show np + 1 - (j + 1) < np + 1 - j; omega) ⟨by show j + 1 ≤ np; omega, j6, (fun z => j7 z), (by rw [hcl, show np - j = (np - (j + 1)) + 1 by omega, fClN_hit h9 hm]; exact (fClN_stop (fun z => j7 z)).symm), (hLj.congr (fun i h1 h2 => by show (va_up (va_up (va_up scj 9 (scj 7)) 10 (nI k)) 11 (nI j)) i = _; rw [up_n _ _ (by omega), up_n _ _ (by omega), up_n _ _ (by omega)]) (fun _ _ _ => rfl)), hH⟩ (by rw [← nI_1]; exact (lv_sub hl [1, 2, 0] rfl))
theorem hd_Run_look : hdP y_Run_look 0 := ⟨by decide +kernel, by decide +kernel, by decide +kernel⟩
