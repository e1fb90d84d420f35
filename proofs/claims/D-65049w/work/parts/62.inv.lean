/-! What every state of the two keeps: numbers in their ranges, places near enough. -/
def nr (B : Int) (x : Int32) : Prop := -B ≤ x.toInt ∧ x.toInt ≤ B
def lenK (ar : Nat → Nat → Int32) (k : Nat) : Prop := (1 ≤ (ar 1 k).toInt ∧ (ar 1 k).toInt ≤ 200) ∧ (0 ≤ (ar 2 k).toInt ∧ (ar 2 k).toInt ≤ 200) ∧ shK ar k
/-- bodies, poles, start, step -/
def cfK (n np : Nat) (st : SA) : Prop := st.1 1 = nI n ∧ n ≤ 3 ∧ st.1 6 = nI np ∧ np ≤ 20 ∧ (∀ k, k < n → lenK st.2 k) ∧ nr 1000 (st.1 2) ∧ nr 1000 (st.1 3) ∧ (1 ≤ (st.1 5).toInt ∧ (st.1 5).toInt ≤ 20)
def plB (m : Int) (k : Nat) : Int := 4096000 + 81920 * m + 1638400 * k
/-- what goes on -/
def rnK (n : Nat) (st : SA) : Prop := Z01 (st.2 17) ∧ st.1 12 = nI (cnt (st.2 17)) ∧ b01 (st.1 8) ∧ (0 ≤ (st.1 7).toInt ∧ (st.1 7).toInt ≤ 4000) ∧ ∀ k, k < n → nr (plB (st.1 7).toInt k) (st.2 12 k) ∧ nr (plB (st.1 7).toInt k) (st.2 13 k)
def KK (n np : Nat) (st : SA) : Prop := cfK n np st ∧ rnK n st
theorem lenK.congr {ar ar' : Nat → Nat → Int32} {k : Nat} (h : lenK ar k) (e : ∀ i, 1 ≤ i → i ≤ 5 → ar' i k = ar i k) : lenK ar' k := by
  unfold lenK shK at h ⊢
  rw [e 1 (by decide) (by decide), e 2 (by decide) (by decide), e 3 (by decide) (by decide), e 4 (by decide) (by decide), e 5 (by decide) (by decide)]
  exact h
theorem cfK.congr {n np : Nat} {st st' : SA} (h : cfK n np st) (e1 : ∀ j, 1 ≤ j → j ≤ 6 → st'.1 j = st.1 j) (e2 : ∀ i, 1 ≤ i → i ≤ 5 → ∀ k, k < n → st'.2 i k = st.2 i k) : cfK n np st' := by
  obtain ⟨h1, h2, h3, h4, h5, h6, h7, h8⟩ := h
  refine ⟨(e1 1 (by decide) (by decide)).trans h1, h2, (e1 6 (by decide) (by decide)).trans h3, h4, fun k hk => (h5 k hk).congr (fun i a b => e2 i a b k hk), ?_, ?_, ?_⟩
  · rw [e1 2 (by decide) (by decide)]; exact h6
  · rw [e1 3 (by decide) (by decide)]; exact h7
  · rw [e1 5 (by decide) (by decide)]; exact h8
theorem rnK.congr {n : Nat} {st st' : SA} (h : rnK n st) (e1 : ∀ j, 7 ≤ j → j ≤ 12 → st'.1 j = st.1 j) (e2 : ∀ i, 12 ≤ i → i ≤ 17 → st'.2 i = st.2 i) : rnK n st' := by
  unfold rnK at h ⊢
  rw [e1 12 (by decide) (by decide), e1 8 (by decide) (by decide), e1 7 (by decide) (by decide), e2 17 (by decide) (by decide), e2 12 (by decide) (by decide), e2 13 (by decide) (by decide)]
  exact h
theorem KK.congr {n np : Nat} {st st' : SA} (h : KK n np st) (e1 : ∀ j, 1 ≤ j → j ≤ 12 → st'.1 j = st.1 j) (e2 : ∀ i, (1 ≤ i ∧ i ≤ 5) ∨ (12 ≤ i ∧ i ≤ 17) → st'.2 i = st.2 i) : KK n np st' :=
  ⟨h.1.congr (fun j a b => e1 j a (by omega)) (fun i a b k _ => by rw [e2 i (Or.inl ⟨a, b⟩)]), h.2.congr (fun j a b => e1 j (by omega) b) (fun i a b => e2 i (Or.inr ⟨a, b⟩))⟩
theorem cfK.eqB {n np : Nat} {st st' : SA} (h : cfK n np st) (e : eqB st st') : cfK n np st' := h.congr e.1 (fun i a b k _ => by rw [e.2 i a (by omega)])
theorem nb_n {n np : Nat} {st : SA} (h : cfK n np st) : nB st = n := by unfold nB; rw [h.1, nI_clamp (by have := h.2.1; omega)]
-- hung behind
theorem hang1 {x l1 d1 l2 d2 : Int32} {B : Int} (hB : B < 600000000) (hx : nr B x) (h1 : 0 ≤ l1.toInt ∧ l1.toInt ≤ 200) (h2 : 0 ≤ l2.toInt ∧ l2.toInt ≤ 200) (g1 : -4096 ≤ d1.toInt ∧ d1.toInt ≤ 4096) (g2 : -4096 ≤ d2.toInt ∧ d2.toInt ≤ 4096) : nr (B + 1638400) ((x - l1 * d1) - l2 * d2) := by
  unfold nr at hx ⊢
  have b1 := mul_bi (a := l1.toInt) (b := d1.toInt) (A := 200) (B := 4096) (by omega) g1
  have b2 := mul_bi (a := l2.toInt) (b := d2.toInt) (A := 200) (B := 4096) (by omega) g2
  have e1 : (l1 * d1).toInt = l1.toInt * d1.toInt := i_mul (by omega) (by omega)
  have e2 : (l2 * d2).toInt = l2.toInt * d2.toInt := i_mul (by omega) (by omega)
  have e3 : (x - l1 * d1).toInt = x.toInt - l1.toInt * d1.toInt := by rw [i_sub (by rw [e1]; omega) (by rw [e1]; omega), e1]
  have e4 : ((x - l1 * d1) - l2 * d2).toInt = x.toInt - l1.toInt * d1.toInt - l2.toInt * d2.toInt := by rw [i_sub (by rw [e2, e3]; omega) (by rw [e2, e3]; omega), e2, e3]
  rw [e4]; omega
theorem hang_bd {ar : Nat → Nat → Int32} {k : Nat} {B : Int} (hB : B < 600000000) (h0 : lenK ar k) (h1 : lenK ar (k + 1)) (hx : nr B (ar 12 k)) (hy : nr B (ar 13 k)) : nr (B + 1638400) (vHx ar (k + 1)) ∧ nr (B + 1638400) (vHy ar (k + 1)) := by
  have g1 := dir_of (ar 14 k)
  have g2 := dir_of (ar 14 (k + 1))
  unfold vHx vHy
  rw [show k + 1 - 1 = k by omega]
  have q1 := h1.1
  exact ⟨hang1 hB hx h0.2.1 ⟨by omega, by omega⟩ g1.1 g2.1, hang1 hB hy h0.2.1 ⟨by omega, by omega⟩ g1.2.1 g2.2.1⟩
theorem mvB_12 (ar : Nat → Nat → Int32) (way sl : Int32) (b : Nat) : mvB ar way sl b 12 = upd (ar 12) b (vHx (swA ar way sl b) b) ∧ mvB ar way sl b 13 = upd (ar 13) b (vHy (swA ar way sl b) b) := by
  rw [mvB_sw]
  have e12 : swA ar way sl b 12 = ar 12 := by unfold swA; rw [up_n _ _ (by decide), up_n _ _ (by decide), up_n _ _ (by decide)]
  have e13 : swA ar way sl b 13 = ar 13 := by unfold swA; rw [up_n _ _ (by decide), up_n _ _ (by decide), up_n _ _ (by decide)]
  refine ⟨?_, ?_⟩
  · unfold fHang; rw [up_n _ _ (by decide), up_s, e12]
  · unfold fHang; rw [up_s, e13]
theorem swA_n (ar : Nat → Nat → Int32) (way sl : Int32) (b : Nat) {i : Nat} (h14 : i ≠ 14) (h15 : i ≠ 15) : swA ar way sl b i = ar i := by
  unfold swA; rw [up_n _ _ h15, up_n _ _ h14, up_n _ _ h15]
theorem plB_s (m : Int) (k : Nat) : plB m (k + 1) = plB m k + 1638400 := by unfold plB; omega
/-- the places of bodies that have been moved on -/
theorem mvI_bd {ar : Nat → Nat → Int32} {way sl : Int32} {n : Nat} {m : Int} (hn : n ≤ 3) (hm : m ≤ 4001) (hl : ∀ k, k < n → lenK ar k) (h0 : nr (plB m 0) (ar 12 0) ∧ nr (plB m 0) (ar 13 0)) : ∀ i, i < n → ∀ k, k ≤ i → nr (plB m k) (mvI ar way sl i 12 k) ∧ nr (plB m k) (mvI ar way sl i 13 k) := by
  intro i
  induction i with
  | zero =>
    intro _ k hk
    have : k = 0 := by omega
    subst this
    rw [mvI]; exact h0
  | succ i ih =>
    intro hi k hk
    rw [mvI_s, (mvB_12 _ _ _ _).1, (mvB_12 _ _ _ _).2]
    by_cases e : k = i + 1
    · subst e
      simp only [upd, if_true]
      have p0 := ih (by omega) i (Nat.le_refl _)
      have len : ∀ j, j < n → lenK (swA (mvI ar way sl i) way sl (i + 1)) j := fun j hj => (hl j hj).congr (fun q a b => by rw [swA_n _ _ _ _ (by omega) (by omega), mvI_n _ _ _ _ (by omega) (by omega) (by omega) (by omega)])
      rw [plB_s]
      refine hang_bd (ar := swA (mvI ar way sl i) way sl (i + 1)) (by unfold plB; omega) (len i (by omega)) (len (i + 1) hi) ?_ ?_
      · rw [swA_n _ _ _ _ (by decide) (by decide)]; exact p0.1
      · rw [swA_n _ _ _ _ (by decide) (by decide)]; exact p0.2
    · simp only [upd, e, if_false]
      exact ih (by omega) k (by omega)
theorem mvI_hi {ar : Nat → Nat → Int32} {way sl : Int32} {n : Nat} {m : Int} (hn : n ≤ 3) (hm : m ≤ 4001) (hl : ∀ k, k < n → lenK ar k) (h0 : 0 < n → nr (plB m 0) (ar 12 0) ∧ nr (plB m 0) (ar 13 0)) (k : Nat) (hk : k < n) : nr (plB m k) (mvI ar way sl (n - 1) 12 k) ∧ nr (plB m k) (mvI ar way sl (n - 1) 13 k) :=
  mvI_bd hn hm hl (h0 (by omega)) (n - 1) (by omega) k (by omega)
theorem step1 {x st d way : Int32} {B : Int} (hB : B < 600000000) (hx : nr B x) (hs : 1 ≤ st.toInt ∧ st.toInt ≤ 20) (hw : way = 1 ∨ way = -1) (g : -4096 ≤ d.toInt ∧ d.toInt ≤ 4096) : nr (B + 81920) (x + way * st * d) := by
  unfold nr at hx ⊢
  have hw2 : -20 ≤ (way * st).toInt ∧ (way * st).toInt ≤ 20 := by
    rcases hw with h | h
    · subst h; rw [Int32.one_mul]; omega
    · subst h
      rw [i_mul (by simp only [Int32.reduceToInt]; omega) (by simp only [Int32.reduceToInt]; omega)]; simp only [Int32.reduceToInt]; omega
  have b1 := mul_bi (b := d.toInt) (B := 4096) hw2 g
  have e1 : (way * st * d).toInt = (way * st).toInt * d.toInt := i_mul (by omega) (by omega)
  rw [i_add (by rw [e1]; omega) (by rw [e1]; omega), e1]; omega
theorem way_o (fw : Int32) : wayO fw = 1 ∨ wayO fw = -1 := by unfold wayO; split <;> simp
theorem mvA_bd {sc : Nat → Int32} {ar : Nat → Nat → Int32} {turn fw : Int32} {m : Int} (hm : m ≤ 4000) (hs : 1 ≤ (sc 5).toInt ∧ (sc 5).toInt ≤ 20) (h0 : nr (plB m 0) (ar 12 0) ∧ nr (plB m 0) (ar 13 0)) : nr (plB (m + 1) 0) (mvA sc ar turn (wayO fw) 12 0) ∧ nr (plB (m + 1) 0) (mvA sc ar turn (wayO fw) 13 0) := by
  have g := dir_of (ar 14 0)
  have e1 : mvA sc ar turn (wayO fw) 12 0 = ar 12 0 + wayO fw * sc 5 * p_dx (ar 14 0) := by
    unfold mvA; rw [up_n _ _ (by decide), up_n _ _ (by decide), up_s]; simp only [upd, if_true]
  have e2 : mvA sc ar turn (wayO fw) 13 0 = ar 13 0 + wayO fw * sc 5 * p_dy (ar 14 0) := by
    unfold mvA; rw [up_n _ _ (by decide), up_s]; simp only [upd, if_true]
  have e3 : plB (m + 1) 0 = plB m 0 + 81920 := by unfold plB; omega
  rw [e1, e2, e3]
  exact ⟨step1 (by unfold plB; omega) h0.1 hs (way_o fw) g.1, step1 (by unfold plB; omega) h0.2 hs (way_o fw) g.2.1⟩
theorem nr_pos {x : Int32} {B : Int} (h : nr B x) (hB : B < 536870912) : posH x := by unfold nr at h; unfold posH; omega
/-- the state ahead of the look of a step -/
def mvS (n : Nat) (st : SA) (turn fw : Int32) : SA := grI (va_up st.1 7 (st.1 7 + 1), mvI (mvA st.1 st.2 turn (wayO fw)) (wayO fw) (st.1 5) (n - 1)) (n - 1)
theorem mvS_pos {n np : Nat} {st : SA} {turn fw : Int32} (h : KK n np st) (h7 : st.1 7 < 4000) (k : Nat) (hk : k < n) : nr (plB ((st.1 7).toInt + 1) k) ((mvS n st turn fw).2 12 k) ∧ nr (plB ((st.1 7).toInt + 1) k) ((mvS n st turn fw).2 13 k) := by
  obtain ⟨⟨c1, c2, c3, c4, c5, c6, c7, c8⟩, r1, r2, r3, r4, r5⟩ := h
  rw [Int32.lt_iff_toInt_lt] at h7
  simp only [Int32.reduceToInt] at h7
  unfold mvS
  rw [grI_ar _ _ (by decide), grI_ar _ _ (by decide)]
  refine mvI_hi c2 (by omega) (fun j hj => (c5 j hj).congr (fun i a b => by rw [mvA_n _ _ _ _ (by omega) (by omega) (by omega)])) (fun h0 => mvA_bd (by omega) c8 (r5 0 h0)) k hk
theorem mvS_ar {n : Nat} {st : SA} {turn fw : Int32} {i : Nat} (h12 : i ≠ 12) (h13 : i ≠ 13) (h14 : i ≠ 14) (h15 : i ≠ 15) (h16 : i ≠ 16) : (mvS n st turn fw).2 i = st.2 i := by
  unfold mvS
  rw [grI_ar _ _ h16]
  dsimp only
  rw [mvI_n _ _ _ _ h12 h13 h14 h15, mvA_n _ _ _ _ h12 h13 h14]
theorem mvS_sc {n : Nat} {st : SA} {turn fw : Int32} {j : Nat} (h7 : j ≠ 7) (h8 : j ≠ 8) : (mvS n st turn fw).1 j = st.1 j := by
  unfold mvS
  rw [grI_sc _ _ h8]; exact up_n _ _ h7
theorem mvS_7 {n : Nat} {st : SA} {turn fw : Int32} : (mvS n st turn fw).1 7 = st.1 7 + 1 := by
  unfold mvS
  rw [grI_sc _ _ (by decide)]
  show va_up st.1 7 (st.1 7 + 1) 7 = _
  rw [up_s]
theorem fMove_S {n np : Nat} {st : SA} {turn fw : Int32} (h : cfK n np st) : fMove st turn fw = lookI (mvS n st turn fw) n := by
  unfold fMove
  rw [nb_n h]
  show lookI (mvS n st turn fw) (nB (mvS n st turn fw)) = _
  have : nB (mvS n st turn fw) = n := by unfold nB; rw [mvS_sc (by decide) (by decide), h.1, nI_clamp (by have := h.2.1; omega)]
  rw [this]
theorem shape_of {ar : Nat → Nat → Int32} {k : Nat} (h : lenK ar k) : shK ar k := h.2.2
theorem mvS_rg {n np : Nat} {st : SA} {turn fw : Int32} (h : KK n np st) (h7 : st.1 7 < 4000) (k : Nat) (hk : k < n) : rgT (mvS n st turn fw).2 k ∧ rgC (mvS n st turn fw).2 k := by
  have p := mvS_pos (turn := turn) (fw := fw) h h7 k hk
  have hn := h.1.2.1
  have h4 := h.2.2.2.2.1
  have B : plB ((st.1 7).toInt + 1) k < 536870912 := by unfold plB; omega
  refine rg_both (shape_of ((h.1.2.2.2.2.1 k hk).congr (fun i a b => by rw [mvS_ar (by omega) (by omega) (by omega) (by omega) (by omega)]))) (nr_pos p.1 B) (nr_pos p.2 B)
theorem len0 {ar : Nat → Nat → Int32} {k : Nat} (h : lenK ar k) : ¬ ar 1 k = 0 := by
  intro z
  have h1 := h.1
  rw [z] at h1
  simp only [Int32.reduceToInt] at h1
  omega
theorem made1 {x : Int32} (h : 0 ≤ x.toInt ∧ x.toInt ≤ 4000) : (x + 1).toInt = x.toInt + 1 ∧ ¬ x + 1 = -1 := by
  have k1 : (1 : Int32).toInt = 1 := rfl
  have e : (x + 1).toInt = x.toInt + 1 := by rw [i_add (by rw [k1]; omega) (by rw [k1]; omega), k1]
  refine ⟨e, fun z => ?_⟩
  rw [z] at e
  simp only [Int32.reduceToInt] at e
  omega
theorem KK_move {n np : Nat} {st : SA} {turn fw : Int32} (h : KK n np st) (h7 : st.1 7 < 4000) : KK n np (fMove st turn fw) := by
  have hp := fun k hk => mvS_pos (turn := turn) (fw := fw) h h7 k hk
  have hc := h.1
  obtain ⟨r1, r2, r3, r4, r5⟩ := h.2
  have h7' := h7
  rw [Int32.lt_iff_toInt_lt] at h7'
  simp only [Int32.reduceToInt] at h7'
  refine ⟨hc.congr (fun j a b => fMove_sc _ _ _ (by omega) (by omega) (by omega) (by omega) (by omega) (by omega)) (fun i a b k _ => by rw [fMove_ar _ _ _ (by omega) (by omega) (by omega) (by omega) (by omega) (by omega)]), ?_⟩
  rw [fMove_S hc]
  have e7 : (lookI (mvS n st turn fw) n).1 7 = st.1 7 + 1 := by rw [lookI_sc _ _ (by decide) (by decide) (by decide) (by decide), mvS_7]
  have m1 := (made1 r4).1
  refine ⟨lookI_01 _ _ (by rw [mvS_ar (by decide) (by decide) (by decide) (by decide) (by decide)]; exact r1), lookI_cnt _ _ (by rw [mvS_ar (by decide) (by decide) (by decide) (by decide) (by decide), mvS_sc (by decide) (by decide)]; exact r2), ?_, ?_, fun k hk => ?_⟩
  · rw [lookI_sc _ _ (by decide) (by decide) (by decide) (by decide)]
    unfold mvS
    refine grI_8 _ _ ?_
    show b01 (va_up st.1 7 (st.1 7 + 1) 8)
    rw [up_n _ _ (by decide)]; exact r3
  · rw [e7, m1]; omega
  · rw [e7, m1, lookI_ar _ _ (by decide), lookI_ar _ _ (by decide)]
    exact hp k hk
theorem KK_p (n np : Nat) : Kp n np (KK n np) := by
  intro st turn fw h ht h7
  obtain ⟨⟨c1, c2, c3, c4, c5, c6, c7, c8⟩, r1, r2, r3, r4, r5⟩ := h
  have h : KK n np st := ⟨⟨c1, c2, c3, c4, c5, c6, c7, c8⟩, r1, r2, r3, r4, r5⟩
  exact ⟨⟨c1, c2, c3, c4, (made1 r4).2, r1, r2, fun k hk => len0 (c5 k hk), fun k hk => (mvS_rg (turn := turn) (fw := fw) h h7 k hk).1⟩, KK_move h h7⟩
theorem KK_c (n np : Nat) : Kc n np (KK n np) := by
  intro st turn fw h ht h7
  obtain ⟨⟨c1, c2, c3, c4, c5, c6, c7, c8⟩, r1, r2, r3, r4, r5⟩ := h
  have h : KK n np st := ⟨⟨c1, c2, c3, c4, c5, c6, c7, c8⟩, r1, r2, r3, r4, r5⟩
  exact ⟨⟨c1, c3, c4, (made1 r4).2, r3, fun k hk => len0 (c5 k hk), fun k hk => (mvS_rg (turn := turn) (fw := fw) h h7 k hk).2⟩, KK_move h h7⟩
-- the start
theorem bg_pos {n np : Nat} {st : SA} (h : cfK n np st) : ∀ k, k < n → nr (plB 0 k) (bgI (bgS st.1) st.2 3 12 k) ∧ nr (plB 0 k) (bgI (bgS st.1) st.2 3 13 k) := by
  obtain ⟨c1, c2, c3, c4, c5, c6, c7, c8⟩ := h
  have s1 : bgS st.1 1 = nI n := (bgS_n _ (by decide) (by decide) (by decide) (by decide) (by decide) (by decide)).trans c1
  have s2 : bgS st.1 2 = st.1 2 := bgS_n _ (by decide) (by decide) (by decide) (by decide) (by decide) (by decide)
  have s3 : bgS st.1 3 = st.1 3 := bgS_n _ (by decide) (by decide) (by decide) (by decide) (by decide) (by decide)
  have len : ∀ k, k < n → lenK (bgI (bgS st.1) st.2 3) k := fun k hk => (c5 k hk).congr (fun i a b => by rw [bgI_n _ _ _ (by omega) (by omega) (by omega) (by omega) (by omega) (by omega)])
  have k4 : (4096 : Int32).toInt = 4096 := rfl
  intro k
  induction k with
  | zero =>
    intro _
    rw [bg_0.1, bg_0.2, s2, s3]
    unfold nr at c6 c7 ⊢
    unfold plB
    rw [i_mul (by rw [k4]; omega) (by rw [k4]; omega), i_mul (by rw [k4]; omega) (by rw [k4]; omega), k4]
    omega
  | succ k ih =>
    intro hk
    have p := ih (by omega)
    rw [(bg_s s1 c2 hk).1, (bg_s s1 c2 hk).2, plB_s]
    exact hang_bd (by unfold plB; omega) (len k (by omega)) (len (k + 1) hk) p.1 p.2
theorem bg_rg {n np : Nat} {st : SA} (h : cfK n np st) (k : Nat) (hk : k < n) : rgT (bgI (bgS st.1) st.2 3) k ∧ rgC (bgI (bgS st.1) st.2 3) k := by
  have p := bg_pos h k hk
  have hn := h.2.1
  have B : plB 0 k < 536870912 := by unfold plB; omega
  exact rg_both (shape_of ((h.2.2.2.2.1 k hk).congr (fun i a b => by rw [bgI_n _ _ _ (by omega) (by omega) (by omega) (by omega) (by omega) (by omega)]))) (nr_pos p.1 B) (nr_pos p.2 B)
theorem KK_begin {n np : Nat} {st : SA} (h : cfK n np st) : KK n np (fBegin st) := by
  have hp := bg_pos h
  refine ⟨h.congr (fun j a b => fBegin_sc _ (by omega) (by omega) (by omega) (by omega) (by omega) (by omega)) (fun i a b k _ => by rw [fBegin_ar _ (by omega) (by omega) (by omega) (by omega) (by omega) (by omega)]), ?_⟩
  unfold fBegin fLook
  generalize nB (bgS st.1, bgI (bgS st.1) st.2 3) = q
  have e7 : (lookI (bgS st.1, bgI (bgS st.1) st.2 3) q).1 7 = 0 := by
    rw [lookI_sc _ _ (by decide) (by decide) (by decide) (by decide)]
    show bgS st.1 7 = 0
    unfold bgS
    rw [up_n _ _ (by decide), up_n _ _ (by decide), up_n _ _ (by decide), up_n _ _ (by decide), up_n _ _ (by decide), up_s]
  have e8 : bgS st.1 8 = 0 := by
    unfold bgS
    rw [up_n _ _ (by decide), up_n _ _ (by decide), up_n _ _ (by decide), up_n _ _ (by decide), up_s]
  have e12 : bgS st.1 12 = 0 := by unfold bgS; rw [up_s]
  have k0 : (0 : Int32).toInt = 0 := rfl
  refine ⟨lookI_01 _ _ (by dsimp only; rw [bgI_17]; exact fun _ _ => Or.inl rfl), lookI_cnt _ _ (by dsimp only; rw [bgI_17, e12]; unfold cnt; rw [cntN_0]; rfl), ?_, ?_, fun k hk => ?_⟩
  · rw [lookI_sc _ _ (by decide) (by decide) (by decide) (by decide)]
    show b01 (bgS st.1 8)
    rw [e8]; exact Or.inl rfl
  · rw [e7, k0]; omega
  · rw [e7, k0, lookI_ar _ _ (by decide), lookI_ar _ _ (by decide)]
    exact hp k hk
-- plans
def plK (mn : Nat → Nat) (ar : Nat → Nat → Int32) : Prop := ∀ q, q < 4 → mn q ≤ 6 ∧ ar 8 q = nI (mn q) ∧ ∀ k, k < mn q → (∃ N, N < 2 ^ 31 ∧ ar 10 (6 * q + k) = nI N) ∧ -3 ≤ ar 9 (6 * q + k) ∧ ar 9 (6 * q + k) ≤ 3
theorem plK.congr {mn : Nat → Nat} {ar ar' : Nat → Nat → Int32} (h : plK mn ar) (e : ∀ i, 8 ≤ i → i ≤ 10 → ar' i = ar i) : plK mn ar' := by
  unfold plK at h ⊢
  rw [e 8 (by decide) (by decide), e 9 (by decide) (by decide), e 10 (by decide) (by decide)]
  exact h
theorem KK_plI {n np : Nat} {mn : Nat → Nat} {st : SA} (h : cfK n np st) (hp : plK mn st.2) {q : Nat} (hq : q < 4) : ∀ k, k ≤ mn q → KK n np (plI st q k) := by
  intro k
  induction k with
  | zero => intro _; rw [plI]; exact KK_begin h
  | succ k ih =>
    intro hk
    rw [plI_s]
    unfold fGo
    exact (KK_p n np).go ((hp q hq).2.2 k hk).2 _ _ (ih (by omega))
theorem KK_plan {n np : Nat} {mn : Nat → Nat} {st : SA} (h : cfK n np st) (hp : plK mn st.2) {q : Nat} (hq : q < 4) : KK n np (fPlan st q) := by
  have h1 := hp q hq
  unfold fPlan
  rw [h1.2.1, nI_clamp (by omega)]
  exact KK_plI h hp hq (mn q) (Nat.le_refl _)
theorem PlH_of {n np : Nat} {mn : Nat → Nat} {st : SA} (h : cfK n np st) (hp : plK mn st.2) : PlH n np (KK n np) st :=
  ⟨h.1, h.2.1, h.2.2.1, h.2.2.2.1, KK_p n np, fun st' e => KK_begin (h.eqB e), fun st' e k hk => (bg_rg (h.eqB e) k hk).1, fun q hq => ⟨mn q, (hp q hq).1, (hp q hq).2.1, fun k hk => ((hp q hq).2.2 k hk).1, fun k hk => ((hp q hq).2.2 k hk).2⟩⟩
theorem h12_of {n np : Nat} {mn : Nat → Nat} {st : SA} (h : cfK n np st) (hp : plK mn st.2) : ∀ st', eqB st st' → ∀ q, q < 4 → (fPlan st' q).1 12 = nI (cnt ((fPlan st' q).2 17)) :=
  fun st' e q hq => (KK_plan (h.eqB e) (hp.congr (fun i a b => e.2 i (by omega) (by omega))) hq).2.2.1
