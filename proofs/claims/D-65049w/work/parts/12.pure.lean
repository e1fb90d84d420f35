/-! What the twin computes, as functions of its numbers sc and arrays ar. -/
abbrev SA : Type := (Nat → Int32) × (Nat → Nat → Int32)
def vHx (ar : Nat → Nat → Int32) (k : Nat) : Int32 := (ar 12 (k - 1) - ar 2 (k - 1) * p_dx (ar 14 (k - 1))) - ar 1 k * p_dx (ar 14 k)
def vHy (ar : Nat → Nat → Int32) (k : Nat) : Int32 := (ar 13 (k - 1) - ar 2 (k - 1) * p_dy (ar 14 (k - 1))) - ar 1 k * p_dy (ar 14 k)
def fHang (ar : Nat → Nat → Int32) (k : Nat) : Nat → Nat → Int32 := va_up (va_up ar 12 (upd (ar 12) k (vHx ar k))) 13 (upd (ar 13) k (vHy ar k))
def cvB (ar : Nat → Nat → Int32) (k : Nat) (px py : Int32) : Int32 := p_cov (ar 12 k) (ar 13 k) (ar 14 k) (ar 3 k) (ar 4 k) (ar 5 k) px py
/-- a cell's middle -/
def cX (t : Nat) : Int32 := 4096 * (8 * (nI (t / 64) - 32) + 4)
def cY (t : Nat) : Int32 := 4096 * (8 * (nI (t % 64) - 32) + 4)
def fSw (ar : Nat → Nat → Int32) (k : Nat) : Nat → Int32 := fun t => if cvB ar k (cX t) (cY t) = 1 then 1 else ar 17 t
def cntN (f : Nat → Int32) (n : Nat) : Nat := if h : n = 0 then 0 else cntN f (n - 1) + (if f (n - 1) = 1 then 1 else 0)
termination_by n
decreasing_by omega
theorem cntN_z (f : Nat → Int32) : cntN f 0 = 0 := by rw [cntN]; simp
theorem cntN_s (f : Nat → Int32) (n : Nat) : cntN f (n + 1) = cntN f n + (if f n = 1 then 1 else 0) := by rw [cntN]; simp
def cnt (f : Nat → Int32) : Nat := cntN f 4096
def fstP (P : Nat → Bool) (k : Nat) : Nat → Option Nat
  | 0 => none
  | n + 1 => if P k = true then some k else fstP P (k + 1) n
def hitP (ar : Nat → Nat → Int32) (k j : Nat) : Bool := decide (cvB ar k (4096 * ar 6 j) (4096 * ar 7 j) = 1)
def fClN (sc : Nat → Int32) (ar : Nat → Nat → Int32) (k j0 n : Nat) : Nat → Int32 :=
  if sc 9 = -1 then (match fstP (hitP ar k) j0 n with
    | some j => va_up (va_up (va_up sc 9 (sc 7)) 10 (nI k)) 11 (nI j)
    | none => sc) else sc
def fCl (sc : Nat → Int32) (ar : Nat → Nat → Int32) (k : Nat) : Nat → Int32 := fClN sc ar k 0 (sc 6).toNatClampNeg
def lookB (st : SA) (k : Nat) : SA := (fCl (va_up st.1 12 (nI (cnt (fSw st.2 k)))) (va_up st.2 17 (fSw st.2 k)) k, va_up st.2 17 (fSw st.2 k))
def lookI (st : SA) : Nat → SA
  | 0 => st
  | k + 1 => lookB (lookI st k) k
def nB (st : SA) : Nat := (st.1 1).toNatClampNeg
def fLook (st : SA) : SA := lookI st (nB st)
def bgB (sc : Nat → Int32) (ar : Nat → Nat → Int32) (b : Nat) : Nat → Nat → Int32 :=
  if 0 < b ∧ nI b < sc 1 then fHang (va_up (va_up (va_up ar 14 (upd (ar 14) b (sc 4))) 15 (upd (ar 15) b 0)) 16 (upd (ar 16) b 0)) b
  else va_up (va_up (va_up ar 14 (upd (ar 14) b (sc 4))) 15 (upd (ar 15) b 0)) 16 (upd (ar 16) b 0)
def bgS (sc : Nat → Int32) : Nat → Int32 := va_up (va_up (va_up (va_up (va_up (va_up sc 7 0) 8 0) 9 (-1)) 10 (-1)) 11 (-1)) 12 0
def bgA (sc : Nat → Int32) (ar : Nat → Nat → Int32) : Nat → Nat → Int32 := va_up (va_up (va_up ar 17 (fun _ => 0)) 12 (upd (ar 12) 0 (4096 * sc 2))) 13 (upd (ar 13) 0 (4096 * sc 3))
def bgI (sc : Nat → Int32) (ar : Nat → Nat → Int32) : Nat → Nat → Nat → Int32
  | 0 => bgA sc ar
  | b + 1 => bgB sc (bgI sc ar b) b
def fBegin (st : SA) : SA := fLook (bgS st.1, bgI (bgS st.1) st.2 3)
def wayO (fw : Int32) : Int32 := if fw = 0 then -1 else 1
def mvA (sc : Nat → Int32) (ar : Nat → Nat → Int32) (turn way : Int32) : Nat → Nat → Int32 :=
  va_up (va_up (va_up ar 12 (upd (ar 12) 0 (ar 12 0 + way * sc 5 * p_dx (ar 14 0)))) 13 (upd (ar 13) 0 (ar 13 0 + way * sc 5 * p_dy (ar 14 0)))) 14 (upd (ar 14) 0 ((ar 14 0 + way * turn) &&& 63))
def mvR (ar : Nat → Nat → Int32) (way sl : Int32) (b : Nat) : Int32 := ar 15 b + way * p_ask (ar 14) b * sl
def mvB (ar : Nat → Nat → Int32) (way sl : Int32) (b : Nat) : Nat → Nat → Int32 :=
  fHang (va_up (va_up (va_up ar 15 (upd (ar 15) b (mvR ar way sl b))) 14 (upd (ar 14) b ((ar 14 b + mvR ar way sl b / ar 1 b) &&& 63))) 15 (upd (upd (ar 15) b (mvR ar way sl b)) b (mvR ar way sl b - mvR ar way sl b / ar 1 b * ar 1 b))) b
def mvI (ar : Nat → Nat → Int32) (way sl : Int32) : Nat → Nat → Nat → Int32
  | 0 => ar
  | i + 1 => mvB (mvI ar way sl i) way sl (i + 1)
def szB (ar : Nat → Nat → Int32) (b : Nat) : Int32 := if p_ask (ar 14) b < 0 then -p_ask (ar 14) b else p_ask (ar 14) b
def grB (st : SA) (b : Nat) : SA := (va_up st.1 8 (if ¬ st.1 8 = 0 ∨ 24 < szB st.2 b then 1 else 0), va_up st.2 16 (upd (st.2 16) b (if st.2 16 b < szB st.2 b then szB st.2 b else st.2 16 b)))
def grI (st : SA) : Nat → SA
  | 0 => st
  | i + 1 => grB (grI st i) (i + 1)
def fMove (st : SA) (turn fw : Int32) : SA :=
  fLook (grI (va_up st.1 7 (st.1 7 + 1), mvI (mvA st.1 st.2 turn (wayO fw)) (wayO fw) (st.1 5) (nB st - 1)) (nB st - 1))
def goI (st : SA) (turn fw : Int32) : Nat → SA
  | 0 => st
  | f + 1 => if st.1 8 = 0 ∧ st.1 7 < 4000 then goI (fMove st turn fw) turn fw f else st
def fGo (st : SA) (turn steps fw : Int32) : SA := goI st turn fw steps.toNatClampNeg
-- counting
def Z01 (f : Nat → Int32) : Prop := ∀ t, t < 4096 → f t = 0 ∨ f t = 1
theorem cntN_le (f : Nat → Int32) (n : Nat) : cntN f n ≤ n := by
  induction n with
  | zero => rw [cntN_z]; exact Nat.le_refl _
  | succ n ih => rw [cntN_s]; split <;> omega
theorem cntN_congr {f g : Nat → Int32} (n : Nat) (h : ∀ t, t < n → f t = g t) : cntN f n = cntN g n := by
  induction n with
  | zero => rw [cntN_z, cntN_z]
  | succ n ih => rw [cntN_s, cntN_s, ih (fun t ht => h t (by omega)), h n (by omega)]
theorem cntN_set {f : Nat → Int32} {k : Nat} (hk : ¬ f k = 1) (n : Nat) (h : k < n) : cntN (upd f k 1) n = cntN f n + 1 := by
  induction n with
  | zero => omega
  | succ n ih =>
    rw [cntN_s, cntN_s]
    by_cases e : k = n
    · subst e
      rw [cntN_congr (g := f) k (fun t ht => by simp [upd, show t ≠ k by omega])]
      simp [upd, hk]
    · rw [ih (by omega)]
      simp only [upd, show ¬ n = k by omega, if_false]
      omega
theorem cntN_0 (n : Nat) : cntN (fun _ => 0) n = 0 := by
  induction n with
  | zero => rw [cntN_z]
  | succ n ih => rw [cntN_s, ih]; rfl
theorem cnt_le (f : Nat → Int32) : cnt f ≤ 4096 := cntN_le f 4096
-- the first pole that is struck
theorem fstP_none {P : Nat → Bool} : ∀ (n k : Nat), fstP P k n = none → ∀ j, k ≤ j → j < k + n → P j = false
  | 0, k, _, j, h1, h2 => by omega
  | n + 1, k, h, j, h1, h2 => by
    unfold fstP at h
    split at h
    · cases h
    · rename_i hp
      by_cases e : j = k
      · subst e; simpa using hp
      · exact fstP_none n (k + 1) h j (by omega) (by omega)
