/-! A block of instructions that touch the frame alone, run by a function: one row a block. -/
def lk (l : List (Nat × Value)) (i : Nat) : Option Value := match l with
  | [] => none
  | q :: r => if q.1 = i then some q.2 else lk r i
theorem lk_mem {l : List (Nat × Value)} {i : Nat} {v : Value} (h : lk l i = some v) : (i, v) ∈ l := by
  induction l with
  | nil => simp [lk] at h
  | cons q r ih =>
    unfold lk at h
    split at h
    · rename_i hq
      cases h
      subst hq
      exact List.mem_cons_self
    · exact List.mem_cons_of_mem _ (ih h)
theorem lk_at {ls : Array Slot} {nL i : Nat} {l : List (Nat × Value)} {v : Value} (hl : lv_has ls nL l) (h : lk l i = some v) : ls[i]? = some (.val v) := hl.2.2 (i, v) (lk_mem h)
def st1 (l : List (Nat × Value)) (i : Nat) (v : Value) : List (Nat × Value) := (i, v) :: l.filter (fun q => !(q.1 == i) && !(q.1 + 1 == i && q.2.category == 2))
def st2 (l : List (Nat × Value)) (i : Nat) (v : Value) : List (Nat × Value) := (i, v) :: l.filter (fun q => !(q.1 == i) && (!(q.1 == i + 1) && !(q.1 + 1 == i && q.2.category == 2)))
abbrev SX : Type := Option (List (Nat × Value) × List Value)
def sxI (l : List (Nat × Value)) (st : List Value) (v : Option Value) : SX := match v with
  | some (.int x) => some (l, .int x :: st)
  | _ => none
def sxL (l : List (Nat × Value)) (st : List Value) (v : Option Value) : SX := match v with
  | some (.long x) => some (l, .long x :: st)
  | _ => none
def sxA (l : List (Nat × Value)) (st : List Value) (v : Option Value) : SX := match v with
  | some (.ref x) => some (l, .ref x :: st)
  | some .null => some (l, .null :: st)
  | _ => none
def sxSI (nL : Nat) (l : List (Nat × Value)) (st : List Value) (i : Nat) : SX := match st with
  | .int x :: r => if i < nL then some (st1 l i (.int x), r) else none
  | _ => none
def sxSL (nL : Nat) (l : List (Nat × Value)) (st : List Value) (i : Nat) : SX := match st with
  | .long x :: r => if i + 1 < nL then some (st2 l i (.long x), r) else none
  | _ => none
def sxSA (nL : Nat) (l : List (Nat × Value)) (st : List Value) (i : Nat) : SX := match st with
  | .ref x :: r => if i < nL then some (st1 l i (.ref x), r) else none
  | .null :: r => if i < nL then some (st1 l i .null, r) else none
  | _ => none
def sxII (l : List (Nat × Value)) (st : List Value) (f : Int32 → Int32 → Int32) : SX := match st with
  | .int y :: .int x :: r => some (l, .int (f x y) :: r)
  | _ => none
def sxLL (l : List (Nat × Value)) (st : List Value) (f : Int64 → Int64 → Int64) : SX := match st with
  | .long y :: .long x :: r => some (l, .long (f x y) :: r)
  | _ => none
def sxLI (l : List (Nat × Value)) (st : List Value) (f : Int64 → Int32 → Int64) : SX := match st with
  | .int y :: .long x :: r => some (l, .long (f x y) :: r)
  | _ => none
def sxC1 (l : List (Nat × Value)) (st : List Value) : SX := match st with
  | a :: r => if a.category = 1 then some (l, a :: a :: r) else none
  | _ => none
def sxP1 (l : List (Nat × Value)) (st : List Value) : SX := match st with
  | a :: r => if a.category = 1 then some (l, r) else none
  | _ => none
def sxX1 (l : List (Nat × Value)) (st : List Value) : SX := match st with
  | a :: b :: r => if a.category = 1 ∧ b.category = 1 then some (l, a :: b :: a :: r) else none
  | _ => none
def sxD2 (l : List (Nat × Value)) (st : List Value) : SX := match st with
  | a :: b :: r => if a.category = 1 ∧ b.category = 1 then some (l, a :: b :: a :: b :: r) else none
  | _ => none
def sxIL (l : List (Nat × Value)) (st : List Value) : SX := match st with
  | .int x :: r => some (l, .long x.toInt64 :: r)
  | _ => none
def sxLi (l : List (Nat × Value)) (st : List Value) : SX := match st with
  | .long x :: r => some (l, .int x.toInt32 :: r)
  | _ => none
def sxNg (l : List (Nat × Value)) (st : List Value) : SX := match st with
  | .int x :: r => some (l, .int (-x) :: r)
  | _ => none
def sxCm (l : List (Nat × Value)) (st : List Value) : SX := match st with
  | .long y :: .long x :: r => some (l, .int (lg_cmp x y) :: r)
  | _ => none
def sxInc (nL : Nat) (l : List (Nat × Value)) (st : List Value) (i : Nat) (n : Int) : SX := match lk l i with
  | some (.int x) => if i < nL then some (st1 l i (.int (x + Int32.ofInt n)), st) else none
  | _ => none
def sx1 (nL : Nat) (l : List (Nat × Value)) (st : List Value) (i : Instr) (n : Nat) : SX := match i, n with
  | .iconst k, 1 => some (l, .int (Int32.ofInt k) :: st)
  | .bipush k, 2 => some (l, .int (Int8.ofInt k).toInt32 :: st)
  | .sipush k, 3 => some (l, .int (Int16.ofInt k).toInt32 :: st)
  | .lconst k, 1 => some (l, .long (Int64.ofNat (k : Nat)) :: st)
  | .aconst_null, 1 => some (l, .null :: st)
  | .iload_n k, 1 => sxI l st (lk l k)
  | .iload k, 2 => sxI l st (lk l k)
  | .lload_n k, 1 => sxL l st (lk l k)
  | .lload k, 2 => sxL l st (lk l k)
  | .aload_n k, 1 => sxA l st (lk l k)
  | .aload k, 2 => sxA l st (lk l k)
  | .istore_n k, 1 => sxSI nL l st k
  | .istore k, 2 => sxSI nL l st k
  | .lstore_n k, 1 => sxSL nL l st k
  | .lstore k, 2 => sxSL nL l st k
  | .astore_n k, 1 => sxSA nL l st k
  | .astore k, 2 => sxSA nL l st k
  | .iinc k z, 3 => sxInc nL l st k z
  | .iadd, 1 => sxII l st (fun x y => x + y)
  | .isub, 1 => sxII l st (fun x y => x - y)
  | .imul, 1 => sxII l st (fun x y => x * y)
  | .iand, 1 => sxII l st (fun x y => x &&& y)
  | .ior, 1 => sxII l st (fun x y => x ||| y)
  | .ixor, 1 => sxII l st (fun x y => x ^^^ y)
  | .ineg, 1 => sxNg l st
  | .ladd, 1 => sxLL l st (fun x y => x + y)
  | .lsub, 1 => sxLL l st (fun x y => x - y)
  | .lmul, 1 => sxLL l st (fun x y => x * y)
  | .land, 1 => sxLL l st (fun x y => x &&& y)
  | .lor, 1 => sxLL l st (fun x y => x ||| y)
  | .lshl, 1 => sxLI l st (fun x y => x <<< (y.toInt64 &&& 63))
  | .lushr, 1 => sxLI l st (fun x y => (x.toUInt64 >>> (y.toInt64.toUInt64 &&& Int64.toUInt64 63)).toInt64)
  | .i2l, 1 => sxIL l st
  | .l2i, 1 => sxLi l st
  | .lcmp, 1 => sxCm l st
  | .dup, 1 => sxC1 l st
  | .pop, 1 => sxP1 l st
  | .dup_x1, 1 => sxX1 l st
  | .dup2, 1 => sxD2 l st
  | _, _ => none
def sxn (nL : Nat) : List (Instr × Nat) → List (Nat × Value) → List Value → SX
  | [], l, st => some (l, st)
  | q :: r, l, st => match sx1 nL l st q.1 q.2 with
    | some z => sxn nL r z.1 z.2
    | none => none
def decs (cc : ByteArray) : List (Instr × Nat) → Nat → Nat → Bool
  | [], pc, pc' => pc == pc'
  | q :: r, pc, pc' => decide (decode cc pc = .ok (q.1, q.2)) && decs cc r (pc + q.2) pc'
section SXS
variable {p : Program} {l : Launch} {e : Env} {R : Room} {s : State} {m : MethodId} {args : Array Value} {below : List Frame} {meth : Method} {c : Code} {H : Heap} {locs : List Loc} {cells slots : Nat} {Q : State → Prop}
variable {cc : ByteArray} {pc : Nat} {ls : Array Slot} {nL : Nat} {L L' : List (Nat × Value)} {st st' : List Value}
theorem sxI_ok {v : Option Value} (h : sxI L st v = some (L', st')) : ∃ x, v = some (.int x) ∧ L' = L ∧ st' = .int x :: st := by
  unfold sxI at h
  split at h
  · cases h; exact ⟨_, rfl, rfl, rfl⟩
  · cases h
theorem sxL_ok {v : Option Value} (h : sxL L st v = some (L', st')) : ∃ x, v = some (.long x) ∧ L' = L ∧ st' = .long x :: st := by
  unfold sxL at h
  split at h
  · cases h; exact ⟨_, rfl, rfl, rfl⟩
  · cases h
theorem sxA_ok {v : Option Value} (h : sxA L st v = some (L', st')) : (∃ x, v = some (.ref x) ∧ L' = L ∧ st' = .ref x :: st) ∨ (v = some .null ∧ L' = L ∧ st' = .null :: st) := by
  unfold sxA at h
  split at h
  · cases h; exact Or.inl ⟨_, rfl, rfl, rfl⟩
  · cases h; exact Or.inr ⟨rfl, rfl, rfl⟩
  · cases h
theorem sxSI_ok {i : Nat} (h : sxSI nL L st i = some (L', st')) : ∃ x, st = .int x :: st' ∧ i < nL ∧ L' = st1 L i (.int x) := by
  unfold sxSI at h
  split at h
  · split at h
    · cases h; exact ⟨_, rfl, by assumption, rfl⟩
    · cases h
  · cases h
theorem sxSL_ok {i : Nat} (h : sxSL nL L st i = some (L', st')) : ∃ x, st = .long x :: st' ∧ i + 1 < nL ∧ L' = st2 L i (.long x) := by
  unfold sxSL at h
  split at h
  · split at h
    · cases h; exact ⟨_, rfl, by assumption, rfl⟩
    · cases h
  · cases h
theorem sxSA_ok {i : Nat} (h : sxSA nL L st i = some (L', st')) : (∃ x, st = .ref x :: st' ∧ i < nL ∧ L' = st1 L i (.ref x)) ∨ (st = .null :: st' ∧ i < nL ∧ L' = st1 L i .null) := by
  unfold sxSA at h
  split at h
  · split at h
    · cases h; exact Or.inl ⟨_, rfl, by assumption, rfl⟩
    · cases h
  · split at h
    · cases h; exact Or.inr ⟨rfl, by assumption, rfl⟩
    · cases h
  · cases h
theorem sxII_ok {f : Int32 → Int32 → Int32} (h : sxII L st f = some (L', st')) : ∃ x y r, st = .int y :: .int x :: r ∧ L' = L ∧ st' = .int (f x y) :: r := by
  unfold sxII at h
  split at h
  · cases h; exact ⟨_, _, _, rfl, rfl, rfl⟩
  · cases h
theorem sxLL_ok {f : Int64 → Int64 → Int64} (h : sxLL L st f = some (L', st')) : ∃ x y r, st = .long y :: .long x :: r ∧ L' = L ∧ st' = .long (f x y) :: r := by
  unfold sxLL at h
  split at h
  · cases h; exact ⟨_, _, _, rfl, rfl, rfl⟩
  · cases h
theorem sxLI_ok {f : Int64 → Int32 → Int64} (h : sxLI L st f = some (L', st')) : ∃ x y r, st = .int y :: .long x :: r ∧ L' = L ∧ st' = .long (f x y) :: r := by
  unfold sxLI at h
  split at h
  · cases h; exact ⟨_, _, _, rfl, rfl, rfl⟩
  · cases h
theorem sx1_ok (hx : p.tables.exec = Jvm.exec) (hb : c.code = cc) {i : Instr} {n : Nat} (hdg : decode cc pc = .ok (i, n)) (hl : lv_has ls nL L) (h : sx1 nL L st i n = some (L', st'))
    (k : ∀ ls', lv_has ls' nL L' → W p l e R s m args below meth c H locs cells slots Q (F0 m (pc + n) ls' st')) : W p l e R s m args below meth c H locs cells slots Q (F0 m pc ls st) := by
  unfold sx1 at h
  split at h
  · cases h; exact lv_iconst hx hb hdg rfl (k ls hl)
  · cases h; exact lv_bipush hx hb hdg rfl (k ls hl)
  · cases h; exact lv_sipush hx hb hdg rfl (k ls hl)
  · cases h; exact lv_lconst hx hb hdg rfl (k ls hl)
  · cases h; exact lv_null hx hb hdg (k ls hl)
  · obtain ⟨x, h1, rfl, rfl⟩ := sxI_ok h; exact lv_iload_n hx hb hdg rfl (lk_at hl h1) (k ls hl)
  · obtain ⟨x, h1, rfl, rfl⟩ := sxI_ok h; exact lv_iload hx hb hdg (lk_at hl h1) (k ls hl)
  · obtain ⟨x, h1, rfl, rfl⟩ := sxL_ok h; exact lv_lload_n hx hb hdg rfl (lk_at hl h1) (k ls hl)
  · obtain ⟨x, h1, rfl, rfl⟩ := sxL_ok h; exact lv_lload hx hb hdg (lk_at hl h1) (k ls hl)
  · rcases sxA_ok h with ⟨x, h1, rfl, rfl⟩ | ⟨h1, rfl, rfl⟩
    · exact lv_aload_n hx hb hdg rfl (lk_at hl h1) (k ls hl)
    · exact lv_aload_nN hx hb hdg rfl (lk_at hl h1) (k ls hl)
  · rcases sxA_ok h with ⟨x, h1, rfl, rfl⟩ | ⟨h1, rfl, rfl⟩
    · exact lv_aload hx hb hdg (lk_at hl h1) (k ls hl)
    · exact lv_aloadN hx hb hdg (lk_at hl h1) (k ls hl)
  · obtain ⟨x, rfl, h1, rfl⟩ := sxSI_ok h; exact lv_istore_n hx hb hdg rfl hl h1 rfl k
  · obtain ⟨x, rfl, h1, rfl⟩ := sxSI_ok h; exact lv_istore hx hb hdg hl h1 rfl k
  · obtain ⟨x, rfl, h1, rfl⟩ := sxSL_ok h; exact lv_lstore_n hx hb hdg rfl hl h1 rfl k
  · obtain ⟨x, rfl, h1, rfl⟩ := sxSL_ok h; exact lv_lstore hx hb hdg hl h1 rfl k
  · rcases sxSA_ok h with ⟨x, rfl, h1, rfl⟩ | ⟨rfl, h1, rfl⟩
    · exact lv_astore_n hx hb hdg rfl hl h1 rfl k
    · exact lv_astore_nN hx hb hdg rfl hl h1 rfl k
  · rcases sxSA_ok h with ⟨x, rfl, h1, rfl⟩ | ⟨rfl, h1, rfl⟩
    · exact lv_astore hx hb hdg hl h1 rfl k
    · exact lv_astoreN hx hb hdg hl h1 rfl k
  · unfold sxInc at h
    split at h
    · rename_i x hx1
      split at h
      · rename_i hi
        cases h
        obtain ⟨j, hj⟩ := List.getElem?_of_mem (lk_mem hx1)
        exact lv_iinc hx hb hdg hl hj rfl hi rfl k
      · cases h
    · cases h
  · obtain ⟨x, y, r, rfl, rfl, rfl⟩ := sxII_ok h; exact lv_iadd hx hb hdg (k ls hl)
  · obtain ⟨x, y, r, rfl, rfl, rfl⟩ := sxII_ok h; exact lv_isub hx hb hdg (k ls hl)
  · obtain ⟨x, y, r, rfl, rfl, rfl⟩ := sxII_ok h; exact lv_imul hx hb hdg (k ls hl)
  · obtain ⟨x, y, r, rfl, rfl, rfl⟩ := sxII_ok h; exact lv_iand hx hb hdg (k ls hl)
  · obtain ⟨x, y, r, rfl, rfl, rfl⟩ := sxII_ok h; exact lv_ior hx hb hdg (k ls hl)
  · obtain ⟨x, y, r, rfl, rfl, rfl⟩ := sxII_ok h; exact lv_ixor hx hb hdg (k ls hl)
  · unfold sxNg at h
    split at h
    · cases h; exact lv_ineg hx hb hdg (k ls hl)
    · cases h
  · obtain ⟨x, y, r, rfl, rfl, rfl⟩ := sxLL_ok h; exact lv_ladd hx hb hdg (k ls hl)
  · obtain ⟨x, y, r, rfl, rfl, rfl⟩ := sxLL_ok h; exact lv_lsub hx hb hdg (k ls hl)
  · obtain ⟨x, y, r, rfl, rfl, rfl⟩ := sxLL_ok h; exact lv_lmul hx hb hdg (k ls hl)
  · obtain ⟨x, y, r, rfl, rfl, rfl⟩ := sxLL_ok h; exact lv_land hx hb hdg (k ls hl)
  · obtain ⟨x, y, r, rfl, rfl, rfl⟩ := sxLL_ok h; exact lv_lor hx hb hdg (k ls hl)
  · obtain ⟨x, y, r, rfl, rfl, rfl⟩ := sxLI_ok h; exact lv_lshl hx hb hdg rfl (k ls hl)
  · obtain ⟨x, y, r, rfl, rfl, rfl⟩ := sxLI_ok h; exact lv_lushr hx hb hdg rfl (k ls hl)
  · unfold sxIL at h
    split at h
    · cases h; exact lv_i2l hx hb hdg rfl (k ls hl)
    · cases h
  · unfold sxLi at h
    split at h
    · cases h; exact lv_l2i hx hb hdg rfl (k ls hl)
    · cases h
  · unfold sxCm at h
    split at h
    · cases h; exact W.lcmp hx hb hdg (k ls hl)
    · cases h
  · unfold sxC1 at h
    split at h
    · split at h
      · cases h; exact lv_dup hx hb hdg (by assumption) (k ls hl)
      · cases h
    · cases h
  · unfold sxP1 at h
    split at h
    · split at h
      · cases h; exact lv_pop hx hb hdg (by assumption) (k ls hl)
      · cases h
    · cases h
  · unfold sxX1 at h
    split at h
    · split at h
      · rename_i h1; cases h; exact lv_dup_x1 hx hb hdg h1.1 h1.2 (k ls hl)
      · cases h
    · cases h
  · unfold sxD2 at h
    split at h
    · split at h
      · rename_i h1; cases h; exact lv_dup2_11 hx hb hdg h1.1 h1.2 (k ls hl)
      · cases h
    · cases h
  · cases h
theorem sx (hx : p.tables.exec = Jvm.exec) (hb : c.code = cc) {is : List (Instr × Nat)} {pc' : Nat} (hd : decs cc is pc pc' = true) (hl : lv_has ls nL L) (h : sxn nL is L st = some (L', st'))
    (k : ∀ ls', lv_has ls' nL L' → W p l e R s m args below meth c H locs cells slots Q (F0 m pc' ls' st')) : W p l e R s m args below meth c H locs cells slots Q (F0 m pc ls st) := by
  induction is generalizing pc ls L st with
  | nil =>
    cases h
    have h1 : pc = pc' := by simpa [decs] using hd
    subst h1
    exact k ls hl
  | cons q r ih =>
    simp only [decs, Bool.and_eq_true, decide_eq_true_eq] at hd
    unfold sxn at h
    split at h
    · rename_i z hz
      exact sx1_ok hx hb hd.1 hl (L' := z.1) (st' := z.2) hz (fun ls' hl' => ih hd.2 hl' h)
    · cases h
end SXS
