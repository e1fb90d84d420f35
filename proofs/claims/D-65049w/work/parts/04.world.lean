/-! The world as a map from labels to cells, what is known of classes and statics, and a row an instruction over them. -/
abbrev GG : Type := va_G × (Nat → ClassId) × (Nat → Nat)
def gT (G : GG) : List (ClassId × FieldType) := [(G.2.1 0, .int), (G.2.1 1, .boolean), (G.2.1 2, .long), (G.2.1 3, .object "java/lang/Object")]
def gK (G : GG) (U : State) : Prop := va_K G.1 classes (gT G) U
def cosT (k : Nat) : Int32 := match k with
  | 0 => 4096 | 1 => 4076 | 2 => 4017 | 3 => 3920 | 4 => 3784 | 5 => 3612 | 6 => 3406 | 7 => 3166 | 8 => 2896 | 9 => 2598 | 10 => 2276 | 11 => 1931 | 12 => 1567 | 13 => 1189 | 14 => 799 | 15 => 401 | _ => 0
/-- a static that holds a reference or null, with all that its word says of it -/
def zL (C n d : String) (A : Nat → Prop) (U : State) (H : Heap) : Prop := ∃ (c : ClassId) (k : Class) (i : Nat) (f : Field) (a : Nat) (cell : Cell) (v : Value), U.vm.findClass C = some c ∧ U.fieldFound? C n d = some (c, k, i, f) ∧ f.isStatic = true ∧ k.statics = some a ∧ H[a]? = some cell ∧ cell.vm.isStatics = true ∧ cell.cls = c ∧ f.slot < cell.slots.size ∧ k.staticTypes[f.slot]? = some f.type ∧ cell.slots[f.slot]? = some v ∧ (v = .null ∨ ∃ t, v = .ref t) ∧ ¬ A a
theorem zL.moved {C n d : String} {A : Nat → Prop} {u U : State} {H : Heap} (hvm : u.vm.Alike U.vm) (h : zL C n d A u H) : zL C n d A U H := by
  obtain ⟨c, k, i, f, a, cell, v, h1, h2, h3, h4, h5, h6, h7, h8, h9, h10⟩ := h
  obtain ⟨k', hi', he⟩ := State.fieldFound?_setVm hvm h2
  exact ⟨c, k', i, f, a, cell, v, (hvm.findClass C none).trans h1, hi', h3, by rw [he]; exact h4, h5, h6, h7, h8, by rw [he]; exact h9, h10⟩
theorem zL.kept {C n d : String} {A : Nat → Prop} {U : State} {H H1 : Heap} (h : zL C n d A U H) (hq : ∀ a : Nat, a < H.size → ¬ A a → H1[a]? = H[a]?) : zL C n d A U H1 := by
  obtain ⟨c, k, i, f, a, cell, v, h1, h2, h3, h4, h5, h6, h7, h8, h9, h10, h11, h12⟩ := h
  exact ⟨c, k, i, f, a, cell, v, h1, h2, h3, h4, by rw [hq a (Array.getElem?_eq_some_iff.mp h5).1 h12]; exact h5, h6, h7, h8, h9, h10, h11, h12⟩
theorem zL.narrow {C n d : String} {A B : Nat → Prop} {U : State} {H : Heap} (h : zL C n d A U H) (hAB : ∀ q, B q → A q) : zL C n d B U H := by
  obtain ⟨c, k, i, f, a, cell, v, h1, h2, h3, h4, h5, h6, h7, h8, h9, h10, h11, h12⟩ := h
  exact ⟨c, k, i, f, a, cell, v, h1, h2, h3, h4, h5, h6, h7, h8, h9, h10, h11, fun z => h12 (hAB a z)⟩
theorem zL.lays {C n d : String} {A : Nat → Prop} {U : State} {args : Array Value} (h : zL C n d A U U.heap) : (Cond.laysStatic C n d).before args U = true := by
  obtain ⟨c, k, i, f, a, cell, v, h1, h2, h3, h4, h5, h6, h7, h8, h9, h10, h11, h12⟩ := h
  simp [Cond.before, Cond.holds, Cond.value, h1, h2, h3, h4, h5, h6, h7, h8, h9]
theorem zL.isRef {C n d : String} {A : Nat → Prop} {U : State} {args : Array Value} (h : zL C n d A U U.heap) : (Cond.isRef (.static C n d)).before args U = true := by
  obtain ⟨c, k, i, f, a, cell, v, h1, h2, h3, h4, h5, h6, h7, h8, h9, h10, h11, h12⟩ := h
  have e : (Term.static C n d).eval args U none [] U = some v := by
    simp [Term.eval, State.fieldNamed?, h2, h3, h4, h5, h6, h10]
  rcases h11 with rfl | ⟨t, rfl⟩ <;> simp [Cond.before, Cond.holds, Cond.value, e]
/-- an IllegalStateException is no IllegalArgumentException -/
def nCast (U : State) : Prop := ∀ c1 c2, U.vm.findClass "java/lang/IllegalStateException" = some c1 → U.vm.findClass "java/lang/IllegalArgumentException" = some c2 → U.vm.assignable c1 c2 = false
theorem nCast.moved {u U : State} (hvm : u.vm.Alike U.vm) (h : nCast u) : nCast U := by
  intro c1 c2 h1 h2
  rw [hvm.assignable]
  exact h c1 c2 ((hvm.findClass _ none).symm.trans h1) ((hvm.findClass _ none).symm.trans h2)
def gZ (G : GG) (A : Nat → Prop) (U : State) (H : Heap) : Prop :=
  va_Z "SweptPaths" "COSINES" "[I" (.ref (G.2.2 0)) A U H ∧ va_T .int (G.2.2 0) 17 (fun j => .int (cosT j)) A U H ∧
  va_Z "java/util/BitSet" "$assertionsDisabled" "Z" (.int 1) A U H ∧
  va_Z "java/util/ArrayList" "DEFAULTCAPACITY_EMPTY_ELEMENTDATA" "[Ljava/lang/Object;" (.ref (G.2.2 1)) A U H ∧ va_T (.object "java/lang/Object") (G.2.2 1) 0 (fun _ => .null) A U H ∧
  zL "java/lang/Throwable" "UNASSIGNED_STACK" "[Ljava/lang/StackTraceElement;" A U H ∧ zL "java/lang/Throwable" "SUPPRESSED_SENTINEL" "Ljava/util/List;" A U H ∧ nCast U
theorem gZ.call {G : GG} {A B : Nat → Prop} {s U : State} {H : Heap} {locs : List Loc} (h : gZ G A s s.heap) (hS : va_S A s.heap H locs) (hvm : s.vm.Alike U.vm) (hU : U.heap = H) (hBA : ∀ q, B q → A q) : gZ G B U U.heap := by
  rw [hU]
  obtain ⟨h1, h2, h3, h4, h5, h6, h7, h8⟩ := h
  exact ⟨((h1.kept hS.2.1).narrow hBA).moved hvm, ((h2.kept hS.2.1).narrow hBA).moved hvm, ((h3.kept hS.2.1).narrow hBA).moved hvm, ((h4.kept hS.2.1).narrow hBA).moved hvm, ((h5.kept hS.2.1).narrow hBA).moved hvm, ((h6.kept hS.2.1).narrow hBA).moved hvm, ((h7.kept hS.2.1).narrow hBA).moved hvm, h8.moved hvm⟩
theorem gK.moved {G : GG} {u U : State} (hvm : u.vm.Alike U.vm) (h : gK G u) : gK G U := va_K.moved hvm h
abbrev WF : Type := Nat → Option (Nat × va_E)
def wP (G : GG) (w : WF) (H : Heap) : Prop := ∀ (k : Nat) (q : Nat × va_E), w k = some q → va_at G.1 classes q H
def wD (A : Nat → Prop) (w : WF) : Prop := (∀ (i j : Nat) (p q : Nat × va_E), w i = some p → w j = some q → p.1 = q.1 → i = j) ∧ ∀ (k : Nat) (q : Nat × va_E), w k = some q → A q.1
def Hw (G : GG) (A : Nat → Prop) (s : State) (w : WF) (H : Heap) (locs : List Loc) : Prop := wP G w H ∧ wD A w ∧ va_S A s.heap H locs
theorem wP.one {G : GG} {w : WF} {H : Heap} (h : wP G w H) {n : Nat} {q : Nat × va_E} (he : w n = some q) : va_P G.1 classes [q] H := by
  intro k x hx
  have hz : k < 1 := (List.getElem?_eq_some_iff.mp hx).1
  rw [show k = 0 by omega] at hx
  cases hx
  exact h n q he
theorem wP.set {G : GG} {A : Nat → Prop} {w : WF} {H H1 : Heap} {n a : Nat} {e0 e : va_E} (h : wP G w H) (hD : wD A w) (he : w n = some (a, e0)) (hn : va_at G.1 classes (a, e) H1) (oq : ∀ q : Nat, q ≠ a → H1[q]? = H[q]?) : wP G (va_up w n (some (a, e))) H1 := by
  intro k q hk
  unfold va_up at hk
  split at hk
  · cases hk; exact hn
  · rename_i hkn
    exact (h k q hk).kept (oq q.1 (fun z => hkn (hD.1 k n q (a, e0) hk he z)))
theorem wD.set {A : Nat → Prop} {w : WF} {n a : Nat} {e0 e : va_E} (hD : wD A w) (he : w n = some (a, e0)) : wD A (va_up w n (some (a, e))) := by
  have key : ∀ (k : Nat) (q : Nat × va_E), va_up w n (some (a, e)) k = some q → ∃ q0, w k = some q0 ∧ q0.1 = q.1 := by
    intro k q hk
    unfold va_up at hk
    split at hk
    · rename_i hkn; subst hkn; cases hk; exact ⟨_, he, rfl⟩
    · exact ⟨q, hk, rfl⟩
  refine ⟨fun i j x y hi hj hxy => ?_, fun k q hk => ?_⟩
  · obtain ⟨x0, h1, h2⟩ := key i x hi
    obtain ⟨y0, h3, h4⟩ := key j y hj
    exact hD.1 i j x0 y0 h1 h3 (h2.trans (hxy.trans h4.symm))
  · obtain ⟨q0, h1, h2⟩ := key k q hk
    rw [← h2]; exact hD.2 k q0 h1
theorem wP.lt {G : GG} {w : WF} {H : Heap} (h : wP G w H) {n : Nat} {q : Nat × va_E} (he : w n = some q) : q.1 < H.size := (h n q he).lt
theorem wP.kept {G : GG} {w : WF} {H H1 : Heap} (h : wP G w H) (hq : ∀ q : Nat, q < H.size → H1[q]? = H[q]?) : wP G w H1 := fun k q hk => (h k q hk).kept (hq q.1 (h k q hk).lt)
theorem wP.push {G : GG} {w : WF} {H H1 : Heap} {n a : Nat} {e : va_E} (h : wP G w H) (ha : a = H.size) (hn : va_at G.1 classes (a, e) H1) (oq : ∀ q : Nat, q < H.size → H1[q]? = H[q]?) : wP G (va_up w n (some (a, e))) H1 := by
  intro k q hk
  unfold va_up at hk
  split at hk
  · cases hk; exact hn
  · exact (h k q hk).kept (oq q.1 (h k q hk).lt)
theorem wD.push {G : GG} {A : Nat → Prop} {w : WF} {H : Heap} {n a : Nat} {e : va_E} (hD : wD A w) (h : wP G w H) (ha : a = H.size) (hA : A a) : wD A (va_up w n (some (a, e))) := by
  have key : ∀ (k : Nat) (q : Nat × va_E), va_up w n (some (a, e)) k = some q → (k = n ∧ q.1 = a) ∨ (w k = some q ∧ q.1 < a) := by
    intro k q hk
    unfold va_up at hk
    split at hk
    · rename_i hkn; cases hk; exact Or.inl ⟨hkn, rfl⟩
    · exact Or.inr ⟨hk, by rw [ha]; exact (h k q hk).lt⟩
  refine ⟨fun i j x y hi hj hxy => ?_, fun k q hk => ?_⟩
  · rcases key i x hi with ⟨h1, l1⟩ | ⟨h1, l1⟩ <;> rcases key j y hj with ⟨h2, l2⟩ | ⟨h2, l2⟩
    · rw [h1, h2]
    · omega
    · omega
    · exact hD.1 i j x y h1 h2 hxy
  · rcases key k q hk with ⟨-, h1⟩ | ⟨h1, -⟩
    · rw [h1]; exact hA
    · exact hD.2 k q h1
/-- a world with fewer cells -/
theorem wP.less {G : GG} {w w' : WF} {H : Heap} (h : wP G w H) (hw : ∀ k q, w' k = some q → w k = some q) : wP G w' H := fun k q hk => h k q (hw k q hk)
theorem wD.less {A : Nat → Prop} {w w' : WF} (h : wD A w) (hw : ∀ k q, w' k = some q → w k = some q) : wD A w' := ⟨fun i j p q hi hj => h.1 i j p q (hw i p hi) (hw j q hj), fun k q hk => h.2 k q (hw k q hk)⟩
theorem wD.ne {A : Nat → Prop} {w : WF} (hD : wD A w) {i j : Nat} {p q : Nat × va_E} (hi : w i = some p) (hj : w j = some q) (hij : i ≠ j) : p.1 ≠ q.1 := fun z => hij (hD.1 i j p q hi hj z)
theorem up_s {α : Type} (f : Nat → α) (k : Nat) (v : α) : va_up f k v k = v := by simp [va_up]
theorem up_n {α : Type} (f : Nat → α) {k j : Nat} (v : α) (h : j ≠ k) : va_up f k v j = f j := by simp [va_up, h]
-- the classes, by number
def fTy (ci : Nat) : Nat → FieldType := match ci with
  | 0 => f_SP | 1 => f_Shape | 2 => f_Body | 3 => f_Part | 4 => f_Run | 5 => f_Mo | 6 => f_AL | _ => f_BS
theorem cls_in : ∀ (ci : Nat) (q : vw_C), classes[ci]? = some q → ∀ w ∈ u_ws q.1 q.2.1 q.2.2, w ∈ wt := by
  intro ci q h
  match ci, h with
  | 0, h => cases h; exact i_SP
  | 1, h => cases h; exact i_Shape
  | 2, h => cases h; exact i_Body
  | 3, h => cases h; exact i_Part
  | 4, h => cases h; exact i_Run
  | 5, h => cases h; exact i_Mo
  | 6, h => cases h; exact i_AL
  | 7, h => cases h; exact i_BS
  | k + 8, h => simp [classes] at h
theorem cls_ty : ∀ (ci : Nat) (q : vw_C), classes[ci]? = some q → ∀ k, k < q.2.2 → parseFieldDescriptor (q.2.1 k).2.2.1 = some (fTy ci k) := by
  intro ci q h
  match ci, h with
  | 0, h => cases h; exact f_SP_ok
  | 1, h => cases h; exact f_Shape_ok
  | 2, h => cases h; exact f_Body_ok
  | 3, h => cases h; exact f_Part_ok
  | 4, h => cases h; exact f_Run_ok
  | 5, h => cases h; exact f_Mo_ok
  | 6, h => cases h; exact f_AL_ok
  | 7, h => cases h; exact f_BS_ok
  | k + 8, h => simp [classes] at h
theorem cls_nm : ∀ (ci : Nat) (q : vw_C), classes[ci]? = some q → ∀ a, a < q.2.2 → ∀ b, b < q.2.2 → a ≠ b → (q.2.1 a).2.1 ≠ (q.2.1 b).2.1 := by
  intro ci q h
  match ci, h with
  | 0, h => cases h; exact n_SP
  | 1, h => cases h; exact n_Shape
  | 2, h => cases h; exact n_Body
  | 3, h => cases h; exact n_Part
  | 4, h => cases h; exact n_Run
  | 5, h => cases h; exact n_Mo
  | 6, h => cases h; exact n_AL
  | 7, h => cases h; exact n_BS
  | k + 8, h => simp [classes] at h
/-- what a method's walk stands on -/
def Cx (p : Program) (s : State) (m : MethodId) (args : Array Value) (meth : Method) (c : Code) (cc : ByteArray) (nL : Nat) (own : String) (G : GG) (A : Nat → Prop) : Prop :=
  p.tables.exec = Jvm.exec ∧ c.code = cc ∧ c.maxLocals = nL ∧ s.vm.findClass own = some m.cls ∧ (∀ w ∈ wt, w.before args s = true) ∧ gK G s ∧ gZ G A s s.heap ∧ meth.locks = false
section XR
variable {p : Program} {l : Launch} {e : Env} {R : Room} {s : State} {m : MethodId} {args : Array Value} {below : List Frame} {meth : Method} {c : Code} {H : Heap} {locs : List Loc} {cells slots : Nat} {Q : State → Prop}
variable {cc : ByteArray} {pc : Nat} {ls : Array Slot} {nL : Nat} {own : String} {G : GG} {A : Nat → Prop} {w : WF} {rest : List Value} {a : Nat}
theorem Cx.fix (C : Cx p s m args meth c cc nL own G A) : CallFix p m c cc nL s args wt own := ⟨C.1, C.2.1, C.2.2.1, C.2.2.2.1, C.2.2.2.2.1⟩
theorem Cx.ts (C : Cx p s m args meth c cc nL own G A) {w : Cond} (h : w ∈ wt) : w.before args s = true := C.2.2.2.2.1 w h
theorem Cx.K (C : Cx p s m args meth c cc nL own G A) : gK G s := C.2.2.2.2.2.1
theorem Cx.Z (C : Cx p s m args meth c cc nL own G A) : gZ G A s s.heap := C.2.2.2.2.2.2.1
theorem Cx.lk (C : Cx p s m args meth c cc nL own G A) : meth.locks = false := C.2.2.2.2.2.2.2
theorem x_sx (C : Cx p s m args meth c cc nL own G A) {is : List (Instr × Nat)} {pc' : Nat} {L L' : List (Nat × Value)} {st st' : List Value} (hd : decs cc is pc pc' = true) (hl : lv_has ls nL L) (h : sxn nL is L st = some (L', st'))
    (k : ∀ ls', lv_has ls' nL L' → W p l e R s m args below meth c H locs cells slots Q (F0 m pc' ls' st')) : W p l e R s m args below meth c H locs cells slots Q (F0 m pc ls st) := sx C.1 C.2.1 hd hl h k
theorem x_goto (C : Cx p s m args meth c cc nL own G A) {off : Int} {tgt : Nat} (hdg : decode cc pc = .ok (.goto off, 3)) (ht : (pc : Int) + off = (tgt : Int)) (k : W p l e R s m args below meth c H locs cells slots Q (F0 m tgt ls rest)) : W p l e R s m args below meth c H locs cells slots Q (F0 m pc ls rest) := lv_goto C.1 C.2.1 hdg ht k
theorem x_get (C : Cx p s m args meth c cc nL own G A) (hP : wP G w H) (n : Nat) {ci : Nat} {fs : List Value} (he : w n = some (a, .inr (ci, fs))) (k : Nat) {v : Value} (hv : fs[k]? = some v) {q : vw_C} (hc : classes[ci]? = some q) (hk : k < q.2.2) {index : Nat} {ref : String}
    (hlink : Cond.fieldLink own index ref (q.2.1 k).2.1 (q.2.1 k).2.2.1 ∈ wt) (hsame : ∀ x, s.fieldFound? (q.2.1 k).1 (q.2.1 k).2.1 (q.2.1 k).2.2.1 = some x → s.fieldFound? ref (q.2.1 k).2.1 (q.2.1 k).2.2.1 = some x) (hdg : decode cc pc = .ok (.getfield index, 3))
    (kk : W p l e R s m args below meth c H locs cells slots Q (F0 m (pc + 3) ls (v :: rest))) : W p l e R s m args below meth c H locs cells slots Q (F0 m pc ls (.ref a :: rest)) :=
  va_get (D := G.1) (ci := ci) (C := q.1) (T := q.2.1) (N := q.2.2) C.1 C.2.1 C.2.2.2.2.1 (cls_in ci q hc) C.2.2.2.1 C.K (hP.one he) 0 rfl hc k hk (C.ts hlink) hsame hv hdg kk
theorem x_getN (C : Cx p s m args meth c cc nL own G A) (hP : wP G w H) (n : Nat) {ci : Nat} {fs : List Value} (he : w n = some (a, .inr (ci, fs))) (k : Nat) {v : Value} (hv : fs[k]? = some v) {q : vw_C} (hc : classes[ci]? = some q) (hk : k < q.2.2) {index : Nat} {ref host : String}
    (hlink : Cond.fieldLinkNest own index ref (q.2.1 k).2.1 (q.2.1 k).2.2.1 host ∈ wt) (hsame : ∀ x, s.fieldFound? (q.2.1 k).1 (q.2.1 k).2.1 (q.2.1 k).2.2.1 = some x → s.fieldFound? ref (q.2.1 k).2.1 (q.2.1 k).2.2.1 = some x) (hdg : decode cc pc = .ok (.getfield index, 3))
    (kk : W p l e R s m args below meth c H locs cells slots Q (F0 m (pc + 3) ls (v :: rest))) : W p l e R s m args below meth c H locs cells slots Q (F0 m pc ls (.ref a :: rest)) :=
  va_getN (D := G.1) (ci := ci) (C := q.1) (T := q.2.1) (N := q.2.2) C.1 C.2.1 C.2.2.2.2.1 (cls_in ci q hc) C.2.2.2.1 C.K (hP.one he) 0 rfl hc k hk (C.ts hlink) hsame hv hdg kk
theorem x_put (C : Cx p s m args meth c cc nL own G A) (hH : Hw G A s w H locs) (n : Nat) {ci : Nat} {fs : List Value} (he : w n = some (a, .inr (ci, fs))) (k : Nat) {v : Value} (hl : k < fs.length) {q : vw_C} (hc : classes[ci]? = some q) (hk : k < q.2.2) {index : Nat} {ref : String}
    (hlink : Cond.fieldLink own index ref (q.2.1 k).2.1 (q.2.1 k).2.2.1 ∈ wt) (hsame : ∀ x, s.fieldFound? (q.2.1 k).1 (q.2.1 k).2.1 (q.2.1 k).2.2.1 = some x → s.fieldFound? ref (q.2.1 k).2.1 (q.2.1 k).2.2.1 = some x) (hfin : (q.2.1 k).2.2.2 = false) (hn : narrow (fTy ci k) v = v) (hfit : fits (fTy ci k) v = true) (hdg : decode cc pc = .ok (.putfield index, 3))
    (kk : ∀ (H : Heap) (locs : List Loc), Hw G A s (va_up w n (some (a, .inr (ci, fs.set k v)))) H locs → W p l e R s m args below meth c H locs cells slots Q (F0 m (pc + 3) ls rest)) : W p l e R s m args below meth c H locs cells slots Q (F0 m pc ls (v :: .ref a :: rest)) := by
  obtain ⟨hP, hD, hS0⟩ := hH
  have hK := C.K
  have hts := C.2.2.2.2.1
  have hin := cls_in ci q hc
  obtain ⟨Cn, T, N⟩ := q
  have hap := va_apart (own := own) hts hin (fTy ci) (cls_ty ci _ hc) (cls_nm ci _ hc) hK hc
  obtain ⟨r, h1, cell, q1, q2, q3, q4⟩ := hP n _ he
  have hr : r = (Cn, T, N) := Option.some.inj (h1.symm.trans hc)
  subst hr
  obtain ⟨hS, hfc, kC, hkC, hkind⟩ := hK.1 ci _ hc
  obtain ⟨cf, kf, fi, f, hi, hsl⟩ := hS k hk
  have hlay := hts _ (hin _ (u_in_lay hk))
  unfold u_lay at hlay
  rw [if_neg (by show ¬ (T k).2.2.2 = true; rw [hfin]; decide)] at hlay
  have hst := (u_facts hfc hkC (u_lays hts hin hk) hi).1
  have h6 := u_store hfc hkC hkind hlay hi (cls_ty ci _ hc k hk) hn hfit
  refine W.putK C.1 C.2.1 (f := f) ⟨C.2.2.2.1, C.ts hlink, ⟨_, _, _, hsame _ hi⟩, hst⟩ (by rw [q2]; exact h6) q1 q3 (by rw [hsl]; exact k2_hasslot (q4 k hk)) rfl rfl hdg fun H' e1 e2 e3 => ?_
  rw [hsl] at e1 ⊢
  exact kk H' _ ⟨hP.set hD he ⟨_, hc, t_OB.to (V := updV (vp_V fs) k v) ⟨_, e1, q2, q3, t_set q4 hap hk v⟩ (fun j _ => vp_updV_set hl v j)⟩ e3, hD.set he, hS0.put e2 e3 (hD.2 n _ he)⟩
theorem x_putF (C : Cx p s m args meth c cc nL own G A) (hH : Hw G A s w H locs) (n : Nat) {ci : Nat} {fs : List Value} (he : w n = some (a, .inr (ci, fs))) (k : Nat) {v : Value} (hl : k < fs.length) {q : vw_C} (hc : classes[ci]? = some q) (hk : k < q.2.2) {index : Nat} {ref : String}
    (hlink : Cond.fieldLink own index ref (q.2.1 k).2.1 (q.2.1 k).2.2.1 ∈ wt) (hsame : ∀ x, s.fieldFound? (q.2.1 k).1 (q.2.1 k).2.1 (q.2.1 k).2.2.1 = some x → s.fieldFound? ref (q.2.1 k).2.1 (q.2.1 k).2.2.1 = some x) (hfin : (q.2.1 k).2.2.2 = true) (hin2 : meth.name = "<init>") (hdecl : (q.2.1 k).1 = own) (hn : narrow (fTy ci k) v = v) (hfit : fits (fTy ci k) v = true) (hdg : decode cc pc = .ok (.putfield index, 3))
    (kk : ∀ (H : Heap) (locs : List Loc), Hw G A s (va_up w n (some (a, .inr (ci, fs.set k v)))) H locs → W p l e R s m args below meth c H locs cells slots Q (F0 m (pc + 3) ls rest)) : W p l e R s m args below meth c H locs cells slots Q (F0 m pc ls (v :: .ref a :: rest)) := by
  obtain ⟨hP, hD, hS0⟩ := hH
  have hK := C.K
  have hts := C.2.2.2.2.1
  have hin := cls_in ci q hc
  obtain ⟨Cn, T, N⟩ := q
  have hap := va_apart (own := own) hts hin (fTy ci) (cls_ty ci _ hc) (cls_nm ci _ hc) hK hc
  obtain ⟨r, h1, cell, q1, q2, q3, q4⟩ := hP n _ he
  have hr : r = (Cn, T, N) := Option.some.inj (h1.symm.trans hc)
  subst hr
  obtain ⟨hS, hfc, kC, hkC, hkind⟩ := hK.1 ci _ hc
  obtain ⟨cf, kf, fi, f, hi, hsl⟩ := hS k hk
  have hlay := hts _ (hin _ (u_in_lay hk))
  unfold u_lay at hlay
  rw [if_pos hfin] at hlay
  have hst := (u_facts hfc hkC (u_lays hts hin hk) hi).1
  have hcf : m.cls = cf := by
    obtain ⟨_, _, c', _, _, _, -, -, hf', -, -, -, hown2, -⟩ := Cond.laysFinal_spec hlay
    have e1 : c' = cf := by have := hi.symm.trans hf'; simp at this; exact this.1.symm
    have hown3 : s.vm.findClass own = some c' := by rw [← hdecl]; exact hown2
    rw [← e1]; exact Option.some.inj (C.2.2.2.1.symm.trans hown3)
  have h6 := u_fits hfc hkC hkind (Or.inr hlay) hi (cls_ty ci _ hc k hk) hn hfit
  refine W.putFinK C.1 C.2.1 C.2.2.2.1 (C.ts hlink) (hsame _ hi) hst hcf hin2 (by rw [q2]; exact h6) q1 q3 (by rw [hsl]; exact k2_hasslot (q4 k hk)) rfl rfl hdg fun H' e1 e2 e3 => ?_
  rw [hsl] at e1 ⊢
  exact kk H' _ ⟨hP.set hD he ⟨_, hc, t_OB.to (V := updV (vp_V fs) k v) ⟨_, e1, q2, q3, t_set q4 hap hk v⟩ (fun j _ => vp_updV_set hl v j)⟩ e3, hD.set he, hS0.put e2 e3 (hD.2 n _ he)⟩
-- arrays: the index is a natural number
theorem x_ald (C : Cx p s m args meth c cc nL own G A) (hP : wP G w H) (n : Nat) {N : Nat} {f : Nat → Int32} (he : w n = some (a, .inl (G.2.1 0, N, .inl f))) {i : Int32} {j : Nat} (hi : i = nI j) (hj : j < N) (hN : N < 2 ^ 31) (hdg : decode cc pc = .ok (.iaload, 1))
    (kk : W p l e R s m args below meth c H locs cells slots Q (F0 m (pc + 1) ls (.int (f j) :: rest))) : W p l e R s m args below meth c H locs cells slots Q (F0 m pc ls (.int i :: .ref a :: rest)) := by
  subst hi
  refine va_iald (D := G.1) C.1 C.2.1 C.K (hP.one he) 0 0 rfl rfl (vp_in_nI hj hN) hdg ?_
  rw [nI_clamp (by omega)]; exact kk
theorem x_zld (C : Cx p s m args meth c cc nL own G A) (hP : wP G w H) (n : Nat) {N : Nat} {f : Nat → Int32} (he : w n = some (a, .inl (G.2.1 1, N, .inl f))) {i : Int32} {j : Nat} (hi : i = nI j) (hj : j < N) (hN : N < 2 ^ 31) (hdg : decode cc pc = .ok (.baload, 1))
    (kk : W p l e R s m args below meth c H locs cells slots Q (F0 m (pc + 1) ls (.int (f j) :: rest))) : W p l e R s m args below meth c H locs cells slots Q (F0 m pc ls (.int i :: .ref a :: rest)) := by
  subst hi
  refine va_zald (D := G.1) C.1 C.2.1 C.K (hP.one he) 0 1 rfl rfl (vp_in_nI hj hN) hdg ?_
  rw [nI_clamp (by omega)]; exact kk
theorem x_lld (C : Cx p s m args meth c cc nL own G A) (hP : wP G w H) (n : Nat) {N : Nat} {f : Nat → Int64} (he : w n = some (a, .inl (G.2.1 2, N, .inr (.inl f)))) {i : Int32} {j : Nat} (hi : i = nI j) (hj : j < N) (hN : N < 2 ^ 31) (hdg : decode cc pc = .ok (.laload, 1))
    (kk : W p l e R s m args below meth c H locs cells slots Q (F0 m (pc + 1) ls (.long (f j) :: rest))) : W p l e R s m args below meth c H locs cells slots Q (F0 m pc ls (.int i :: .ref a :: rest)) := by
  subst hi
  refine va_lald (D := G.1) C.1 C.2.1 C.K (hP.one he) 0 2 rfl rfl (vp_in_nI hj hN) hdg ?_
  rw [nI_clamp (by omega)]; exact kk
theorem x_qld (C : Cx p s m args meth c cc nL own G A) (hP : wP G w H) (n : Nat) {N : Nat} {f : Nat → Option Nat} (he : w n = some (a, .inl (G.2.1 3, N, .inr (.inr (.inr (.inr f)))))) {i : Int32} {j : Nat} (hi : i = nI j) (hj : j < N) (hN : N < 2 ^ 31) (hdg : decode cc pc = .ok (.aaload, 1))
    (kk : W p l e R s m args below meth c H locs cells slots Q (F0 m (pc + 1) ls (va_rf (f j) :: rest))) : W p l e R s m args below meth c H locs cells slots Q (F0 m pc ls (.int i :: .ref a :: rest)) := by
  subst hi
  refine va_aldq (D := G.1) C.1 C.2.1 C.K (hP.one he) 0 3 rfl rfl (vp_in_nI hj hN) hdg ?_
  rw [nI_clamp (by omega)]; exact kk
theorem x_ast (C : Cx p s m args meth c cc nL own G A) (hH : Hw G A s w H locs) (n : Nat) {N : Nat} {f : Nat → Int32} (he : w n = some (a, .inl (G.2.1 0, N, .inl f))) {i v : Int32} {j : Nat} (hi : i = nI j) (hj : j < N) (hN : N < 2 ^ 31) (hdg : decode cc pc = .ok (.iastore, 1))
    (kk : ∀ (H : Heap) (locs : List Loc), Hw G A s (va_up w n (some (a, .inl (G.2.1 0, N, .inl (upd f j v))))) H locs → W p l e R s m args below meth c H locs cells slots Q (F0 m (pc + 1) ls rest)) : W p l e R s m args below meth c H locs cells slots Q (F0 m pc ls (.int v :: .int i :: .ref a :: rest)) := by
  subst hi
  obtain ⟨hP, hD, hS⟩ := hH
  refine W.iast C.1 C.2.1 (hP n _ he) ((C.K.2 0 _ rfl).1 N (fun j => .int (f j))) (fun q => by cases q) (by show ¬ (nI j < 0 ∨ (arrV _ _ _).slots.size ≤ _); rw [arrV_size]; exact vp_in_nI hj hN) rfl rfl hdg fun H1 e z oq => ?_
  rw [nI_clamp (by omega)] at e ⊢
  refine kk H1 _ ⟨hP.set hD he ?_ oq, hD.set he, hS.put z oq (hD.2 n _ he)⟩
  show H1[a]? = some (vp_cell _ _)
  rw [e, vp_cell_i, vp_cell_i, arrV_store]
  congr 2
  funext q
  by_cases hq : q = j
  · subst hq
    simp [updV, upd]
  · simp [updV, upd, hq]
theorem x_zst (C : Cx p s m args meth c cc nL own G A) (hH : Hw G A s w H locs) (n : Nat) {N : Nat} {f : Nat → Int32} (he : w n = some (a, .inl (G.2.1 1, N, .inl f))) {i v : Int32} {j : Nat} (hi : i = nI j) (hj : j < N) (hN : N < 2 ^ 31) (hv : narrow .boolean (.int v) = .int v) (hdg : decode cc pc = .ok (.bastore, 1))
    (kk : ∀ (H : Heap) (locs : List Loc), Hw G A s (va_up w n (some (a, .inl (G.2.1 1, N, .inl (upd f j v))))) H locs → W p l e R s m args below meth c H locs cells slots Q (F0 m (pc + 1) ls rest)) : W p l e R s m args below meth c H locs cells slots Q (F0 m pc ls (.int v :: .int i :: .ref a :: rest)) := by
  subst hi
  obtain ⟨hP, hD, hS⟩ := hH
  refine W.zast C.1 C.2.1 (hP n _ he) ((C.K.2 1 _ rfl).1 N (fun j => .int (f j))) (fun q => by cases q) (by show ¬ (nI j < 0 ∨ (arrV _ _ _).slots.size ≤ _); rw [arrV_size]; exact vp_in_nI hj hN) rfl rfl hdg fun H1 e z oq => ?_
  rw [nI_clamp (by omega), hv] at e
  rw [nI_clamp (by omega)]
  refine kk H1 _ ⟨hP.set hD he ?_ oq, hD.set he, hS.put z oq (hD.2 n _ he)⟩
  show H1[a]? = some (vp_cell _ _)
  rw [e, vp_cell_i, vp_cell_i, arrV_store]
  congr 2
  funext q
  by_cases hq : q = j
  · subst hq
    simp [updV, upd]
  · simp [updV, upd, hq]
theorem x_lst (C : Cx p s m args meth c cc nL own G A) (hH : Hw G A s w H locs) (n : Nat) {N : Nat} {f : Nat → Int64} (he : w n = some (a, .inl (G.2.1 2, N, .inr (.inl f)))) {i : Int32} {v : Int64} {j : Nat} (hi : i = nI j) (hj : j < N) (hN : N < 2 ^ 31) (hdg : decode cc pc = .ok (.lastore, 1))
    (kk : ∀ (H : Heap) (locs : List Loc), Hw G A s (va_up w n (some (a, .inl (G.2.1 2, N, .inr (.inl (vp_updL f j v)))))) H locs → W p l e R s m args below meth c H locs cells slots Q (F0 m (pc + 1) ls rest)) : W p l e R s m args below meth c H locs cells slots Q (F0 m pc ls (.long v :: .int i :: .ref a :: rest)) := by
  subst hi
  obtain ⟨hP, hD, hS⟩ := hH
  refine W.last C.1 C.2.1 (hP n _ he) ((C.K.2 2 _ rfl).1 N (fun j => .long (f j))) (fun q => by cases q) (by show ¬ (nI j < 0 ∨ (arrV _ _ _).slots.size ≤ _); rw [arrV_size]; exact vp_in_nI hj hN) rfl rfl hdg fun H1 e z oq => ?_
  rw [nI_clamp (by omega)] at e ⊢
  refine kk H1 _ ⟨hP.set hD he ?_ oq, hD.set he, hS.put z oq (hD.2 n _ he)⟩
  show H1[a]? = some (vp_cell _ _)
  rw [e]
  show some ((arrV (G.2.1 2) N (fun j => .long (f j))).setSlot j (.long v)) = some (arrV (G.2.1 2) N (fun q => .long (vp_updL f j v q)))
  rw [arrV_store]
  congr 2
  funext q
  by_cases hq : q = j
  · subst hq
    simp [updV, vp_updL]
  · simp [updV, vp_updL, hq]
theorem x_alen (C : Cx p s m args meth c cc nL own G A) (hP : wP G w H) (n t0 : Nat) {cA : ClassId} {x : vp_A} (he : w n = some (a, .inl (cA, x))) {ty : FieldType} (ht : (gT G)[t0]? = some (cA, ty)) (hdg : decode cc pc = .ok (.arraylength, 1))
    (kk : W p l e R s m args below meth c H locs cells slots Q (F0 m (pc + 1) ls (.int (nI x.1) :: rest))) : W p l e R s m args below meth c H locs cells slots Q (F0 m pc ls (.ref a :: rest)) :=
  va_alen (D := G.1) C.1 C.2.1 C.K (hP.one he) 0 t0 rfl ht rfl hdg kk
theorem x_new (C : Cx p s m args meth c cc nL own G A) (hH : Hw G A s w H locs) (hA : ∀ q, s.heap.size ≤ q → A q) (n : Nat) (ci : Nat) {q : vw_C} (hc : classes[ci]? = some q) {index : Nat} (hcl : Cond.classLink own index q.1 ∈ wt) (hinst : Cond.instantiable q.1 q.2.2 ∈ wt) (hini : Cond.initialized q.1 ∈ wt)
    {fs : List Value} (hfs : ∀ j, j < q.2.2 → defaultValue (fTy ci j) = vp_V fs j) (hcells : cells + 1 ≤ R.cells) (hslots : slots + q.2.2 ≤ R.slots) (hdg : decode cc pc = .ok (.new index, 3))
    (kk : ∀ (a : Nat) (H : Heap), Hw G A s (va_up w n (some (a, .inr (ci, fs)))) H locs → W p l e R s m args below meth c H locs (cells + 1) (slots + q.2.2) Q (F0 m (pc + 3) ls (.ref a :: rest))) : W p l e R s m args below meth c H locs cells slots Q (F0 m pc ls rest) := by
  obtain ⟨hP, hD, hS⟩ := hH
  obtain ⟨Cn, T, N⟩ := q
  have hKn := C.K.1 ci _ hc
  refine W.newcK C.1 C.2.1 C.2.2.2.1 (C.ts hcl) (C.ts hinst) (C.ts hini) rfl hdg hcells hslots hKn.2.1 rfl fun H1 kC hkC e1 z1 o1 => ?_
  refine kk H.size H1 ⟨hP.push rfl ?_ o1, hD.push hP rfl (hA _ hS.1), Nat.le_trans hS.1 (by omega), fun x h1 h2 => (o1 x (Nat.lt_of_lt_of_le h1 hS.1)).trans (hS.2.1 x h1 h2), hS.2.2⟩
  exact ⟨_, hc, (u_born (fTy ci) C.2.2.2.2.1 (cls_in ci _ hc) hKn hkC e1 (cls_ty ci _ hc)).to hfs⟩
theorem x_gs {Cn nm d ref : String} {v : Value} {index : Nat} (C : Cx p s m args meth c cc nL own G A) (hZ : va_Z Cn nm d v A s s.heap) (hS : va_S A s.heap H locs) (hlink : Cond.fieldLink own index ref nm d ∈ wt) (hsame : ∀ x, s.fieldFound? Cn nm d = some x → s.fieldFound? ref nm d = some x) (hdg : decode cc pc = .ok (.getstatic index, 3))
    (kk : W p l e R s m args below meth c H locs cells slots Q (F0 m (pc + 3) ls (v :: rest))) : W p l e R s m args below meth c H locs cells slots Q (F0 m pc ls rest) := va_gets C.1 C.2.1 hZ hS C.2.2.2.1 (C.ts hlink) hsame hdg kk
end XR
