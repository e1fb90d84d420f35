def F_SP : u_T := fun k => match k with
  | 0 => ("SweptPaths", "shapes", "Ljava/util/ArrayList;", true)
  | 1 => ("SweptPaths", "plans", "Ljava/util/ArrayList;", true)
  | 2 => ("SweptPaths", "poleX", "[I", true)
  | 3 => ("SweptPaths", "poleY", "[I", true)
  | 4 => ("SweptPaths", "poles", "I", false)
  | 5 => ("SweptPaths", "startX", "I", false)
  | 6 => ("SweptPaths", "startY", "I", false)
  | 7 => ("SweptPaths", "startHeading", "I", false)
  | 8 => ("SweptPaths", "step", "I", false)
  | _ => ("SweptPaths", "run", "LSweptPaths$Run;", false)
def f_SP : Nat → FieldType := fun k => match k with
  | 0 => (.object "java/util/ArrayList")
  | 1 => (.object "java/util/ArrayList")
  | 2 => (.array .int)
  | 3 => (.array .int)
  | 4 => .int
  | 5 => .int
  | 6 => .int
  | 7 => .int
  | 8 => .int
  | _ => (.object "SweptPaths$Run")
theorem n_SP : ∀ a, a < 10 → ∀ b, b < 10 → a ≠ b → (F_SP a).2.1 ≠ (F_SP b).2.1 := by decide +kernel
theorem f_SP_ok : ∀ k, k < 10 → parseFieldDescriptor (F_SP k).2.2.1 = some (f_SP k) := by decide +kernel
theorem i_SP : ∀ w ∈ u_ws "SweptPaths" F_SP 10, w ∈ wt := by
  intro w hw
  obtain ⟨k, hk, rfl⟩ := List.mem_map.mp hw
  have hk := List.mem_range.mp hk
  rcases (show k = 0 ∨ k = 1 ∨ k = 2 ∨ k = 3 ∨ k = 4 ∨ k = 5 ∨ k = 6 ∨ k = 7 ∨ k = 8 ∨ k = 9 by omega) with rfl | rfl | rfl | rfl | rfl | rfl | rfl | rfl | rfl | rfl
  · exact t_315
  · exact t_317
  · exact t_319
  · exact t_321
  · exact t_323
  · exact t_325
  · exact t_327
  · exact t_329
  · exact t_331
  · exact t_333
def F_Shape : u_T := fun k => match k with
  | 0 => ("SweptPaths$Shape", "length", "I", true)
  | 1 => ("SweptPaths$Shape", "hitch", "I", true)
  | 2 => ("SweptPaths$Shape", "front", "I", true)
  | 3 => ("SweptPaths$Shape", "rear", "I", true)
  | _ => ("SweptPaths$Shape", "half", "I", true)
def f_Shape : Nat → FieldType := fun k => match k with
  | 0 => .int
  | 1 => .int
  | 2 => .int
  | 3 => .int
  | _ => .int
theorem n_Shape : ∀ a, a < 5 → ∀ b, b < 5 → a ≠ b → (F_Shape a).2.1 ≠ (F_Shape b).2.1 := by decide +kernel
theorem f_Shape_ok : ∀ k, k < 5 → parseFieldDescriptor (F_Shape k).2.2.1 = some (f_Shape k) := by decide +kernel
theorem i_Shape : ∀ w ∈ u_ws "SweptPaths$Shape" F_Shape 5, w ∈ wt := by
  intro w hw
  obtain ⟨k, hk, rfl⟩ := List.mem_map.mp hw
  have hk := List.mem_range.mp hk
  rcases (show k = 0 ∨ k = 1 ∨ k = 2 ∨ k = 3 ∨ k = 4 by omega) with rfl | rfl | rfl | rfl | rfl
  · exact t_472
  · exact t_474
  · exact t_476
  · exact t_478
  · exact t_480
def F_Body : u_T := fun k => match k with
  | 0 => ("SweptPaths$Body", "shape", "LSweptPaths$Shape;", true)
  | 1 => ("SweptPaths$Body", "before", "LSweptPaths$Body;", true)
  | 2 => ("SweptPaths$Body", "x", "I", false)
  | 3 => ("SweptPaths$Body", "y", "I", false)
  | 4 => ("SweptPaths$Body", "heading", "I", false)
  | 5 => ("SweptPaths$Body", "rest", "I", false)
  | _ => ("SweptPaths$Body", "worst", "I", false)
def f_Body : Nat → FieldType := fun k => match k with
  | 0 => (.object "SweptPaths$Shape")
  | 1 => (.object "SweptPaths$Body")
  | 2 => .int
  | 3 => .int
  | 4 => .int
  | 5 => .int
  | _ => .int
theorem n_Body : ∀ a, a < 7 → ∀ b, b < 7 → a ≠ b → (F_Body a).2.1 ≠ (F_Body b).2.1 := by decide +kernel
theorem f_Body_ok : ∀ k, k < 7 → parseFieldDescriptor (F_Body k).2.2.1 = some (f_Body k) := by decide +kernel
theorem i_Body : ∀ w ∈ u_ws "SweptPaths$Body" F_Body 7, w ∈ wt := by
  intro w hw
  obtain ⟨k, hk, rfl⟩ := List.mem_map.mp hw
  have hk := List.mem_range.mp hk
  rcases (show k = 0 ∨ k = 1 ∨ k = 2 ∨ k = 3 ∨ k = 4 ∨ k = 5 ∨ k = 6 by omega) with rfl | rfl | rfl | rfl | rfl | rfl | rfl
  · exact t_189
  · exact t_191
  · exact t_193
  · exact t_195
  · exact t_197
  · exact t_199
  · exact t_201
def F_Part : u_T := fun k => match k with
  | 0 => ("SweptPaths$Part", "turn", "I", true)
  | 1 => ("SweptPaths$Part", "steps", "I", true)
  | _ => ("SweptPaths$Part", "forwards", "Z", true)
def f_Part : Nat → FieldType := fun k => match k with
  | 0 => .int
  | 1 => .int
  | _ => .boolean
theorem n_Part : ∀ a, a < 3 → ∀ b, b < 3 → a ≠ b → (F_Part a).2.1 ≠ (F_Part b).2.1 := by decide +kernel
theorem f_Part_ok : ∀ k, k < 3 → parseFieldDescriptor (F_Part k).2.2.1 = some (f_Part k) := by decide +kernel
theorem i_Part : ∀ w ∈ u_ws "SweptPaths$Part" F_Part 3, w ∈ wt := by
  intro w hw
  obtain ⟨k, hk, rfl⟩ := List.mem_map.mp hw
  have hk := List.mem_range.mp hk
  rcases (show k = 0 ∨ k = 1 ∨ k = 2 by omega) with rfl | rfl | rfl
  · exact t_600
  · exact t_602
  · exact t_604
def F_Run : u_T := fun k => match k with
  | 0 => ("SweptPaths$Run", "train", "Ljava/util/ArrayList;", true)
  | 1 => ("SweptPaths$Run", "swept", "Ljava/util/BitSet;", true)
  | 2 => ("SweptPaths$Run", "steps", "I", false)
  | 3 => ("SweptPaths$Run", "stuck", "Z", false)
  | 4 => ("SweptPaths$Run", "clashStep", "I", false)
  | 5 => ("SweptPaths$Run", "clashBody", "I", false)
  | 6 => ("SweptPaths$Run", "clashPole", "I", false)
  | _ => ("SweptPaths$Run", "this$0", "LSweptPaths;", true)
def f_Run : Nat → FieldType := fun k => match k with
  | 0 => (.object "java/util/ArrayList")
  | 1 => (.object "java/util/BitSet")
  | 2 => .int
  | 3 => .boolean
  | 4 => .int
  | 5 => .int
  | 6 => .int
  | _ => (.object "SweptPaths")
theorem n_Run : ∀ a, a < 8 → ∀ b, b < 8 → a ≠ b → (F_Run a).2.1 ≠ (F_Run b).2.1 := by decide +kernel
theorem f_Run_ok : ∀ k, k < 8 → parseFieldDescriptor (F_Run k).2.2.1 = some (f_Run k) := by decide +kernel
theorem i_Run : ∀ w ∈ u_ws "SweptPaths$Run" F_Run 8, w ∈ wt := by
  intro w hw
  obtain ⟨k, hk, rfl⟩ := List.mem_map.mp hw
  have hk := List.mem_range.mp hk
  rcases (show k = 0 ∨ k = 1 ∨ k = 2 ∨ k = 3 ∨ k = 4 ∨ k = 5 ∨ k = 6 ∨ k = 7 by omega) with rfl | rfl | rfl | rfl | rfl | rfl | rfl | rfl
  · exact t_280
  · exact t_282
  · exact t_284
  · exact t_286
  · exact t_288
  · exact t_290
  · exact t_292
  · exact t_294
def F_Mo : u_T := fun k => match k with
  | 0 => ("SweptPathsModel", "thrown", "I", false)
  | 1 => ("SweptPathsModel", "cosines", "[I", true)
  | 2 => ("SweptPathsModel", "bodies", "I", false)
  | 3 => ("SweptPathsModel", "lengths", "[I", true)
  | 4 => ("SweptPathsModel", "hitches", "[I", true)
  | 5 => ("SweptPathsModel", "fronts", "[I", true)
  | 6 => ("SweptPathsModel", "rears", "[I", true)
  | 7 => ("SweptPathsModel", "halves", "[I", true)
  | 8 => ("SweptPathsModel", "startX", "I", false)
  | 9 => ("SweptPathsModel", "startY", "I", false)
  | 10 => ("SweptPathsModel", "startHeading", "I", false)
  | 11 => ("SweptPathsModel", "stepLength", "I", false)
  | 12 => ("SweptPathsModel", "poles", "I", false)
  | 13 => ("SweptPathsModel", "poleX", "[I", true)
  | 14 => ("SweptPathsModel", "poleY", "[I", true)
  | 15 => ("SweptPathsModel", "many", "[I", true)
  | 16 => ("SweptPathsModel", "turns", "[I", true)
  | 17 => ("SweptPathsModel", "counts", "[I", true)
  | 18 => ("SweptPathsModel", "ways", "[Z", true)
  | 19 => ("SweptPathsModel", "xs", "[I", true)
  | 20 => ("SweptPathsModel", "ys", "[I", true)
  | 21 => ("SweptPathsModel", "headings", "[I", true)
  | 22 => ("SweptPathsModel", "rests", "[I", true)
  | 23 => ("SweptPathsModel", "greatest", "[I", true)
  | 24 => ("SweptPathsModel", "made", "I", false)
  | 25 => ("SweptPathsModel", "stuck", "Z", false)
  | 26 => ("SweptPathsModel", "clashStep", "I", false)
  | 27 => ("SweptPathsModel", "clashBody", "I", false)
  | 28 => ("SweptPathsModel", "clashPole", "I", false)
  | 29 => ("SweptPathsModel", "cells", "I", false)
  | 30 => ("SweptPathsModel", "swept", "[Z", true)
  | 31 => ("SweptPathsModel", "asideNumbers", "[I", true)
  | _ => ("SweptPathsModel", "asideCells", "[Z", true)
def f_Mo : Nat → FieldType := fun k => match k with
  | 0 => .int
  | 1 => (.array .int)
  | 2 => .int
  | 3 => (.array .int)
  | 4 => (.array .int)
  | 5 => (.array .int)
  | 6 => (.array .int)
  | 7 => (.array .int)
  | 8 => .int
  | 9 => .int
  | 10 => .int
  | 11 => .int
  | 12 => .int
  | 13 => (.array .int)
  | 14 => (.array .int)
  | 15 => (.array .int)
  | 16 => (.array .int)
  | 17 => (.array .int)
  | 18 => (.array .boolean)
  | 19 => (.array .int)
  | 20 => (.array .int)
  | 21 => (.array .int)
  | 22 => (.array .int)
  | 23 => (.array .int)
  | 24 => .int
  | 25 => .boolean
  | 26 => .int
  | 27 => .int
  | 28 => .int
  | 29 => .int
  | 30 => (.array .boolean)
  | 31 => (.array .int)
  | _ => (.array .boolean)
theorem n_Mo : ∀ a, a < 33 → ∀ b, b < 33 → a ≠ b → (F_Mo a).2.1 ≠ (F_Mo b).2.1 := by decide +kernel
theorem f_Mo_ok : ∀ k, k < 33 → parseFieldDescriptor (F_Mo k).2.2.1 = some (f_Mo k) := by decide +kernel
theorem i_Mo : ∀ w ∈ u_ws "SweptPathsModel" F_Mo 33, w ∈ wt := by
  intro w hw
  obtain ⟨k, hk, rfl⟩ := List.mem_map.mp hw
  have hk := List.mem_range.mp hk
  rcases (show k = 0 ∨ k = 1 ∨ k = 2 ∨ k = 3 ∨ k = 4 ∨ k = 5 ∨ k = 6 ∨ k = 7 ∨ k = 8 ∨ k = 9 ∨ k = 10 ∨ k = 11 ∨ k = 12 ∨ k = 13 ∨ k = 14 ∨ k = 15 ∨ k = 16 ∨ k = 17 ∨ k = 18 ∨ k = 19 ∨ k = 20 ∨ k = 21 ∨ k = 22 ∨ k = 23 ∨ k = 24 ∨ k = 25 ∨ k = 26 ∨ k = 27 ∨ k = 28 ∨ k = 29 ∨ k = 30 ∨ k = 31 ∨ k = 32 by omega) with rfl | rfl | rfl | rfl | rfl | rfl | rfl | rfl | rfl | rfl | rfl | rfl | rfl | rfl | rfl | rfl | rfl | rfl | rfl | rfl | rfl | rfl | rfl | rfl | rfl | rfl | rfl | rfl | rfl | rfl | rfl | rfl | rfl
  · exact t_675
  · exact t_677
  · exact t_679
  · exact t_681
  · exact t_683
  · exact t_685
  · exact t_687
  · exact t_689
  · exact t_691
  · exact t_693
  · exact t_695
  · exact t_697
  · exact t_699
  · exact t_701
  · exact t_703
  · exact t_705
  · exact t_707
  · exact t_709
  · exact t_711
  · exact t_713
  · exact t_715
  · exact t_717
  · exact t_719
  · exact t_721
  · exact t_723
  · exact t_725
  · exact t_727
  · exact t_729
  · exact t_731
  · exact t_733
  · exact t_735
  · exact t_737
  · exact t_739
def F_AL : u_T := fun k => match k with
  | 0 => ("java/util/ArrayList", "elementData", "[Ljava/lang/Object;", false)
  | 1 => ("java/util/ArrayList", "size", "I", false)
  | _ => ("java/util/AbstractList", "modCount", "I", false)
def f_AL : Nat → FieldType := fun k => match k with
  | 0 => (.array (.object "java/lang/Object"))
  | 1 => .int
  | _ => .int
theorem n_AL : ∀ a, a < 3 → ∀ b, b < 3 → a ≠ b → (F_AL a).2.1 ≠ (F_AL b).2.1 := by decide +kernel
theorem f_AL_ok : ∀ k, k < 3 → parseFieldDescriptor (F_AL k).2.2.1 = some (f_AL k) := by decide +kernel
theorem i_AL : ∀ w ∈ u_ws "java/util/ArrayList" F_AL 3, w ∈ wt := by
  intro w hw
  obtain ⟨k, hk, rfl⟩ := List.mem_map.mp hw
  have hk := List.mem_range.mp hk
  rcases (show k = 0 ∨ k = 1 ∨ k = 2 by omega) with rfl | rfl | rfl
  · exact t_51
  · exact t_53
  · exact t_55
def F_BS : u_T := fun k => match k with
  | 0 => ("java/util/BitSet", "words", "[J", false)
  | 1 => ("java/util/BitSet", "wordsInUse", "I", false)
  | _ => ("java/util/BitSet", "sizeIsSticky", "Z", false)
def f_BS : Nat → FieldType := fun k => match k with
  | 0 => (.array .long)
  | 1 => .int
  | _ => .boolean
theorem n_BS : ∀ a, a < 3 → ∀ b, b < 3 → a ≠ b → (F_BS a).2.1 ≠ (F_BS b).2.1 := by decide +kernel
theorem f_BS_ok : ∀ k, k < 3 → parseFieldDescriptor (F_BS k).2.2.1 = some (f_BS k) := by decide +kernel
theorem i_BS : ∀ w ∈ u_ws "java/util/BitSet" F_BS 3, w ∈ wt := by
  intro w hw
  obtain ⟨k, hk, rfl⟩ := List.mem_map.mp hw
  have hk := List.mem_range.mp hk
  rcases (show k = 0 ∨ k = 1 ∨ k = 2 by omega) with rfl | rfl | rfl
  · exact t_139
  · exact t_141
  · exact t_143
abbrev classes : List vw_C := [("SweptPaths", F_SP, 10), ("SweptPaths$Shape", F_Shape, 5), ("SweptPaths$Body", F_Body, 7), ("SweptPaths$Part", F_Part, 3), ("SweptPaths$Run", F_Run, 8), ("SweptPathsModel", F_Mo, 33), ("java/util/ArrayList", F_AL, 3), ("java/util/BitSet", F_BS, 3)]
