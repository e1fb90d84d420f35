-- ===== PART A: goes FIRST, ahead of the names: the tables' words, and 'selects' of the private methods out of them =====
/-- a private method of a class that the tables say can be made, by its rows of tables_1 -/
def lw_okq (q : MethodName × Nat) : Prop := (q.1.cls ≠ "java/lang/invoke/MethodHandle" ∧ q.1.cls ≠ "java/lang/invoke/VarHandle") ∧ Cond.instantiable q.1.cls q.2 ∈ tables_1 ∧ Cond.privateMethod q.1 ∈ tables_1 ∧ Cond.instanceMethod q.1 ∈ tables_1
theorem lw_p0 : lw_okq (⟨"java/util/ArrayList", "add", "(Ljava/lang/Object;[Ljava/lang/Object;I)V"⟩, 3) := ⟨⟨by decide +kernel, by decide +kernel⟩, List.mem_of_getElem? (i := 33) (by decide +kernel), List.mem_of_getElem? (i := 63) (by decide +kernel), List.mem_of_getElem? (i := 64) (by decide +kernel)⟩
theorem lw_p1 : lw_okq (⟨"java/util/ArrayList", "grow", "()[Ljava/lang/Object;"⟩, 3) := ⟨⟨by decide +kernel, by decide +kernel⟩, List.mem_of_getElem? (i := 33) (by decide +kernel), List.mem_of_getElem? (i := 67) (by decide +kernel), List.mem_of_getElem? (i := 68) (by decide +kernel)⟩
theorem lw_p2 : lw_okq (⟨"java/util/ArrayList", "grow", "(I)[Ljava/lang/Object;"⟩, 3) := ⟨⟨by decide +kernel, by decide +kernel⟩, List.mem_of_getElem? (i := 33) (by decide +kernel), List.mem_of_getElem? (i := 71) (by decide +kernel), List.mem_of_getElem? (i := 72) (by decide +kernel)⟩
theorem lw_p3 : lw_okq (⟨"java/util/BitSet", "initWords", "(I)V"⟩, 3) := ⟨⟨by decide +kernel, by decide +kernel⟩, List.mem_of_getElem? (i := 124) (by decide +kernel), List.mem_of_getElem? (i := 130) (by decide +kernel), List.mem_of_getElem? (i := 131) (by decide +kernel)⟩
theorem lw_p4 : lw_okq (⟨"SweptPaths$Run", "look", "()V"⟩, 8) := ⟨⟨by decide +kernel, by decide +kernel⟩, List.mem_of_getElem? (i := 116) (by decide +kernel), List.mem_of_getElem? (i := 219) (by decide +kernel), List.mem_of_getElem? (i := 220) (by decide +kernel)⟩
theorem lw_p5 : lw_okq (⟨"SweptPaths$Run", "sweep", "(LSweptPaths$Body;)V"⟩, 8) := ⟨⟨by decide +kernel, by decide +kernel⟩, List.mem_of_getElem? (i := 116) (by decide +kernel), List.mem_of_getElem? (i := 223) (by decide +kernel), List.mem_of_getElem? (i := 224) (by decide +kernel)⟩
theorem lw_p6 : lw_okq (⟨"java/util/BitSet", "expandTo", "(I)V"⟩, 3) := ⟨⟨by decide +kernel, by decide +kernel⟩, List.mem_of_getElem? (i := 124) (by decide +kernel), List.mem_of_getElem? (i := 241) (by decide +kernel), List.mem_of_getElem? (i := 242) (by decide +kernel)⟩
theorem lw_p7 : lw_okq (⟨"java/util/BitSet", "ensureCapacity", "(I)V"⟩, 3) := ⟨⟨by decide +kernel, by decide +kernel⟩, List.mem_of_getElem? (i := 124) (by decide +kernel), List.mem_of_getElem? (i := 245) (by decide +kernel), List.mem_of_getElem? (i := 246) (by decide +kernel)⟩
theorem lw_p8 : lw_okq (⟨"java/util/BitSet", "checkInvariants", "()V"⟩, 3) := ⟨⟨by decide +kernel, by decide +kernel⟩, List.mem_of_getElem? (i := 124) (by decide +kernel), List.mem_of_getElem? (i := 260) (by decide +kernel), List.mem_of_getElem? (i := 261) (by decide +kernel)⟩
theorem lw_p9 : lw_okq (⟨"java/lang/Throwable", "fillInStackTrace", "(I)Ljava/lang/Throwable;"⟩, 6) := ⟨⟨by decide +kernel, by decide +kernel⟩, List.mem_of_getElem? (i := 407) (by decide +kernel), List.mem_of_getElem? (i := 405) (by decide +kernel), List.mem_of_getElem? (i := 406) (by decide +kernel)⟩
theorem lw_p10 : lw_okq (⟨"SweptPaths$Run", "once", "(IZ)V"⟩, 8) := ⟨⟨by decide +kernel, by decide +kernel⟩, List.mem_of_getElem? (i := 116) (by decide +kernel), List.mem_of_getElem? (i := 520) (by decide +kernel), List.mem_of_getElem? (i := 521) (by decide +kernel)⟩
theorem lw_p11 : lw_okq (⟨"SweptPaths", "bodyOf", "(I)LSweptPaths$Body;"⟩, 10) := ⟨⟨by decide +kernel, by decide +kernel⟩, List.mem_of_getElem? (i := 25) (by decide +kernel), List.mem_of_getElem? (i := 545) (by decide +kernel), List.mem_of_getElem? (i := 546) (by decide +kernel)⟩
theorem lw_p12 : lw_okq (⟨"SweptPaths", "planOf", "(I)Ljava/util/ArrayList;"⟩, 10) := ⟨⟨by decide +kernel, by decide +kernel⟩, List.mem_of_getElem? (i := 25) (by decide +kernel), List.mem_of_getElem? (i := 585) (by decide +kernel), List.mem_of_getElem? (i := 586) (by decide +kernel)⟩
theorem lw_p13 : lw_okq (⟨"SweptPaths", "gone", "(Ljava/util/ArrayList;)LSweptPaths$Run;"⟩, 10) := ⟨⟨by decide +kernel, by decide +kernel⟩, List.mem_of_getElem? (i := 25) (by decide +kernel), List.mem_of_getElem? (i := 626) (by decide +kernel), List.mem_of_getElem? (i := 627) (by decide +kernel)⟩
theorem lw_p14 : lw_okq (⟨"SweptPathsModel", "beginAnew", "()V"⟩, 33) := ⟨⟨by decide +kernel, by decide +kernel⟩, List.mem_of_getElem? (i := 637) (by decide +kernel), List.mem_of_getElem? (i := 755) (by decide +kernel), List.mem_of_getElem? (i := 756) (by decide +kernel)⟩
theorem lw_p15 : lw_okq (⟨"SweptPathsModel", "hang", "(I)V"⟩, 33) := ⟨⟨by decide +kernel, by decide +kernel⟩, List.mem_of_getElem? (i := 637) (by decide +kernel), List.mem_of_getElem? (i := 759) (by decide +kernel), List.mem_of_getElem? (i := 760) (by decide +kernel)⟩
def lw_privs_1 : List (MethodName × Nat) := [(⟨"java/util/ArrayList", "add", "(Ljava/lang/Object;[Ljava/lang/Object;I)V"⟩, 3), (⟨"java/util/ArrayList", "grow", "()[Ljava/lang/Object;"⟩, 3), (⟨"java/util/ArrayList", "grow", "(I)[Ljava/lang/Object;"⟩, 3), (⟨"java/util/BitSet", "initWords", "(I)V"⟩, 3), (⟨"SweptPaths$Run", "look", "()V"⟩, 8), (⟨"SweptPaths$Run", "sweep", "(LSweptPaths$Body;)V"⟩, 8), (⟨"java/util/BitSet", "expandTo", "(I)V"⟩, 3), (⟨"java/util/BitSet", "ensureCapacity", "(I)V"⟩, 3), (⟨"java/util/BitSet", "checkInvariants", "()V"⟩, 3), (⟨"java/lang/Throwable", "fillInStackTrace", "(I)Ljava/lang/Throwable;"⟩, 6), (⟨"SweptPaths$Run", "once", "(IZ)V"⟩, 8), (⟨"SweptPaths", "bodyOf", "(I)LSweptPaths$Body;"⟩, 10), (⟨"SweptPaths", "planOf", "(I)Ljava/util/ArrayList;"⟩, 10), (⟨"SweptPaths", "gone", "(Ljava/util/ArrayList;)LSweptPaths$Run;"⟩, 10), (⟨"SweptPathsModel", "beginAnew", "()V"⟩, 33), (⟨"SweptPathsModel", "hang", "(I)V"⟩, 33)]
theorem lw_r1 : ∀ q ∈ lw_privs_1, lw_okq q := List.forall_mem_cons.mpr ⟨lw_p0, List.forall_mem_cons.mpr ⟨lw_p1, List.forall_mem_cons.mpr ⟨lw_p2, List.forall_mem_cons.mpr ⟨lw_p3, List.forall_mem_cons.mpr ⟨lw_p4, List.forall_mem_cons.mpr ⟨lw_p5, List.forall_mem_cons.mpr ⟨lw_p6, List.forall_mem_cons.mpr ⟨lw_p7, List.forall_mem_cons.mpr ⟨lw_p8, List.forall_mem_cons.mpr ⟨lw_p9, List.forall_mem_cons.mpr ⟨lw_p10, List.forall_mem_cons.mpr ⟨lw_p11, List.forall_mem_cons.mpr ⟨lw_p12, List.forall_mem_cons.mpr ⟨lw_p13, List.forall_mem_cons.mpr ⟨lw_p14, List.forall_mem_cons.mpr ⟨lw_p15, fun _ h => absurd h List.not_mem_nil⟩⟩⟩⟩⟩⟩⟩⟩⟩⟩⟩⟩⟩⟩⟩⟩
theorem lw_p16 : lw_okq (⟨"SweptPathsModel", "dx", "(I)I"⟩, 33) := ⟨⟨by decide +kernel, by decide +kernel⟩, List.mem_of_getElem? (i := 637) (by decide +kernel), List.mem_of_getElem? (i := 763) (by decide +kernel), List.mem_of_getElem? (i := 764) (by decide +kernel)⟩
theorem lw_p17 : lw_okq (⟨"SweptPathsModel", "dy", "(I)I"⟩, 33) := ⟨⟨by decide +kernel, by decide +kernel⟩, List.mem_of_getElem? (i := 637) (by decide +kernel), List.mem_of_getElem? (i := 767) (by decide +kernel), List.mem_of_getElem? (i := 768) (by decide +kernel)⟩
theorem lw_p18 : lw_okq (⟨"SweptPathsModel", "look", "()V"⟩, 33) := ⟨⟨by decide +kernel, by decide +kernel⟩, List.mem_of_getElem? (i := 637) (by decide +kernel), List.mem_of_getElem? (i := 771) (by decide +kernel), List.mem_of_getElem? (i := 772) (by decide +kernel)⟩
theorem lw_p19 : lw_okq (⟨"SweptPathsModel", "covers", "(III)Z"⟩, 33) := ⟨⟨by decide +kernel, by decide +kernel⟩, List.mem_of_getElem? (i := 637) (by decide +kernel), List.mem_of_getElem? (i := 784) (by decide +kernel), List.mem_of_getElem? (i := 785) (by decide +kernel)⟩
theorem lw_p20 : lw_okq (⟨"SweptPathsModel", "goOn", "(IIZ)V"⟩, 33) := ⟨⟨by decide +kernel, by decide +kernel⟩, List.mem_of_getElem? (i := 637) (by decide +kernel), List.mem_of_getElem? (i := 805) (by decide +kernel), List.mem_of_getElem? (i := 806) (by decide +kernel)⟩
theorem lw_p21 : lw_okq (⟨"SweptPathsModel", "move", "(IZ)V"⟩, 33) := ⟨⟨by decide +kernel, by decide +kernel⟩, List.mem_of_getElem? (i := 637) (by decide +kernel), List.mem_of_getElem? (i := 809) (by decide +kernel), List.mem_of_getElem? (i := 810) (by decide +kernel)⟩
theorem lw_p22 : lw_okq (⟨"SweptPathsModel", "askewOf", "(I)I"⟩, 33) := ⟨⟨by decide +kernel, by decide +kernel⟩, List.mem_of_getElem? (i := 637) (by decide +kernel), List.mem_of_getElem? (i := 813) (by decide +kernel), List.mem_of_getElem? (i := 814) (by decide +kernel)⟩
theorem lw_p23 : lw_okq (⟨"SweptPathsModel", "keepAside", "()V"⟩, 33) := ⟨⟨by decide +kernel, by decide +kernel⟩, List.mem_of_getElem? (i := 637) (by decide +kernel), List.mem_of_getElem? (i := 856) (by decide +kernel), List.mem_of_getElem? (i := 857) (by decide +kernel)⟩
theorem lw_p24 : lw_okq (⟨"SweptPathsModel", "goPlan", "(I)V"⟩, 33) := ⟨⟨by decide +kernel, by decide +kernel⟩, List.mem_of_getElem? (i := 637) (by decide +kernel), List.mem_of_getElem? (i := 860) (by decide +kernel), List.mem_of_getElem? (i := 861) (by decide +kernel)⟩
theorem lw_p25 : lw_okq (⟨"SweptPathsModel", "putBack", "()V"⟩, 33) := ⟨⟨by decide +kernel, by decide +kernel⟩, List.mem_of_getElem? (i := 637) (by decide +kernel), List.mem_of_getElem? (i := 864) (by decide +kernel), List.mem_of_getElem? (i := 865) (by decide +kernel)⟩
def lw_privs_2 : List (MethodName × Nat) := [(⟨"SweptPathsModel", "dx", "(I)I"⟩, 33), (⟨"SweptPathsModel", "dy", "(I)I"⟩, 33), (⟨"SweptPathsModel", "look", "()V"⟩, 33), (⟨"SweptPathsModel", "covers", "(III)Z"⟩, 33), (⟨"SweptPathsModel", "goOn", "(IIZ)V"⟩, 33), (⟨"SweptPathsModel", "move", "(IZ)V"⟩, 33), (⟨"SweptPathsModel", "askewOf", "(I)I"⟩, 33), (⟨"SweptPathsModel", "keepAside", "()V"⟩, 33), (⟨"SweptPathsModel", "goPlan", "(I)V"⟩, 33), (⟨"SweptPathsModel", "putBack", "()V"⟩, 33)]
theorem lw_r2 : ∀ q ∈ lw_privs_2, lw_okq q := List.forall_mem_cons.mpr ⟨lw_p16, List.forall_mem_cons.mpr ⟨lw_p17, List.forall_mem_cons.mpr ⟨lw_p18, List.forall_mem_cons.mpr ⟨lw_p19, List.forall_mem_cons.mpr ⟨lw_p20, List.forall_mem_cons.mpr ⟨lw_p21, List.forall_mem_cons.mpr ⟨lw_p22, List.forall_mem_cons.mpr ⟨lw_p23, List.forall_mem_cons.mpr ⟨lw_p24, List.forall_mem_cons.mpr ⟨lw_p25, fun _ h => absurd h List.not_mem_nil⟩⟩⟩⟩⟩⟩⟩⟩⟩⟩
def lw_privs : List (MethodName × Nat) := lw_privs_1 ++ (lw_privs_2)
def lw_tbl : List Cond := k2_sels lw_privs ++ tables_1
theorem lw_privs_ok : ∀ q ∈ lw_privs, lw_okq q := by
  show ∀ q ∈ lw_privs_1 ++ (lw_privs_2), lw_okq q
  exact List.forall_mem_append.mpr ⟨lw_r1, lw_r2⟩
/-! names of methods; each row of the tables under its number -/
def y_SP_init : MethodName := ⟨"SweptPaths", "<init>", "()V"⟩
def y_Obj_init : MethodName := ⟨"java/lang/Object", "<init>", "()V"⟩
def y_AL_init : MethodName := ⟨"java/util/ArrayList", "<init>", "()V"⟩
def y_AbL_init : MethodName := ⟨"java/util/AbstractList", "<init>", "()V"⟩
def y_AbC_init : MethodName := ⟨"java/util/AbstractCollection", "<init>", "()V"⟩
def y_AL_add : MethodName := ⟨"java/util/ArrayList", "add", "(Ljava/lang/Object;)Z"⟩
def y_AL_add_2 : MethodName := ⟨"java/util/ArrayList", "add", "(Ljava/lang/Object;[Ljava/lang/Object;I)V"⟩
def y_AL_grow : MethodName := ⟨"java/util/ArrayList", "grow", "()[Ljava/lang/Object;"⟩
def y_AL_grow_2 : MethodName := ⟨"java/util/ArrayList", "grow", "(I)[Ljava/lang/Object;"⟩
def y_ArrS_newLength : MethodName := ⟨"jdk/internal/util/ArraysSupport", "newLength", "(III)I"⟩
def y_Math_max : MethodName := ⟨"java/lang/Math", "max", "(II)I"⟩
def y_ArrS_hugeLength : MethodName := ⟨"jdk/internal/util/ArraysSupport", "hugeLength", "(II)I"⟩
def y_Arr_copyOf : MethodName := ⟨"java/util/Arrays", "copyOf", "([Ljava/lang/Object;I)[Ljava/lang/Object;"⟩
def y_Obj_getClass : MethodName := ⟨"java/lang/Object", "getClass", "()Ljava/lang/Class;"⟩
def y_Arr_copyOf_2 : MethodName := ⟨"java/util/Arrays", "copyOf", "([Ljava/lang/Object;ILjava/lang/Class;)[Ljava/lang/Object;"⟩
def y_Math_min : MethodName := ⟨"java/lang/Math", "min", "(II)I"⟩
def y_Sys_arraycopy : MethodName := ⟨"java/lang/System", "arraycopy", "(Ljava/lang/Object;ILjava/lang/Object;II)V"⟩
def y_Run_init : MethodName := ⟨"SweptPaths$Run", "<init>", "(LSweptPaths;)V"⟩
def y_BS_init : MethodName := ⟨"java/util/BitSet", "<init>", "()V"⟩
def y_BS_initWords : MethodName := ⟨"java/util/BitSet", "initWords", "(I)V"⟩
def y_BS_wordIndex : MethodName := ⟨"java/util/BitSet", "wordIndex", "(I)I"⟩
def y_AL_size : MethodName := ⟨"java/util/ArrayList", "size", "()I"⟩
def y_AL_get : MethodName := ⟨"java/util/ArrayList", "get", "(I)Ljava/lang/Object;"⟩
def y_Objs_checkIndex : MethodName := ⟨"java/util/Objects", "checkIndex", "(II)I"⟩
def y_Prec_checkIndex : MethodName := ⟨"jdk/internal/util/Preconditions", "checkIndex", "(IILjava/util/function/BiFunction;)I"⟩
def y_AL_elementData : MethodName := ⟨"java/util/ArrayList", "elementData", "(I)Ljava/lang/Object;"⟩
def y_Body_init : MethodName := ⟨"SweptPaths$Body", "<init>", "(LSweptPaths$Shape;LSweptPaths$Body;)V"⟩
def y_Body_follow : MethodName := ⟨"SweptPaths$Body", "follow", "()V"⟩
def y_SP_dx : MethodName := ⟨"SweptPaths", "dx", "(I)I"⟩
def y_SP_dy : MethodName := ⟨"SweptPaths", "dy", "(I)I"⟩
def y_Run_look : MethodName := ⟨"SweptPaths$Run", "look", "()V"⟩
def y_Run_sweep : MethodName := ⟨"SweptPaths$Run", "sweep", "(LSweptPaths$Body;)V"⟩
def y_Math_floorDiv : MethodName := ⟨"java/lang/Math", "floorDiv", "(II)I"⟩
def y_Body_has : MethodName := ⟨"SweptPaths$Body", "has", "(II)Z"⟩
def y_BS_set : MethodName := ⟨"java/util/BitSet", "set", "(I)V"⟩
def y_BS_expandTo : MethodName := ⟨"java/util/BitSet", "expandTo", "(I)V"⟩
def y_BS_ensureCapacity : MethodName := ⟨"java/util/BitSet", "ensureCapacity", "(I)V"⟩
def y_Arr_copyOf_3 : MethodName := ⟨"java/util/Arrays", "copyOf", "([JI)[J"⟩
def y_aJ_clone : MethodName := ⟨"[J", "clone", "()Ljava/lang/Object;"⟩
def y_Obj_clone : MethodName := ⟨"java/lang/Object", "clone", "()Ljava/lang/Object;"⟩
def y_BS_checkInvariants : MethodName := ⟨"java/util/BitSet", "checkInvariants", "()V"⟩
def y_SP_swept : MethodName := ⟨"SweptPaths", "swept", "()I"⟩
def y_BS_cardinality : MethodName := ⟨"java/util/BitSet", "cardinality", "()I"⟩
def y_Long_bitCount : MethodName := ⟨"java/lang/Long", "bitCount", "(J)I"⟩
def y_SP_isStuck : MethodName := ⟨"SweptPaths", "isStuck", "()Z"⟩
def y_Law_body : MethodName := ⟨"SweptPathsLaw", "body", "(LSweptPaths;IIIII[J)I"⟩
def y_SP_body : MethodName := ⟨"SweptPaths", "body", "(IIIII)I"⟩
def y_SP_isIn : MethodName := ⟨"SweptPaths", "isIn", "(III)Z"⟩
def y_SP_need : MethodName := ⟨"SweptPaths", "need", "(Z)V"⟩
def y_RTE_init : MethodName := ⟨"java/lang/RuntimeException", "<init>", "()V"⟩
def y_RTE_init_2 : MethodName := ⟨"java/lang/RuntimeException", "<init>", "(Ljava/lang/String;)V"⟩
def y_Exc_init : MethodName := ⟨"java/lang/Exception", "<init>", "()V"⟩
def y_Exc_init_2 : MethodName := ⟨"java/lang/Exception", "<init>", "(Ljava/lang/String;)V"⟩
def y_Thr_init : MethodName := ⟨"java/lang/Throwable", "<init>", "()V"⟩
def y_Thr_init_2 : MethodName := ⟨"java/lang/Throwable", "<init>", "(Ljava/lang/String;)V"⟩
def y_Thr_fillInStackTrace : MethodName := ⟨"java/lang/Throwable", "fillInStackTrace", "(I)Ljava/lang/Throwable;"⟩
def y_Thr_fillInStackTrace_2 : MethodName := ⟨"java/lang/Throwable", "fillInStackTrace", "()Ljava/lang/Throwable;"⟩
def y_IAE_init : MethodName := ⟨"java/lang/IllegalArgumentException", "<init>", "()V"⟩
def y_SP_may : MethodName := ⟨"SweptPaths", "may", "(Z)V"⟩
def y_ISE_init : MethodName := ⟨"java/lang/IllegalStateException", "<init>", "()V"⟩
def y_Shape_init : MethodName := ⟨"SweptPaths$Shape", "<init>", "(IIIII)V"⟩
def y_Law_start : MethodName := ⟨"SweptPathsLaw", "start", "(LSweptPaths;III)I"⟩
def y_SP_start : MethodName := ⟨"SweptPaths", "start", "(III)V"⟩
def y_Law_step : MethodName := ⟨"SweptPathsLaw", "step", "(LSweptPaths;I[J)I"⟩
def y_SP_step : MethodName := ⟨"SweptPaths", "step", "(I)I"⟩
def y_Law_pole : MethodName := ⟨"SweptPathsLaw", "pole", "(LSweptPaths;II[J)I"⟩
def y_SP_pole : MethodName := ⟨"SweptPaths", "pole", "(II)I"⟩
def y_Law_go : MethodName := ⟨"SweptPathsLaw", "go", "(LSweptPaths;IIZ[J)I"⟩
def y_SP_go : MethodName := ⟨"SweptPaths", "go", "(IIZ)I"⟩
def y_AL_isEmpty : MethodName := ⟨"java/util/ArrayList", "isEmpty", "()Z"⟩
def y_Run_go : MethodName := ⟨"SweptPaths$Run", "go", "(IIZ)V"⟩
def y_Run_once : MethodName := ⟨"SweptPaths$Run", "once", "(IZ)V"⟩
def y_Body_swing : MethodName := ⟨"SweptPaths$Body", "swing", "(I)V"⟩
def y_Body_askew : MethodName := ⟨"SweptPaths$Body", "askew", "()I"⟩
def y_Math_abs : MethodName := ⟨"java/lang/Math", "abs", "(I)I"⟩
def y_Law_told : MethodName := ⟨"SweptPathsLaw", "told", "(LSweptPaths;II[J)I"⟩
def y_SP_told : MethodName := ⟨"SweptPaths", "told", "(II)I"⟩
def y_SP_bodyOf : MethodName := ⟨"SweptPaths", "bodyOf", "(I)LSweptPaths$Body;"⟩
def y_Law_corner : MethodName := ⟨"SweptPathsLaw", "corner", "(LSweptPaths;III[J)I"⟩
def y_SP_corner : MethodName := ⟨"SweptPaths", "corner", "(III)I"⟩
def y_Law_cell : MethodName := ⟨"SweptPathsLaw", "cell", "(LSweptPaths;II[J)I"⟩
def y_SP_cell : MethodName := ⟨"SweptPaths", "cell", "(II)Z"⟩
def y_BS_get : MethodName := ⟨"java/util/BitSet", "get", "(I)Z"⟩
def y_Law_clash : MethodName := ⟨"SweptPathsLaw", "clash", "(LSweptPaths;I[J)I"⟩
def y_SP_clash : MethodName := ⟨"SweptPaths", "clash", "(I)I"⟩
def y_Law_part : MethodName := ⟨"SweptPathsLaw", "part", "(LSweptPaths;IIIZ[J)I"⟩
def y_SP_part : MethodName := ⟨"SweptPaths", "part", "(IIIZ)I"⟩
def y_SP_planOf : MethodName := ⟨"SweptPaths", "planOf", "(I)Ljava/util/ArrayList;"⟩
def y_Part_init : MethodName := ⟨"SweptPaths$Part", "<init>", "(IIZ)V"⟩
def y_Law_clear : MethodName := ⟨"SweptPathsLaw", "clear", "(LSweptPaths;I[J)I"⟩
def y_SP_clear : MethodName := ⟨"SweptPaths", "clear", "(I)I"⟩
def y_AL_clear : MethodName := ⟨"java/util/ArrayList", "clear", "()V"⟩
def y_Law_best : MethodName := ⟨"SweptPathsLaw", "best", "(LSweptPaths;[J)I"⟩
def y_SP_best : MethodName := ⟨"SweptPaths", "best", "()I"⟩
def y_SP_gone : MethodName := ⟨"SweptPaths", "gone", "(Ljava/util/ArrayList;)LSweptPaths$Run;"⟩
def y_Law_sweeps : MethodName := ⟨"SweptPathsLaw", "sweeps", "(LSweptPaths;I[J)I"⟩
def y_SP_sweeps : MethodName := ⟨"SweptPaths", "sweeps", "(I)I"⟩
def y_Mo_init : MethodName := ⟨"SweptPathsModel", "<init>", "()V"⟩
def y_Mo_thrown : MethodName := ⟨"SweptPathsModel", "thrown", "()I"⟩
def y_Mo_body : MethodName := ⟨"SweptPathsModel", "body", "(IIIII)I"⟩
def y_Mo_in : MethodName := ⟨"SweptPathsModel", "in", "(III)Z"⟩
def y_Mo_beginAnew : MethodName := ⟨"SweptPathsModel", "beginAnew", "()V"⟩
def y_Mo_hang : MethodName := ⟨"SweptPathsModel", "hang", "(I)V"⟩
def y_Mo_dx : MethodName := ⟨"SweptPathsModel", "dx", "(I)I"⟩
def y_Mo_dy : MethodName := ⟨"SweptPathsModel", "dy", "(I)I"⟩
def y_Mo_look : MethodName := ⟨"SweptPathsModel", "look", "()V"⟩
def y_Mo_cellOf : MethodName := ⟨"SweptPathsModel", "cellOf", "(I)I"⟩
def y_Mo_down : MethodName := ⟨"SweptPathsModel", "down", "(II)I"⟩
def y_Mo_within : MethodName := ⟨"SweptPathsModel", "within", "(I)I"⟩
def y_Mo_covers : MethodName := ⟨"SweptPathsModel", "covers", "(III)Z"⟩
def y_Mo_start : MethodName := ⟨"SweptPathsModel", "start", "(III)V"⟩
def y_Mo_step : MethodName := ⟨"SweptPathsModel", "step", "(I)I"⟩
def y_Mo_pole : MethodName := ⟨"SweptPathsModel", "pole", "(II)I"⟩
def y_Mo_go : MethodName := ⟨"SweptPathsModel", "go", "(IIZ)I"⟩
def y_Mo_goOn : MethodName := ⟨"SweptPathsModel", "goOn", "(IIZ)V"⟩
def y_Mo_move : MethodName := ⟨"SweptPathsModel", "move", "(IZ)V"⟩
def y_Mo_askewOf : MethodName := ⟨"SweptPathsModel", "askewOf", "(I)I"⟩
def y_Mo_wrapped : MethodName := ⟨"SweptPathsModel", "wrapped", "(I)I"⟩
def y_Mo_told : MethodName := ⟨"SweptPathsModel", "told", "(II)I"⟩
def y_Mo_corner : MethodName := ⟨"SweptPathsModel", "corner", "(III)I"⟩
def y_Mo_swept : MethodName := ⟨"SweptPathsModel", "swept", "()I"⟩
def y_Mo_cell : MethodName := ⟨"SweptPathsModel", "cell", "(II)Z"⟩
def y_Mo_clash : MethodName := ⟨"SweptPathsModel", "clash", "(I)I"⟩
def y_Mo_isStuck : MethodName := ⟨"SweptPathsModel", "isStuck", "()Z"⟩
def y_Mo_part : MethodName := ⟨"SweptPathsModel", "part", "(IIIZ)I"⟩
def y_Mo_clear : MethodName := ⟨"SweptPathsModel", "clear", "(I)I"⟩
def y_Mo_best : MethodName := ⟨"SweptPathsModel", "best", "()I"⟩
def y_Mo_keepAside : MethodName := ⟨"SweptPathsModel", "keepAside", "()V"⟩
def y_Mo_goPlan : MethodName := ⟨"SweptPathsModel", "goPlan", "(I)V"⟩
def y_Mo_putBack : MethodName := ⟨"SweptPathsModel", "putBack", "()V"⟩
def y_Mo_sweeps : MethodName := ⟨"SweptPathsModel", "sweeps", "(I)I"⟩
/-- a word of the tables that warmer tables keep -/
def okWord (w : Cond) : Bool := goodWord w || (match w with
  | .fieldLinkNest .. => true
  | .methodLinkNest .. => true
  | .arrayOver (.object _) => true
  | w => w.faceAtom && w.onTables)
/-- the words of every contract -/
def wt : List Cond := lw_tbl.filter okWord
theorem t_0 : (Cond.initialized "SweptPathsLaw") ∈ wt := List.mem_filter.mpr ⟨List.mem_of_getElem? (i := 26) (by decide +kernel), rfl⟩
theorem t_1 : (Cond.initialized "SweptPaths") ∈ wt := List.mem_filter.mpr ⟨List.mem_of_getElem? (i := 27) (by decide +kernel), rfl⟩
theorem t_2 : (Cond.initialized "java/util/AbstractCollection") ∈ wt := List.mem_filter.mpr ⟨List.mem_of_getElem? (i := 28) (by decide +kernel), rfl⟩
theorem t_3 : (Cond.initialized "java/util/AbstractList") ∈ wt := List.mem_filter.mpr ⟨List.mem_of_getElem? (i := 29) (by decide +kernel), rfl⟩
theorem t_4 : (Cond.initialized "java/util/ArrayList") ∈ wt := List.mem_filter.mpr ⟨List.mem_of_getElem? (i := 30) (by decide +kernel), rfl⟩
theorem t_5 : (Cond.initialized "jdk/internal/util/ArraysSupport") ∈ wt := List.mem_filter.mpr ⟨List.mem_of_getElem? (i := 31) (by decide +kernel), rfl⟩
theorem t_6 : (Cond.initialized "java/lang/Math") ∈ wt := List.mem_filter.mpr ⟨List.mem_of_getElem? (i := 32) (by decide +kernel), rfl⟩
theorem t_7 : (Cond.initialized "java/util/Arrays") ∈ wt := List.mem_filter.mpr ⟨List.mem_of_getElem? (i := 33) (by decide +kernel), rfl⟩
theorem t_8 : (Cond.initialized "java/lang/System") ∈ wt := List.mem_filter.mpr ⟨List.mem_of_getElem? (i := 34) (by decide +kernel), rfl⟩
theorem t_9 : (Cond.initialized "SweptPaths$Run") ∈ wt := List.mem_filter.mpr ⟨List.mem_of_getElem? (i := 35) (by decide +kernel), rfl⟩
theorem t_10 : (Cond.initialized "java/util/BitSet") ∈ wt := List.mem_filter.mpr ⟨List.mem_of_getElem? (i := 36) (by decide +kernel), rfl⟩
theorem t_11 : (Cond.initialized "SweptPaths$Body") ∈ wt := List.mem_filter.mpr ⟨List.mem_of_getElem? (i := 37) (by decide +kernel), rfl⟩
theorem t_12 : (Cond.initialized "java/util/Objects") ∈ wt := List.mem_filter.mpr ⟨List.mem_of_getElem? (i := 38) (by decide +kernel), rfl⟩
theorem t_13 : (Cond.initialized "jdk/internal/util/Preconditions") ∈ wt := List.mem_filter.mpr ⟨List.mem_of_getElem? (i := 39) (by decide +kernel), rfl⟩
theorem t_14 : (Cond.initialized "SweptPathsModel") ∈ wt := List.mem_filter.mpr ⟨List.mem_of_getElem? (i := 40) (by decide +kernel), rfl⟩
theorem t_15 : (Cond.initialized "java/lang/Throwable") ∈ wt := List.mem_filter.mpr ⟨List.mem_of_getElem? (i := 41) (by decide +kernel), rfl⟩
theorem t_16 : (Cond.initialized "java/lang/Exception") ∈ wt := List.mem_filter.mpr ⟨List.mem_of_getElem? (i := 42) (by decide +kernel), rfl⟩
theorem t_17 : (Cond.initialized "java/lang/RuntimeException") ∈ wt := List.mem_filter.mpr ⟨List.mem_of_getElem? (i := 43) (by decide +kernel), rfl⟩
theorem t_18 : (Cond.initialized "java/lang/IllegalArgumentException") ∈ wt := List.mem_filter.mpr ⟨List.mem_of_getElem? (i := 44) (by decide +kernel), rfl⟩
theorem t_19 : (Cond.initialized "java/lang/IllegalStateException") ∈ wt := List.mem_filter.mpr ⟨List.mem_of_getElem? (i := 45) (by decide +kernel), rfl⟩
theorem t_20 : (Cond.initialized "SweptPaths$Shape") ∈ wt := List.mem_filter.mpr ⟨List.mem_of_getElem? (i := 46) (by decide +kernel), rfl⟩
theorem t_21 : (Cond.initialized "java/lang/Number") ∈ wt := List.mem_filter.mpr ⟨List.mem_of_getElem? (i := 47) (by decide +kernel), rfl⟩
theorem t_22 : (Cond.initialized "java/lang/Long") ∈ wt := List.mem_filter.mpr ⟨List.mem_of_getElem? (i := 48) (by decide +kernel), rfl⟩
theorem t_23 : (Cond.initialized "SweptPaths$Part") ∈ wt := List.mem_filter.mpr ⟨List.mem_of_getElem? (i := 49) (by decide +kernel), rfl⟩
theorem t_24 : (Cond.classLink "SweptPathsLaw" 8 "SweptPaths") ∈ wt := List.mem_filter.mpr ⟨List.mem_of_getElem? (i := 50) (by decide +kernel), rfl⟩
theorem t_25 : (Cond.instantiable "SweptPaths" 10) ∈ wt := List.mem_filter.mpr ⟨List.mem_of_getElem? (i := 51) (by decide +kernel), rfl⟩
theorem t_26 : (Cond.methodLink "SweptPathsLaw" 61 y_SP_init) ∈ wt := List.mem_filter.mpr ⟨List.mem_of_getElem? (i := 52) (by decide +kernel), rfl⟩
theorem t_27 : (Cond.instanceMethod y_SP_init) ∈ wt := List.mem_filter.mpr ⟨List.mem_of_getElem? (i := 53) (by decide +kernel), rfl⟩
set_option maxRecDepth 20000 in
theorem t_28 : (Cond.code y_SP_init prog_1_method_3_code 2 none) ∈ wt := List.mem_filter.mpr ⟨List.mem_of_getElem? (i := 54) rfl, rfl⟩
theorem t_29 : (Cond.methodLink "SweptPaths" 11 y_Obj_init) ∈ wt := List.mem_filter.mpr ⟨List.mem_of_getElem? (i := 55) (by decide +kernel), rfl⟩
theorem t_30 : (Cond.instanceMethod y_Obj_init) ∈ wt := List.mem_filter.mpr ⟨List.mem_of_getElem? (i := 56) (by decide +kernel), rfl⟩
set_option maxRecDepth 20000 in
theorem t_31 : (Cond.code y_Obj_init object_method_1_code 1 none) ∈ wt := List.mem_filter.mpr ⟨List.mem_of_getElem? (i := 57) rfl, rfl⟩
theorem t_32 : (Cond.classLink "SweptPaths" 17 "java/util/ArrayList") ∈ wt := List.mem_filter.mpr ⟨List.mem_of_getElem? (i := 58) (by decide +kernel), rfl⟩
theorem t_33 : (Cond.instantiable "java/util/ArrayList" 3) ∈ wt := List.mem_filter.mpr ⟨List.mem_of_getElem? (i := 59) (by decide +kernel), rfl⟩
theorem t_34 : (Cond.methodLink "SweptPaths" 19 y_AL_init) ∈ wt := List.mem_filter.mpr ⟨List.mem_of_getElem? (i := 60) (by decide +kernel), rfl⟩
theorem t_35 : (Cond.instanceMethod y_AL_init) ∈ wt := List.mem_filter.mpr ⟨List.mem_of_getElem? (i := 61) (by decide +kernel), rfl⟩
set_option maxRecDepth 20000 in
theorem t_36 : (Cond.code y_AL_init prog_22_method_2_code 1 none) ∈ wt := List.mem_filter.mpr ⟨List.mem_of_getElem? (i := 62) rfl, rfl⟩
theorem t_37 : (Cond.methodLink "java/util/ArrayList" 1 y_AbL_init) ∈ wt := List.mem_filter.mpr ⟨List.mem_of_getElem? (i := 63) (by decide +kernel), rfl⟩
theorem t_38 : (Cond.instanceMethod y_AbL_init) ∈ wt := List.mem_filter.mpr ⟨List.mem_of_getElem? (i := 64) (by decide +kernel), rfl⟩
set_option maxRecDepth 20000 in
theorem t_39 : (Cond.code y_AbL_init prog_21_method_1_code 1 none) ∈ wt := List.mem_filter.mpr ⟨List.mem_of_getElem? (i := 65) rfl, rfl⟩
theorem t_40 : (Cond.methodLink "java/util/AbstractList" 1 y_AbC_init) ∈ wt := List.mem_filter.mpr ⟨List.mem_of_getElem? (i := 66) (by decide +kernel), rfl⟩
theorem t_41 : (Cond.instanceMethod y_AbC_init) ∈ wt := List.mem_filter.mpr ⟨List.mem_of_getElem? (i := 67) (by decide +kernel), rfl⟩
set_option maxRecDepth 20000 in
theorem t_42 : (Cond.code y_AbC_init prog_20_method_1_code 1 none) ∈ wt := List.mem_filter.mpr ⟨List.mem_of_getElem? (i := 68) rfl, rfl⟩
theorem t_43 : (Cond.methodLink "java/util/AbstractCollection" 1 y_Obj_init) ∈ wt := List.mem_filter.mpr ⟨List.mem_of_getElem? (i := 69) (by decide +kernel), rfl⟩
theorem t_44 : (Cond.fieldLink "java/util/ArrayList" 39 "java/util/ArrayList" "DEFAULTCAPACITY_EMPTY_ELEMENTDATA" "[Ljava/lang/Object;") ∈ wt := List.mem_filter.mpr ⟨List.mem_of_getElem? (i := 70) (by decide +kernel), rfl⟩
theorem t_45 : (Cond.laysStatic "java/util/ArrayList" "DEFAULTCAPACITY_EMPTY_ELEMENTDATA" "[Ljava/lang/Object;") ∈ lw_tbl := List.mem_of_getElem? (i := 71) (by decide +kernel)
theorem t_46 : (Cond.fieldLink "java/util/ArrayList" 9 "java/util/ArrayList" "elementData" "[Ljava/lang/Object;") ∈ wt := List.mem_filter.mpr ⟨List.mem_of_getElem? (i := 72) (by decide +kernel), rfl⟩
theorem t_47 : (Cond.fieldLink "java/util/ArrayList" 48 "java/util/ArrayList" "size" "I") ∈ wt := List.mem_filter.mpr ⟨List.mem_of_getElem? (i := 73) (by decide +kernel), rfl⟩
theorem t_48 : (Cond.fieldLink "java/util/AbstractList" 7 "java/util/AbstractList" "modCount" "I") ∈ wt := List.mem_filter.mpr ⟨List.mem_of_getElem? (i := 74) (by decide +kernel), rfl⟩
theorem t_49 : (Cond.fieldLink "java/util/ArrayList" 63 "java/util/ArrayList" "modCount" "I") ∈ wt := List.mem_filter.mpr ⟨List.mem_of_getElem? (i := 75) (by decide +kernel), rfl⟩
theorem t_50 : (Cond.sameField "java/util/ArrayList" "java/util/AbstractList" "modCount" "I") ∈ wt := List.mem_filter.mpr ⟨List.mem_of_getElem? (i := 76) (by decide +kernel), rfl⟩
theorem t_51 : (Cond.lays "java/util/ArrayList" "java/util/ArrayList" "elementData" "[Ljava/lang/Object;") ∈ wt := List.mem_filter.mpr ⟨List.mem_of_getElem? (i := 77) (by decide +kernel), rfl⟩
theorem t_52 : (Cond.soleField "java/util/ArrayList" "elementData") ∈ wt := List.mem_filter.mpr ⟨List.mem_of_getElem? (i := 78) (by decide +kernel), rfl⟩
theorem t_53 : (Cond.lays "java/util/ArrayList" "java/util/ArrayList" "size" "I") ∈ wt := List.mem_filter.mpr ⟨List.mem_of_getElem? (i := 79) (by decide +kernel), rfl⟩
theorem t_54 : (Cond.soleField "java/util/ArrayList" "size") ∈ wt := List.mem_filter.mpr ⟨List.mem_of_getElem? (i := 80) (by decide +kernel), rfl⟩
theorem t_55 : (Cond.lays "java/util/ArrayList" "java/util/AbstractList" "modCount" "I") ∈ wt := List.mem_filter.mpr ⟨List.mem_of_getElem? (i := 81) (by decide +kernel), rfl⟩
theorem t_56 : (Cond.soleField "java/util/AbstractList" "modCount") ∈ wt := List.mem_filter.mpr ⟨List.mem_of_getElem? (i := 82) (by decide +kernel), rfl⟩
theorem t_57 : (Cond.superclass "java/util/ArrayList" "java/util/AbstractList") ∈ wt := List.mem_filter.mpr ⟨List.mem_of_getElem? (i := 83) (by decide +kernel), rfl⟩
theorem t_58 : (Cond.methodLink "SweptPaths" 37 y_AL_add) ∈ wt := List.mem_filter.mpr ⟨List.mem_of_getElem? (i := 84) (by decide +kernel), rfl⟩
theorem t_59 : (Cond.instanceMethod y_AL_add) ∈ wt := List.mem_filter.mpr ⟨List.mem_of_getElem? (i := 85) (by decide +kernel), rfl⟩
theorem t_60 : (Cond.selects "java/util/ArrayList" y_AL_add y_AL_add) ∈ wt := List.mem_filter.mpr ⟨List.mem_of_getElem? (i := 86) (by decide +kernel), rfl⟩
set_option maxRecDepth 20000 in
theorem t_61 : (Cond.code y_AL_add prog_22_method_25_code 2 (some FieldType.boolean)) ∈ wt := List.mem_filter.mpr ⟨List.mem_of_getElem? (i := 87) rfl, rfl⟩
theorem t_62 : (Cond.methodLink "java/util/ArrayList" 131 y_AL_add_2) ∈ wt := List.mem_filter.mpr ⟨List.mem_of_getElem? (i := 88) (by decide +kernel), rfl⟩
theorem t_63 : (Cond.privateMethod y_AL_add_2) ∈ wt := List.mem_filter.mpr ⟨List.mem_of_getElem? (i := 89) (by decide +kernel), rfl⟩
theorem t_64 : (Cond.instanceMethod y_AL_add_2) ∈ wt := List.mem_filter.mpr ⟨List.mem_of_getElem? (i := 90) (by decide +kernel), rfl⟩
set_option maxRecDepth 20000 in
theorem t_65 : (Cond.code y_AL_add_2 prog_22_method_24_code 4 none) ∈ wt := List.mem_filter.mpr ⟨List.mem_of_getElem? (i := 91) rfl, rfl⟩
theorem t_66 : (Cond.methodLink "java/util/ArrayList" 129 y_AL_grow) ∈ wt := List.mem_filter.mpr ⟨List.mem_of_getElem? (i := 92) (by decide +kernel), rfl⟩
theorem t_67 : (Cond.privateMethod y_AL_grow) ∈ wt := List.mem_filter.mpr ⟨List.mem_of_getElem? (i := 93) (by decide +kernel), rfl⟩
theorem t_68 : (Cond.instanceMethod y_AL_grow) ∈ wt := List.mem_filter.mpr ⟨List.mem_of_getElem? (i := 94) (by decide +kernel), rfl⟩
set_option maxRecDepth 20000 in
theorem t_69 : (Cond.code y_AL_grow prog_22_method_7_code 1 (some (FieldType.array (FieldType.object "java/lang/Object")))) ∈ wt := List.mem_filter.mpr ⟨List.mem_of_getElem? (i := 95) rfl, rfl⟩
theorem t_70 : (Cond.methodLink "java/util/ArrayList" 69 y_AL_grow_2) ∈ wt := List.mem_filter.mpr ⟨List.mem_of_getElem? (i := 96) (by decide +kernel), rfl⟩
theorem t_71 : (Cond.privateMethod y_AL_grow_2) ∈ wt := List.mem_filter.mpr ⟨List.mem_of_getElem? (i := 97) (by decide +kernel), rfl⟩
theorem t_72 : (Cond.instanceMethod y_AL_grow_2) ∈ wt := List.mem_filter.mpr ⟨List.mem_of_getElem? (i := 98) (by decide +kernel), rfl⟩
set_option maxRecDepth 20000 in
theorem t_73 : (Cond.code y_AL_grow_2 prog_22_method_6_code 4 (some (FieldType.array (FieldType.object "java/lang/Object")))) ∈ wt := List.mem_filter.mpr ⟨List.mem_of_getElem? (i := 99) rfl, rfl⟩
theorem t_74 : (Cond.methodLink "java/util/ArrayList" 73 y_ArrS_newLength) ∈ wt := List.mem_filter.mpr ⟨List.mem_of_getElem? (i := 100) (by decide +kernel), rfl⟩
theorem t_75 : (Cond.static y_ArrS_newLength) ∈ wt := List.mem_filter.mpr ⟨List.mem_of_getElem? (i := 101) (by decide +kernel), rfl⟩
set_option maxRecDepth 20000 in
theorem t_76 : (Cond.code y_ArrS_newLength prog_30_method_27_code 4 (some FieldType.int)) ∈ wt := List.mem_filter.mpr ⟨List.mem_of_getElem? (i := 102) rfl, rfl⟩
theorem t_77 : (Cond.methodLink "jdk/internal/util/ArraysSupport" 194 y_Math_max) ∈ wt := List.mem_filter.mpr ⟨List.mem_of_getElem? (i := 103) (by decide +kernel), rfl⟩
theorem t_78 : (Cond.static y_Math_max) ∈ wt := List.mem_filter.mpr ⟨List.mem_of_getElem? (i := 104) (by decide +kernel), rfl⟩
set_option maxRecDepth 20000 in
theorem t_79 : (Cond.code y_Math_max prog_15_method_65_code 2 (some FieldType.int)) ∈ wt := List.mem_filter.mpr ⟨List.mem_of_getElem? (i := 105) rfl, rfl⟩
theorem t_80 : (Cond.constant "jdk/internal/util/ArraysSupport" 200 (2147483639 : Int32)) ∈ wt := List.mem_filter.mpr ⟨List.mem_of_getElem? (i := 106) (by decide +kernel), rfl⟩
theorem t_81 : (Cond.methodLink "jdk/internal/util/ArraysSupport" 201 y_ArrS_hugeLength) ∈ wt := List.mem_filter.mpr ⟨List.mem_of_getElem? (i := 107) (by decide +kernel), rfl⟩
theorem t_82 : (Cond.static y_ArrS_hugeLength) ∈ wt := List.mem_filter.mpr ⟨List.mem_of_getElem? (i := 108) (by decide +kernel), rfl⟩
set_option maxRecDepth 20000 in
theorem t_83 : (Cond.code y_ArrS_hugeLength prog_30_method_28_code 3 (some FieldType.int)) ∈ wt := List.mem_filter.mpr ⟨List.mem_of_getElem? (i := 109) rfl, rfl⟩
theorem t_84 : (Cond.methodLink "java/util/ArrayList" 66 y_Arr_copyOf) ∈ wt := List.mem_filter.mpr ⟨List.mem_of_getElem? (i := 110) (by decide +kernel), rfl⟩
theorem t_85 : (Cond.static y_Arr_copyOf) ∈ wt := List.mem_filter.mpr ⟨List.mem_of_getElem? (i := 111) (by decide +kernel), rfl⟩
set_option maxRecDepth 20000 in
theorem t_86 : (Cond.code y_Arr_copyOf prog_23_method_119_code 2 (some (FieldType.array (FieldType.object "java/lang/Object")))) ∈ wt := List.mem_filter.mpr ⟨List.mem_of_getElem? (i := 112) rfl, rfl⟩
theorem t_87 : (Cond.methodLink "java/util/Arrays" 86 y_Obj_getClass) ∈ wt := List.mem_filter.mpr ⟨List.mem_of_getElem? (i := 113) (by decide +kernel), rfl⟩
theorem t_88 : (Cond.instanceMethod y_Obj_getClass) ∈ wt := List.mem_filter.mpr ⟨List.mem_of_getElem? (i := 114) (by decide +kernel), rfl⟩
theorem t_89 : (Cond.sameMethod "java/lang/Object" "java/lang/Object" "getClass" "()Ljava/lang/Class;") ∈ wt := List.mem_filter.mpr ⟨List.mem_of_getElem? (i := 115) (by decide +kernel), rfl⟩
theorem t_90 : (Cond.selects "SweptPaths" y_Obj_getClass y_Obj_getClass) ∈ wt := List.mem_filter.mpr ⟨List.mem_of_getElem? (i := 116) (by decide +kernel), rfl⟩
theorem t_91 : (Cond.selects "SweptPaths$Body" y_Obj_getClass y_Obj_getClass) ∈ wt := List.mem_filter.mpr ⟨List.mem_of_getElem? (i := 117) (by decide +kernel), rfl⟩
theorem t_92 : (Cond.selects "SweptPaths$Part" y_Obj_getClass y_Obj_getClass) ∈ wt := List.mem_filter.mpr ⟨List.mem_of_getElem? (i := 118) (by decide +kernel), rfl⟩
theorem t_93 : (Cond.selects "SweptPaths$Run" y_Obj_getClass y_Obj_getClass) ∈ wt := List.mem_filter.mpr ⟨List.mem_of_getElem? (i := 119) (by decide +kernel), rfl⟩
theorem t_94 : (Cond.selects "SweptPaths$Shape" y_Obj_getClass y_Obj_getClass) ∈ wt := List.mem_filter.mpr ⟨List.mem_of_getElem? (i := 120) (by decide +kernel), rfl⟩
theorem t_95 : (Cond.selects "SweptPathsModel" y_Obj_getClass y_Obj_getClass) ∈ wt := List.mem_filter.mpr ⟨List.mem_of_getElem? (i := 121) (by decide +kernel), rfl⟩
theorem t_96 : (Cond.selects "java/lang/IllegalArgumentException" y_Obj_getClass y_Obj_getClass) ∈ wt := List.mem_filter.mpr ⟨List.mem_of_getElem? (i := 122) (by decide +kernel), rfl⟩
theorem t_97 : (Cond.selects "java/lang/IllegalStateException" y_Obj_getClass y_Obj_getClass) ∈ wt := List.mem_filter.mpr ⟨List.mem_of_getElem? (i := 123) (by decide +kernel), rfl⟩
theorem t_98 : (Cond.selects "java/util/ArrayList" y_Obj_getClass y_Obj_getClass) ∈ wt := List.mem_filter.mpr ⟨List.mem_of_getElem? (i := 124) (by decide +kernel), rfl⟩
theorem t_99 : (Cond.selects "java/util/BitSet" y_Obj_getClass y_Obj_getClass) ∈ wt := List.mem_filter.mpr ⟨List.mem_of_getElem? (i := 125) (by decide +kernel), rfl⟩
theorem t_100 : (Cond.native y_Obj_getClass) ∈ wt := List.mem_filter.mpr ⟨List.mem_of_getElem? (i := 126) (by decide +kernel), rfl⟩
theorem t_101 : (Cond.methodLink "java/util/Arrays" 300 y_Arr_copyOf_2) ∈ wt := List.mem_filter.mpr ⟨List.mem_of_getElem? (i := 127) (by decide +kernel), rfl⟩
theorem t_102 : (Cond.static y_Arr_copyOf_2) ∈ wt := List.mem_filter.mpr ⟨List.mem_of_getElem? (i := 128) (by decide +kernel), rfl⟩
set_option maxRecDepth 20000 in
theorem t_103 : (Cond.code y_Arr_copyOf_2 prog_23_method_120_code 4 (some (FieldType.array (FieldType.object "java/lang/Object")))) ∈ wt := List.mem_filter.mpr ⟨List.mem_of_getElem? (i := 129) rfl, rfl⟩
theorem t_104 : (Cond.classLink "java/util/Arrays" 110 "[Ljava/lang/Object;") ∈ wt := List.mem_filter.mpr ⟨List.mem_of_getElem? (i := 130) (by decide +kernel), rfl⟩
theorem t_105 : (Cond.arrayOver (FieldType.object "java/lang/Object")) ∈ wt := List.mem_filter.mpr ⟨List.mem_of_getElem? (i := 131) (by decide +kernel), rfl⟩
theorem t_106 : (Cond.classLink "java/util/Arrays" 2 "java/lang/Object") ∈ wt := List.mem_filter.mpr ⟨List.mem_of_getElem? (i := 132) (by decide +kernel), rfl⟩
theorem t_107 : (Cond.methodLink "java/util/Arrays" 304 y_Math_min) ∈ wt := List.mem_filter.mpr ⟨List.mem_of_getElem? (i := 133) (by decide +kernel), rfl⟩
theorem t_108 : (Cond.static y_Math_min) ∈ wt := List.mem_filter.mpr ⟨List.mem_of_getElem? (i := 134) (by decide +kernel), rfl⟩
set_option maxRecDepth 20000 in
theorem t_109 : (Cond.code y_Math_min prog_15_method_69_code 2 (some FieldType.int)) ∈ wt := List.mem_filter.mpr ⟨List.mem_of_getElem? (i := 135) rfl, rfl⟩
theorem t_110 : (Cond.methodLink "java/util/Arrays" 150 y_Sys_arraycopy) ∈ wt := List.mem_filter.mpr ⟨List.mem_of_getElem? (i := 136) (by decide +kernel), rfl⟩
theorem t_111 : (Cond.static y_Sys_arraycopy) ∈ wt := List.mem_filter.mpr ⟨List.mem_of_getElem? (i := 137) (by decide +kernel), rfl⟩
theorem t_112 : (Cond.native y_Sys_arraycopy) ∈ wt := List.mem_filter.mpr ⟨List.mem_of_getElem? (i := 138) (by decide +kernel), rfl⟩
theorem t_113 : (Cond.methodLink "java/util/ArrayList" 79 y_Math_max) ∈ wt := List.mem_filter.mpr ⟨List.mem_of_getElem? (i := 139) (by decide +kernel), rfl⟩
theorem t_114 : (Cond.classLink "java/util/ArrayList" 7 "java/lang/Object") ∈ wt := List.mem_filter.mpr ⟨List.mem_of_getElem? (i := 140) (by decide +kernel), rfl⟩
theorem t_115 : (Cond.classLink "SweptPaths" 41 "SweptPaths$Run") ∈ wt := List.mem_filter.mpr ⟨List.mem_of_getElem? (i := 141) (by decide +kernel), rfl⟩
theorem t_116 : (Cond.instantiable "SweptPaths$Run" 8) ∈ wt := List.mem_filter.mpr ⟨List.mem_of_getElem? (i := 142) (by decide +kernel), rfl⟩
theorem t_117 : (Cond.methodLink "SweptPaths" 43 y_Run_init) ∈ wt := List.mem_filter.mpr ⟨List.mem_of_getElem? (i := 143) (by decide +kernel), rfl⟩
theorem t_118 : (Cond.instanceMethod y_Run_init) ∈ wt := List.mem_filter.mpr ⟨List.mem_of_getElem? (i := 144) (by decide +kernel), rfl⟩
set_option maxRecDepth 20000 in
theorem t_119 : (Cond.code y_Run_init prog_4_method_1_code 4 none) ∈ wt := List.mem_filter.mpr ⟨List.mem_of_getElem? (i := 145) rfl, rfl⟩
theorem t_120 : (Cond.methodLink "SweptPaths$Run" 9 y_Obj_init) ∈ wt := List.mem_filter.mpr ⟨List.mem_of_getElem? (i := 146) (by decide +kernel), rfl⟩
theorem t_121 : (Cond.classLink "SweptPaths$Run" 15 "java/util/ArrayList") ∈ wt := List.mem_filter.mpr ⟨List.mem_of_getElem? (i := 147) (by decide +kernel), rfl⟩
theorem t_122 : (Cond.methodLink "SweptPaths$Run" 17 y_AL_init) ∈ wt := List.mem_filter.mpr ⟨List.mem_of_getElem? (i := 148) (by decide +kernel), rfl⟩
theorem t_123 : (Cond.classLink "SweptPaths$Run" 22 "java/util/BitSet") ∈ wt := List.mem_filter.mpr ⟨List.mem_of_getElem? (i := 149) (by decide +kernel), rfl⟩
theorem t_124 : (Cond.instantiable "java/util/BitSet" 3) ∈ wt := List.mem_filter.mpr ⟨List.mem_of_getElem? (i := 150) (by decide +kernel), rfl⟩
theorem t_125 : (Cond.methodLink "SweptPaths$Run" 24 y_BS_init) ∈ wt := List.mem_filter.mpr ⟨List.mem_of_getElem? (i := 151) (by decide +kernel), rfl⟩
theorem t_126 : (Cond.instanceMethod y_BS_init) ∈ wt := List.mem_filter.mpr ⟨List.mem_of_getElem? (i := 152) (by decide +kernel), rfl⟩
set_option maxRecDepth 20000 in
theorem t_127 : (Cond.code y_BS_init prog_24_method_4_code 1 none) ∈ wt := List.mem_filter.mpr ⟨List.mem_of_getElem? (i := 153) rfl, rfl⟩
theorem t_128 : (Cond.methodLink "java/util/BitSet" 21 y_Obj_init) ∈ wt := List.mem_filter.mpr ⟨List.mem_of_getElem? (i := 154) (by decide +kernel), rfl⟩
theorem t_129 : (Cond.methodLink "java/util/BitSet" 27 y_BS_initWords) ∈ wt := List.mem_filter.mpr ⟨List.mem_of_getElem? (i := 155) (by decide +kernel), rfl⟩
theorem t_130 : (Cond.privateMethod y_BS_initWords) ∈ wt := List.mem_filter.mpr ⟨List.mem_of_getElem? (i := 156) (by decide +kernel), rfl⟩
theorem t_131 : (Cond.instanceMethod y_BS_initWords) ∈ wt := List.mem_filter.mpr ⟨List.mem_of_getElem? (i := 157) (by decide +kernel), rfl⟩
set_option maxRecDepth 20000 in
theorem t_132 : (Cond.code y_BS_initWords prog_24_method_6_code 2 none) ∈ wt := List.mem_filter.mpr ⟨List.mem_of_getElem? (i := 158) rfl, rfl⟩
theorem t_133 : (Cond.methodLink "java/util/BitSet" 52 y_BS_wordIndex) ∈ wt := List.mem_filter.mpr ⟨List.mem_of_getElem? (i := 159) (by decide +kernel), rfl⟩
theorem t_134 : (Cond.static y_BS_wordIndex) ∈ wt := List.mem_filter.mpr ⟨List.mem_of_getElem? (i := 160) (by decide +kernel), rfl⟩
set_option maxRecDepth 20000 in
theorem t_135 : (Cond.code y_BS_wordIndex prog_24_method_1_code 1 (some FieldType.int)) ∈ wt := List.mem_filter.mpr ⟨List.mem_of_getElem? (i := 161) rfl, rfl⟩
theorem t_136 : (Cond.fieldLink "java/util/BitSet" 11 "java/util/BitSet" "words" "[J") ∈ wt := List.mem_filter.mpr ⟨List.mem_of_getElem? (i := 162) (by decide +kernel), rfl⟩
theorem t_137 : (Cond.fieldLink "java/util/BitSet" 7 "java/util/BitSet" "wordsInUse" "I") ∈ wt := List.mem_filter.mpr ⟨List.mem_of_getElem? (i := 163) (by decide +kernel), rfl⟩
theorem t_138 : (Cond.fieldLink "java/util/BitSet" 24 "java/util/BitSet" "sizeIsSticky" "Z") ∈ wt := List.mem_filter.mpr ⟨List.mem_of_getElem? (i := 164) (by decide +kernel), rfl⟩
theorem t_139 : (Cond.lays "java/util/BitSet" "java/util/BitSet" "words" "[J") ∈ wt := List.mem_filter.mpr ⟨List.mem_of_getElem? (i := 165) (by decide +kernel), rfl⟩
theorem t_140 : (Cond.soleField "java/util/BitSet" "words") ∈ wt := List.mem_filter.mpr ⟨List.mem_of_getElem? (i := 166) (by decide +kernel), rfl⟩
theorem t_141 : (Cond.lays "java/util/BitSet" "java/util/BitSet" "wordsInUse" "I") ∈ wt := List.mem_filter.mpr ⟨List.mem_of_getElem? (i := 167) (by decide +kernel), rfl⟩
theorem t_142 : (Cond.soleField "java/util/BitSet" "wordsInUse") ∈ wt := List.mem_filter.mpr ⟨List.mem_of_getElem? (i := 168) (by decide +kernel), rfl⟩
theorem t_143 : (Cond.lays "java/util/BitSet" "java/util/BitSet" "sizeIsSticky" "Z") ∈ wt := List.mem_filter.mpr ⟨List.mem_of_getElem? (i := 169) (by decide +kernel), rfl⟩
theorem t_144 : (Cond.soleField "java/util/BitSet" "sizeIsSticky") ∈ wt := List.mem_filter.mpr ⟨List.mem_of_getElem? (i := 170) (by decide +kernel), rfl⟩
theorem t_145 : (Cond.superclass "java/util/BitSet" "java/lang/Object") ∈ wt := List.mem_filter.mpr ⟨List.mem_of_getElem? (i := 171) (by decide +kernel), rfl⟩
theorem t_146 : (Cond.arrayClass FieldType.int) ∈ wt := List.mem_filter.mpr ⟨List.mem_of_getElem? (i := 172) (by decide +kernel), rfl⟩
theorem t_147 : (Cond.arrayClass FieldType.long) ∈ wt := List.mem_filter.mpr ⟨List.mem_of_getElem? (i := 173) (by decide +kernel), rfl⟩
theorem t_148 : (Cond.methodLink "SweptPaths$Run" 42 y_AL_size) ∈ wt := List.mem_filter.mpr ⟨List.mem_of_getElem? (i := 174) (by decide +kernel), rfl⟩
theorem t_149 : (Cond.instanceMethod y_AL_size) ∈ wt := List.mem_filter.mpr ⟨List.mem_of_getElem? (i := 175) (by decide +kernel), rfl⟩
theorem t_150 : (Cond.selects "java/util/ArrayList" y_AL_size y_AL_size) ∈ wt := List.mem_filter.mpr ⟨List.mem_of_getElem? (i := 176) (by decide +kernel), rfl⟩
set_option maxRecDepth 20000 in
theorem t_151 : (Cond.code y_AL_size prog_22_method_8_code 1 (some FieldType.int)) ∈ wt := List.mem_filter.mpr ⟨List.mem_of_getElem? (i := 177) rfl, rfl⟩
theorem t_152 : (Cond.classLink "SweptPaths$Run" 46 "SweptPaths$Body") ∈ wt := List.mem_filter.mpr ⟨List.mem_of_getElem? (i := 178) (by decide +kernel), rfl⟩
theorem t_153 : (Cond.instantiable "SweptPaths$Body" 7) ∈ wt := List.mem_filter.mpr ⟨List.mem_of_getElem? (i := 179) (by decide +kernel), rfl⟩
theorem t_154 : (Cond.methodLink "SweptPaths$Run" 48 y_AL_get) ∈ wt := List.mem_filter.mpr ⟨List.mem_of_getElem? (i := 180) (by decide +kernel), rfl⟩
theorem t_155 : (Cond.instanceMethod y_AL_get) ∈ wt := List.mem_filter.mpr ⟨List.mem_of_getElem? (i := 181) (by decide +kernel), rfl⟩
theorem t_156 : (Cond.selects "java/util/ArrayList" y_AL_get y_AL_get) ∈ wt := List.mem_filter.mpr ⟨List.mem_of_getElem? (i := 182) (by decide +kernel), rfl⟩
set_option maxRecDepth 20000 in
theorem t_157 : (Cond.code y_AL_get prog_22_method_20_code 2 (some (FieldType.object "java/lang/Object"))) ∈ wt := List.mem_filter.mpr ⟨List.mem_of_getElem? (i := 183) rfl, rfl⟩
theorem t_158 : (Cond.methodLink "java/util/ArrayList" 118 y_Objs_checkIndex) ∈ wt := List.mem_filter.mpr ⟨List.mem_of_getElem? (i := 184) (by decide +kernel), rfl⟩
theorem t_159 : (Cond.static y_Objs_checkIndex) ∈ wt := List.mem_filter.mpr ⟨List.mem_of_getElem? (i := 185) (by decide +kernel), rfl⟩
set_option maxRecDepth 20000 in
theorem t_160 : (Cond.code y_Objs_checkIndex prog_27_method_17_code 2 (some FieldType.int)) ∈ wt := List.mem_filter.mpr ⟨List.mem_of_getElem? (i := 186) rfl, rfl⟩
theorem t_161 : (Cond.methodLink "java/util/Objects" 105 y_Prec_checkIndex) ∈ wt := List.mem_filter.mpr ⟨List.mem_of_getElem? (i := 187) (by decide +kernel), rfl⟩
theorem t_162 : (Cond.static y_Prec_checkIndex) ∈ wt := List.mem_filter.mpr ⟨List.mem_of_getElem? (i := 188) (by decide +kernel), rfl⟩
set_option maxRecDepth 20000 in
theorem t_163 : (Cond.code y_Prec_checkIndex prog_31_method_11_code 3 (some FieldType.int)) ∈ wt := List.mem_filter.mpr ⟨List.mem_of_getElem? (i := 189) rfl, rfl⟩
theorem t_164 : (Cond.methodLink "java/util/ArrayList" 123 y_AL_elementData) ∈ wt := List.mem_filter.mpr ⟨List.mem_of_getElem? (i := 190) (by decide +kernel), rfl⟩
theorem t_165 : (Cond.instanceMethod y_AL_elementData) ∈ wt := List.mem_filter.mpr ⟨List.mem_of_getElem? (i := 191) (by decide +kernel), rfl⟩
theorem t_166 : (Cond.selects "java/util/ArrayList" y_AL_elementData y_AL_elementData) ∈ wt := List.mem_filter.mpr ⟨List.mem_of_getElem? (i := 192) (by decide +kernel), rfl⟩
set_option maxRecDepth 20000 in
theorem t_167 : (Cond.code y_AL_elementData prog_22_method_18_code 2 (some (FieldType.object "java/lang/Object"))) ∈ wt := List.mem_filter.mpr ⟨List.mem_of_getElem? (i := 193) rfl, rfl⟩
theorem t_168 : (Cond.classLink "SweptPaths$Run" 52 "SweptPaths$Shape") ∈ wt := List.mem_filter.mpr ⟨List.mem_of_getElem? (i := 194) (by decide +kernel), rfl⟩
theorem t_169 : (Cond.methodLink "SweptPaths$Run" 54 y_Body_init) ∈ wt := List.mem_filter.mpr ⟨List.mem_of_getElem? (i := 195) (by decide +kernel), rfl⟩
theorem t_170 : (Cond.instanceMethod y_Body_init) ∈ wt := List.mem_filter.mpr ⟨List.mem_of_getElem? (i := 196) (by decide +kernel), rfl⟩
set_option maxRecDepth 20000 in
theorem t_171 : (Cond.code y_Body_init prog_2_method_1_code 3 none) ∈ wt := List.mem_filter.mpr ⟨List.mem_of_getElem? (i := 197) rfl, rfl⟩
theorem t_172 : (Cond.methodLink "SweptPaths$Body" 3 y_Obj_init) ∈ wt := List.mem_filter.mpr ⟨List.mem_of_getElem? (i := 198) (by decide +kernel), rfl⟩
theorem t_173 : (Cond.fieldLink "SweptPaths$Body" 9 "SweptPaths$Body" "shape" "LSweptPaths$Shape;") ∈ wt := List.mem_filter.mpr ⟨List.mem_of_getElem? (i := 199) (by decide +kernel), rfl⟩
theorem t_174 : (Cond.fieldLink "SweptPaths$Run" 85 "SweptPaths$Body" "shape" "LSweptPaths$Shape;") ∈ wt := List.mem_filter.mpr ⟨List.mem_of_getElem? (i := 200) (by decide +kernel), rfl⟩
theorem t_175 : (Cond.fieldLink "SweptPaths" 127 "SweptPaths$Body" "shape" "LSweptPaths$Shape;") ∈ wt := List.mem_filter.mpr ⟨List.mem_of_getElem? (i := 201) (by decide +kernel), rfl⟩
theorem t_176 : (Cond.fieldLink "SweptPaths$Body" 15 "SweptPaths$Body" "before" "LSweptPaths$Body;") ∈ wt := List.mem_filter.mpr ⟨List.mem_of_getElem? (i := 202) (by decide +kernel), rfl⟩
theorem t_177 : (Cond.fieldLink "SweptPaths$Run" 66 "SweptPaths$Body" "x" "I") ∈ wt := List.mem_filter.mpr ⟨List.mem_of_getElem? (i := 203) (by decide +kernel), rfl⟩
theorem t_178 : (Cond.fieldLink "SweptPaths$Body" 23 "SweptPaths$Body" "x" "I") ∈ wt := List.mem_filter.mpr ⟨List.mem_of_getElem? (i := 204) (by decide +kernel), rfl⟩
theorem t_179 : (Cond.fieldLink "SweptPaths" 112 "SweptPaths$Body" "x" "I") ∈ wt := List.mem_filter.mpr ⟨List.mem_of_getElem? (i := 205) (by decide +kernel), rfl⟩
theorem t_180 : (Cond.fieldLink "SweptPaths$Run" 72 "SweptPaths$Body" "y" "I") ∈ wt := List.mem_filter.mpr ⟨List.mem_of_getElem? (i := 206) (by decide +kernel), rfl⟩
theorem t_181 : (Cond.fieldLink "SweptPaths$Body" 38 "SweptPaths$Body" "y" "I") ∈ wt := List.mem_filter.mpr ⟨List.mem_of_getElem? (i := 207) (by decide +kernel), rfl⟩
theorem t_182 : (Cond.fieldLink "SweptPaths" 115 "SweptPaths$Body" "y" "I") ∈ wt := List.mem_filter.mpr ⟨List.mem_of_getElem? (i := 208) (by decide +kernel), rfl⟩
theorem t_183 : (Cond.fieldLink "SweptPaths$Run" 60 "SweptPaths$Body" "heading" "I") ∈ wt := List.mem_filter.mpr ⟨List.mem_of_getElem? (i := 209) (by decide +kernel), rfl⟩
theorem t_184 : (Cond.fieldLink "SweptPaths$Body" 19 "SweptPaths$Body" "heading" "I") ∈ wt := List.mem_filter.mpr ⟨List.mem_of_getElem? (i := 210) (by decide +kernel), rfl⟩
theorem t_185 : (Cond.fieldLink "SweptPaths" 118 "SweptPaths$Body" "heading" "I") ∈ wt := List.mem_filter.mpr ⟨List.mem_of_getElem? (i := 211) (by decide +kernel), rfl⟩
theorem t_186 : (Cond.fieldLink "SweptPaths$Body" 44 "SweptPaths$Body" "rest" "I") ∈ wt := List.mem_filter.mpr ⟨List.mem_of_getElem? (i := 212) (by decide +kernel), rfl⟩
theorem t_187 : (Cond.fieldLink "SweptPaths$Run" 148 "SweptPaths$Body" "worst" "I") ∈ wt := List.mem_filter.mpr ⟨List.mem_of_getElem? (i := 213) (by decide +kernel), rfl⟩
theorem t_188 : (Cond.fieldLink "SweptPaths" 124 "SweptPaths$Body" "worst" "I") ∈ wt := List.mem_filter.mpr ⟨List.mem_of_getElem? (i := 214) (by decide +kernel), rfl⟩
theorem t_189 : (Cond.laysFinal "SweptPaths$Body" "SweptPaths$Body" "shape" "LSweptPaths$Shape;") ∈ wt := List.mem_filter.mpr ⟨List.mem_of_getElem? (i := 215) (by decide +kernel), rfl⟩
theorem t_190 : (Cond.soleField "SweptPaths$Body" "shape") ∈ wt := List.mem_filter.mpr ⟨List.mem_of_getElem? (i := 216) (by decide +kernel), rfl⟩
theorem t_191 : (Cond.laysFinal "SweptPaths$Body" "SweptPaths$Body" "before" "LSweptPaths$Body;") ∈ wt := List.mem_filter.mpr ⟨List.mem_of_getElem? (i := 217) (by decide +kernel), rfl⟩
theorem t_192 : (Cond.soleField "SweptPaths$Body" "before") ∈ wt := List.mem_filter.mpr ⟨List.mem_of_getElem? (i := 218) (by decide +kernel), rfl⟩
theorem t_193 : (Cond.lays "SweptPaths$Body" "SweptPaths$Body" "x" "I") ∈ wt := List.mem_filter.mpr ⟨List.mem_of_getElem? (i := 219) (by decide +kernel), rfl⟩
theorem t_194 : (Cond.soleField "SweptPaths$Body" "x") ∈ wt := List.mem_filter.mpr ⟨List.mem_of_getElem? (i := 220) (by decide +kernel), rfl⟩
theorem t_195 : (Cond.lays "SweptPaths$Body" "SweptPaths$Body" "y" "I") ∈ wt := List.mem_filter.mpr ⟨List.mem_of_getElem? (i := 221) (by decide +kernel), rfl⟩
theorem t_196 : (Cond.soleField "SweptPaths$Body" "y") ∈ wt := List.mem_filter.mpr ⟨List.mem_of_getElem? (i := 222) (by decide +kernel), rfl⟩
theorem t_197 : (Cond.lays "SweptPaths$Body" "SweptPaths$Body" "heading" "I") ∈ wt := List.mem_filter.mpr ⟨List.mem_of_getElem? (i := 223) (by decide +kernel), rfl⟩
theorem t_198 : (Cond.soleField "SweptPaths$Body" "heading") ∈ wt := List.mem_filter.mpr ⟨List.mem_of_getElem? (i := 224) (by decide +kernel), rfl⟩
theorem t_199 : (Cond.lays "SweptPaths$Body" "SweptPaths$Body" "rest" "I") ∈ wt := List.mem_filter.mpr ⟨List.mem_of_getElem? (i := 225) (by decide +kernel), rfl⟩
theorem t_200 : (Cond.soleField "SweptPaths$Body" "rest") ∈ wt := List.mem_filter.mpr ⟨List.mem_of_getElem? (i := 226) (by decide +kernel), rfl⟩
theorem t_201 : (Cond.lays "SweptPaths$Body" "SweptPaths$Body" "worst" "I") ∈ wt := List.mem_filter.mpr ⟨List.mem_of_getElem? (i := 227) (by decide +kernel), rfl⟩
theorem t_202 : (Cond.soleField "SweptPaths$Body" "worst") ∈ wt := List.mem_filter.mpr ⟨List.mem_of_getElem? (i := 228) (by decide +kernel), rfl⟩
theorem t_203 : (Cond.superclass "SweptPaths$Body" "java/lang/Object") ∈ wt := List.mem_filter.mpr ⟨List.mem_of_getElem? (i := 229) (by decide +kernel), rfl⟩
theorem t_204 : (Cond.methodLink "SweptPaths$Run" 75 y_Body_follow) ∈ wt := List.mem_filter.mpr ⟨List.mem_of_getElem? (i := 230) (by decide +kernel), rfl⟩
theorem t_205 : (Cond.instanceMethod y_Body_follow) ∈ wt := List.mem_filter.mpr ⟨List.mem_of_getElem? (i := 231) (by decide +kernel), rfl⟩
theorem t_206 : (Cond.selects "SweptPaths$Body" y_Body_follow y_Body_follow) ∈ wt := List.mem_filter.mpr ⟨List.mem_of_getElem? (i := 232) (by decide +kernel), rfl⟩
set_option maxRecDepth 20000 in
theorem t_207 : (Cond.code y_Body_follow prog_2_method_3_code 1 none) ∈ wt := List.mem_filter.mpr ⟨List.mem_of_getElem? (i := 233) rfl, rfl⟩
theorem t_208 : (Cond.methodLinkNest "SweptPaths$Body" 31 y_SP_dx "SweptPaths") ∈ wt := List.mem_filter.mpr ⟨List.mem_of_getElem? (i := 234) (by decide +kernel), rfl⟩
theorem t_209 : (Cond.static y_SP_dx) ∈ wt := List.mem_filter.mpr ⟨List.mem_of_getElem? (i := 235) (by decide +kernel), rfl⟩
set_option maxRecDepth 20000 in
theorem t_210 : (Cond.code y_SP_dx prog_1_method_1_code 3 (some FieldType.int)) ∈ wt := List.mem_filter.mpr ⟨List.mem_of_getElem? (i := 236) rfl, rfl⟩
theorem t_211 : (Cond.fieldLink "SweptPaths" 3 "SweptPaths" "COSINES" "[I") ∈ wt := List.mem_filter.mpr ⟨List.mem_of_getElem? (i := 237) (by decide +kernel), rfl⟩
theorem t_212 : (Cond.laysStatic "SweptPaths" "COSINES" "[I") ∈ lw_tbl := List.mem_of_getElem? (i := 238) (by decide +kernel)
theorem t_213 : (Cond.methodLinkNest "SweptPaths$Body" 41 y_SP_dy "SweptPaths") ∈ wt := List.mem_filter.mpr ⟨List.mem_of_getElem? (i := 239) (by decide +kernel), rfl⟩
theorem t_214 : (Cond.static y_SP_dy) ∈ wt := List.mem_filter.mpr ⟨List.mem_of_getElem? (i := 240) (by decide +kernel), rfl⟩
set_option maxRecDepth 20000 in
theorem t_215 : (Cond.code y_SP_dy prog_1_method_2_code 1 (some FieldType.int)) ∈ wt := List.mem_filter.mpr ⟨List.mem_of_getElem? (i := 241) rfl, rfl⟩
theorem t_216 : (Cond.methodLink "SweptPaths" 7 y_SP_dx) ∈ wt := List.mem_filter.mpr ⟨List.mem_of_getElem? (i := 242) (by decide +kernel), rfl⟩
theorem t_217 : (Cond.methodLink "SweptPaths$Run" 78 y_AL_add) ∈ wt := List.mem_filter.mpr ⟨List.mem_of_getElem? (i := 243) (by decide +kernel), rfl⟩
theorem t_218 : (Cond.methodLink "SweptPaths$Run" 82 y_Run_look) ∈ wt := List.mem_filter.mpr ⟨List.mem_of_getElem? (i := 244) (by decide +kernel), rfl⟩
theorem t_219 : (Cond.privateMethod y_Run_look) ∈ wt := List.mem_filter.mpr ⟨List.mem_of_getElem? (i := 245) (by decide +kernel), rfl⟩
theorem t_220 : (Cond.instanceMethod y_Run_look) ∈ wt := List.mem_filter.mpr ⟨List.mem_of_getElem? (i := 246) (by decide +kernel), rfl⟩
set_option maxRecDepth 20000 in
theorem t_221 : (Cond.code y_Run_look prog_4_method_3_code 3 none) ∈ wt := List.mem_filter.mpr ⟨List.mem_of_getElem? (i := 247) rfl, rfl⟩
theorem t_222 : (Cond.methodLink "SweptPaths$Run" 118 y_Run_sweep) ∈ wt := List.mem_filter.mpr ⟨List.mem_of_getElem? (i := 248) (by decide +kernel), rfl⟩
theorem t_223 : (Cond.privateMethod y_Run_sweep) ∈ wt := List.mem_filter.mpr ⟨List.mem_of_getElem? (i := 249) (by decide +kernel), rfl⟩
theorem t_224 : (Cond.instanceMethod y_Run_sweep) ∈ wt := List.mem_filter.mpr ⟨List.mem_of_getElem? (i := 250) (by decide +kernel), rfl⟩
set_option maxRecDepth 20000 in
theorem t_225 : (Cond.code y_Run_sweep prog_4_method_2_code 10 none) ∈ wt := List.mem_filter.mpr ⟨List.mem_of_getElem? (i := 251) rfl, rfl⟩
theorem t_226 : (Cond.methodLink "SweptPaths$Run" 95 y_Math_max) ∈ wt := List.mem_filter.mpr ⟨List.mem_of_getElem? (i := 252) (by decide +kernel), rfl⟩
theorem t_227 : (Cond.methodLink "SweptPaths$Run" 104 y_Math_floorDiv) ∈ wt := List.mem_filter.mpr ⟨List.mem_of_getElem? (i := 253) (by decide +kernel), rfl⟩
theorem t_228 : (Cond.static y_Math_floorDiv) ∈ wt := List.mem_filter.mpr ⟨List.mem_of_getElem? (i := 254) (by decide +kernel), rfl⟩
set_option maxRecDepth 20000 in
theorem t_229 : (Cond.code y_Math_floorDiv prog_15_method_47_code 3 (some FieldType.int)) ∈ wt := List.mem_filter.mpr ⟨List.mem_of_getElem? (i := 255) rfl, rfl⟩
theorem t_230 : (Cond.methodLink "SweptPaths$Run" 107 y_Math_min) ∈ wt := List.mem_filter.mpr ⟨List.mem_of_getElem? (i := 256) (by decide +kernel), rfl⟩
theorem t_231 : (Cond.methodLink "SweptPaths$Run" 110 y_Body_has) ∈ wt := List.mem_filter.mpr ⟨List.mem_of_getElem? (i := 257) (by decide +kernel), rfl⟩
theorem t_232 : (Cond.instanceMethod y_Body_has) ∈ wt := List.mem_filter.mpr ⟨List.mem_of_getElem? (i := 258) (by decide +kernel), rfl⟩
theorem t_233 : (Cond.selects "SweptPaths$Body" y_Body_has y_Body_has) ∈ wt := List.mem_filter.mpr ⟨List.mem_of_getElem? (i := 259) (by decide +kernel), rfl⟩
set_option maxRecDepth 20000 in
theorem t_234 : (Cond.code y_Body_has prog_2_method_5_code 13 (some FieldType.boolean)) ∈ wt := List.mem_filter.mpr ⟨List.mem_of_getElem? (i := 260) rfl, rfl⟩
theorem t_235 : (Cond.constantLong "SweptPaths$Body" 51 (16777216 : Int64)) ∈ wt := List.mem_filter.mpr ⟨List.mem_of_getElem? (i := 261) (by decide +kernel), rfl⟩
theorem t_236 : (Cond.methodLink "SweptPaths$Run" 114 y_BS_set) ∈ wt := List.mem_filter.mpr ⟨List.mem_of_getElem? (i := 262) (by decide +kernel), rfl⟩
theorem t_237 : (Cond.instanceMethod y_BS_set) ∈ wt := List.mem_filter.mpr ⟨List.mem_of_getElem? (i := 263) (by decide +kernel), rfl⟩
theorem t_238 : (Cond.selects "java/util/BitSet" y_BS_set y_BS_set) ∈ wt := List.mem_filter.mpr ⟨List.mem_of_getElem? (i := 264) (by decide +kernel), rfl⟩
set_option maxRecDepth 20000 in
theorem t_239 : (Cond.code y_BS_set prog_24_method_19_code 3 none) ∈ wt := List.mem_filter.mpr ⟨List.mem_of_getElem? (i := 265) rfl, rfl⟩
theorem t_240 : (Cond.methodLink "java/util/BitSet" 155 y_BS_expandTo) ∈ wt := List.mem_filter.mpr ⟨List.mem_of_getElem? (i := 266) (by decide +kernel), rfl⟩
theorem t_241 : (Cond.privateMethod y_BS_expandTo) ∈ wt := List.mem_filter.mpr ⟨List.mem_of_getElem? (i := 267) (by decide +kernel), rfl⟩
theorem t_242 : (Cond.instanceMethod y_BS_expandTo) ∈ wt := List.mem_filter.mpr ⟨List.mem_of_getElem? (i := 268) (by decide +kernel), rfl⟩
set_option maxRecDepth 20000 in
theorem t_243 : (Cond.code y_BS_expandTo prog_24_method_15_code 3 none) ∈ wt := List.mem_filter.mpr ⟨List.mem_of_getElem? (i := 269) rfl, rfl⟩
theorem t_244 : (Cond.methodLink "java/util/BitSet" 139 y_BS_ensureCapacity) ∈ wt := List.mem_filter.mpr ⟨List.mem_of_getElem? (i := 270) (by decide +kernel), rfl⟩
theorem t_245 : (Cond.privateMethod y_BS_ensureCapacity) ∈ wt := List.mem_filter.mpr ⟨List.mem_of_getElem? (i := 271) (by decide +kernel), rfl⟩
theorem t_246 : (Cond.instanceMethod y_BS_ensureCapacity) ∈ wt := List.mem_filter.mpr ⟨List.mem_of_getElem? (i := 272) (by decide +kernel), rfl⟩
set_option maxRecDepth 20000 in
theorem t_247 : (Cond.code y_BS_ensureCapacity prog_24_method_14_code 3 none) ∈ wt := List.mem_filter.mpr ⟨List.mem_of_getElem? (i := 273) rfl, rfl⟩
theorem t_248 : (Cond.methodLink "java/util/BitSet" 133 y_Math_max) ∈ wt := List.mem_filter.mpr ⟨List.mem_of_getElem? (i := 274) (by decide +kernel), rfl⟩
theorem t_249 : (Cond.methodLink "java/util/BitSet" 59 y_Arr_copyOf_3) ∈ wt := List.mem_filter.mpr ⟨List.mem_of_getElem? (i := 275) (by decide +kernel), rfl⟩
theorem t_250 : (Cond.static y_Arr_copyOf_3) ∈ wt := List.mem_filter.mpr ⟨List.mem_of_getElem? (i := 276) (by decide +kernel), rfl⟩
set_option maxRecDepth 20000 in
theorem t_251 : (Cond.code y_Arr_copyOf_3 prog_23_method_124_code 3 (some (FieldType.array FieldType.long))) ∈ wt := List.mem_filter.mpr ⟨List.mem_of_getElem? (i := 277) rfl, rfl⟩
theorem t_252 : (Cond.methodLink "java/util/Arrays" 319 y_aJ_clone) ∈ wt := List.mem_filter.mpr ⟨List.mem_of_getElem? (i := 278) (by decide +kernel), rfl⟩
theorem t_253 : (Cond.sameMethod "[J" "java/lang/Object" "clone" "()Ljava/lang/Object;") ∈ wt := List.mem_filter.mpr ⟨List.mem_of_getElem? (i := 279) (by decide +kernel), rfl⟩
theorem t_254 : (Cond.native y_Obj_clone) ∈ wt := List.mem_filter.mpr ⟨List.mem_of_getElem? (i := 280) (by decide +kernel), rfl⟩
theorem t_255 : (Cond.instanceMethod y_Obj_clone) ∈ wt := List.mem_filter.mpr ⟨List.mem_of_getElem? (i := 281) (by decide +kernel), rfl⟩
theorem t_256 : (Cond.selects "[J" y_aJ_clone y_Obj_clone) ∈ wt := List.mem_filter.mpr ⟨List.mem_of_getElem? (i := 282) (by decide +kernel), rfl⟩
theorem t_257 : (Cond.castable "[J" "java/lang/Cloneable") ∈ wt := List.mem_filter.mpr ⟨List.mem_of_getElem? (i := 283) (by decide +kernel), rfl⟩
theorem t_258 : (Cond.classLink "java/util/Arrays" 320 "[J") ∈ wt := List.mem_filter.mpr ⟨List.mem_of_getElem? (i := 284) (by decide +kernel), rfl⟩
theorem t_259 : (Cond.methodLink "java/util/BitSet" 56 y_BS_checkInvariants) ∈ wt := List.mem_filter.mpr ⟨List.mem_of_getElem? (i := 285) (by decide +kernel), rfl⟩
theorem t_260 : (Cond.privateMethod y_BS_checkInvariants) ∈ wt := List.mem_filter.mpr ⟨List.mem_of_getElem? (i := 286) (by decide +kernel), rfl⟩
theorem t_261 : (Cond.instanceMethod y_BS_checkInvariants) ∈ wt := List.mem_filter.mpr ⟨List.mem_of_getElem? (i := 287) (by decide +kernel), rfl⟩
set_option maxRecDepth 20000 in
theorem t_262 : (Cond.code y_BS_checkInvariants prog_24_method_2_code 1 none) ∈ wt := List.mem_filter.mpr ⟨List.mem_of_getElem? (i := 288) rfl, rfl⟩
theorem t_263 : (Cond.fieldLink "java/util/BitSet" 3 "java/util/BitSet" "$assertionsDisabled" "Z") ∈ wt := List.mem_filter.mpr ⟨List.mem_of_getElem? (i := 289) (by decide +kernel), rfl⟩
theorem t_264 : (Cond.laysStatic "java/util/BitSet" "$assertionsDisabled" "Z") ∈ lw_tbl := List.mem_of_getElem? (i := 290) (by decide +kernel)
theorem t_265 : (Cond.fieldLink "SweptPaths$Run" 18 "SweptPaths$Run" "train" "Ljava/util/ArrayList;") ∈ wt := List.mem_filter.mpr ⟨List.mem_of_getElem? (i := 291) (by decide +kernel), rfl⟩
theorem t_266 : (Cond.fieldLink "SweptPaths" 56 "SweptPaths$Run" "train" "Ljava/util/ArrayList;") ∈ wt := List.mem_filter.mpr ⟨List.mem_of_getElem? (i := 292) (by decide +kernel), rfl⟩
theorem t_267 : (Cond.fieldLink "SweptPaths$Run" 25 "SweptPaths$Run" "swept" "Ljava/util/BitSet;") ∈ wt := List.mem_filter.mpr ⟨List.mem_of_getElem? (i := 293) (by decide +kernel), rfl⟩
theorem t_268 : (Cond.fieldLink "SweptPaths" 143 "SweptPaths$Run" "swept" "Ljava/util/BitSet;") ∈ wt := List.mem_filter.mpr ⟨List.mem_of_getElem? (i := 294) (by decide +kernel), rfl⟩
theorem t_269 : (Cond.fieldLink "SweptPaths$Run" 132 "SweptPaths$Run" "steps" "I") ∈ wt := List.mem_filter.mpr ⟨List.mem_of_getElem? (i := 295) (by decide +kernel), rfl⟩
theorem t_270 : (Cond.fieldLink "SweptPaths" 105 "SweptPaths$Run" "steps" "I") ∈ wt := List.mem_filter.mpr ⟨List.mem_of_getElem? (i := 296) (by decide +kernel), rfl⟩
theorem t_271 : (Cond.fieldLink "SweptPaths$Run" 157 "SweptPaths$Run" "stuck" "Z") ∈ wt := List.mem_filter.mpr ⟨List.mem_of_getElem? (i := 297) (by decide +kernel), rfl⟩
theorem t_272 : (Cond.fieldLink "SweptPaths" 164 "SweptPaths$Run" "stuck" "Z") ∈ wt := List.mem_filter.mpr ⟨List.mem_of_getElem? (i := 298) (by decide +kernel), rfl⟩
theorem t_273 : (Cond.fieldLink "SweptPaths$Run" 29 "SweptPaths$Run" "clashStep" "I") ∈ wt := List.mem_filter.mpr ⟨List.mem_of_getElem? (i := 299) (by decide +kernel), rfl⟩
theorem t_274 : (Cond.fieldLink "SweptPaths" 155 "SweptPaths$Run" "clashStep" "I") ∈ wt := List.mem_filter.mpr ⟨List.mem_of_getElem? (i := 300) (by decide +kernel), rfl⟩
theorem t_275 : (Cond.fieldLink "SweptPaths$Run" 33 "SweptPaths$Run" "clashBody" "I") ∈ wt := List.mem_filter.mpr ⟨List.mem_of_getElem? (i := 301) (by decide +kernel), rfl⟩
theorem t_276 : (Cond.fieldLink "SweptPaths" 158 "SweptPaths$Run" "clashBody" "I") ∈ wt := List.mem_filter.mpr ⟨List.mem_of_getElem? (i := 302) (by decide +kernel), rfl⟩
theorem t_277 : (Cond.fieldLink "SweptPaths$Run" 36 "SweptPaths$Run" "clashPole" "I") ∈ wt := List.mem_filter.mpr ⟨List.mem_of_getElem? (i := 303) (by decide +kernel), rfl⟩
theorem t_278 : (Cond.fieldLink "SweptPaths" 161 "SweptPaths$Run" "clashPole" "I") ∈ wt := List.mem_filter.mpr ⟨List.mem_of_getElem? (i := 304) (by decide +kernel), rfl⟩
theorem t_279 : (Cond.fieldLink "SweptPaths$Run" 3 "SweptPaths$Run" "this$0" "LSweptPaths;") ∈ wt := List.mem_filter.mpr ⟨List.mem_of_getElem? (i := 305) (by decide +kernel), rfl⟩
theorem t_280 : (Cond.laysFinal "SweptPaths$Run" "SweptPaths$Run" "train" "Ljava/util/ArrayList;") ∈ wt := List.mem_filter.mpr ⟨List.mem_of_getElem? (i := 306) (by decide +kernel), rfl⟩
theorem t_281 : (Cond.soleField "SweptPaths$Run" "train") ∈ wt := List.mem_filter.mpr ⟨List.mem_of_getElem? (i := 307) (by decide +kernel), rfl⟩
theorem t_282 : (Cond.laysFinal "SweptPaths$Run" "SweptPaths$Run" "swept" "Ljava/util/BitSet;") ∈ wt := List.mem_filter.mpr ⟨List.mem_of_getElem? (i := 308) (by decide +kernel), rfl⟩
theorem t_283 : (Cond.soleField "SweptPaths$Run" "swept") ∈ wt := List.mem_filter.mpr ⟨List.mem_of_getElem? (i := 309) (by decide +kernel), rfl⟩
theorem t_284 : (Cond.lays "SweptPaths$Run" "SweptPaths$Run" "steps" "I") ∈ wt := List.mem_filter.mpr ⟨List.mem_of_getElem? (i := 310) (by decide +kernel), rfl⟩
theorem t_285 : (Cond.soleField "SweptPaths$Run" "steps") ∈ wt := List.mem_filter.mpr ⟨List.mem_of_getElem? (i := 311) (by decide +kernel), rfl⟩
theorem t_286 : (Cond.lays "SweptPaths$Run" "SweptPaths$Run" "stuck" "Z") ∈ wt := List.mem_filter.mpr ⟨List.mem_of_getElem? (i := 312) (by decide +kernel), rfl⟩
theorem t_287 : (Cond.soleField "SweptPaths$Run" "stuck") ∈ wt := List.mem_filter.mpr ⟨List.mem_of_getElem? (i := 313) (by decide +kernel), rfl⟩
theorem t_288 : (Cond.lays "SweptPaths$Run" "SweptPaths$Run" "clashStep" "I") ∈ wt := List.mem_filter.mpr ⟨List.mem_of_getElem? (i := 314) (by decide +kernel), rfl⟩
theorem t_289 : (Cond.soleField "SweptPaths$Run" "clashStep") ∈ wt := List.mem_filter.mpr ⟨List.mem_of_getElem? (i := 315) (by decide +kernel), rfl⟩
theorem t_290 : (Cond.lays "SweptPaths$Run" "SweptPaths$Run" "clashBody" "I") ∈ wt := List.mem_filter.mpr ⟨List.mem_of_getElem? (i := 316) (by decide +kernel), rfl⟩
theorem t_291 : (Cond.soleField "SweptPaths$Run" "clashBody") ∈ wt := List.mem_filter.mpr ⟨List.mem_of_getElem? (i := 317) (by decide +kernel), rfl⟩
theorem t_292 : (Cond.lays "SweptPaths$Run" "SweptPaths$Run" "clashPole" "I") ∈ wt := List.mem_filter.mpr ⟨List.mem_of_getElem? (i := 318) (by decide +kernel), rfl⟩
theorem t_293 : (Cond.soleField "SweptPaths$Run" "clashPole") ∈ wt := List.mem_filter.mpr ⟨List.mem_of_getElem? (i := 319) (by decide +kernel), rfl⟩
theorem t_294 : (Cond.laysFinal "SweptPaths$Run" "SweptPaths$Run" "this$0" "LSweptPaths;") ∈ wt := List.mem_filter.mpr ⟨List.mem_of_getElem? (i := 320) (by decide +kernel), rfl⟩
theorem t_295 : (Cond.soleField "SweptPaths$Run" "this$0") ∈ wt := List.mem_filter.mpr ⟨List.mem_of_getElem? (i := 321) (by decide +kernel), rfl⟩
theorem t_296 : (Cond.superclass "SweptPaths$Run" "java/lang/Object") ∈ wt := List.mem_filter.mpr ⟨List.mem_of_getElem? (i := 322) (by decide +kernel), rfl⟩
theorem t_297 : (Cond.fieldLinkNest "SweptPaths$Run" 39 "SweptPaths" "shapes" "Ljava/util/ArrayList;" "SweptPaths") ∈ wt := List.mem_filter.mpr ⟨List.mem_of_getElem? (i := 323) (by decide +kernel), rfl⟩
theorem t_298 : (Cond.fieldLink "SweptPaths" 20 "SweptPaths" "shapes" "Ljava/util/ArrayList;") ∈ wt := List.mem_filter.mpr ⟨List.mem_of_getElem? (i := 324) (by decide +kernel), rfl⟩
theorem t_299 : (Cond.fieldLink "SweptPaths" 24 "SweptPaths" "plans" "Ljava/util/ArrayList;") ∈ wt := List.mem_filter.mpr ⟨List.mem_of_getElem? (i := 325) (by decide +kernel), rfl⟩
theorem t_300 : (Cond.fieldLink "SweptPaths" 27 "SweptPaths" "poleX" "[I") ∈ wt := List.mem_filter.mpr ⟨List.mem_of_getElem? (i := 326) (by decide +kernel), rfl⟩
theorem t_301 : (Cond.fieldLinkNest "SweptPaths$Run" 125 "SweptPaths" "poleX" "[I" "SweptPaths") ∈ wt := List.mem_filter.mpr ⟨List.mem_of_getElem? (i := 327) (by decide +kernel), rfl⟩
theorem t_302 : (Cond.fieldLink "SweptPaths" 30 "SweptPaths" "poleY" "[I") ∈ wt := List.mem_filter.mpr ⟨List.mem_of_getElem? (i := 328) (by decide +kernel), rfl⟩
theorem t_303 : (Cond.fieldLinkNest "SweptPaths$Run" 129 "SweptPaths" "poleY" "[I" "SweptPaths") ∈ wt := List.mem_filter.mpr ⟨List.mem_of_getElem? (i := 329) (by decide +kernel), rfl⟩
theorem t_304 : (Cond.fieldLinkNest "SweptPaths$Run" 122 "SweptPaths" "poles" "I" "SweptPaths") ∈ wt := List.mem_filter.mpr ⟨List.mem_of_getElem? (i := 330) (by decide +kernel), rfl⟩
theorem t_305 : (Cond.fieldLink "SweptPaths" 94 "SweptPaths" "poles" "I") ∈ wt := List.mem_filter.mpr ⟨List.mem_of_getElem? (i := 331) (by decide +kernel), rfl⟩
theorem t_306 : (Cond.fieldLinkNest "SweptPaths$Run" 63 "SweptPaths" "startX" "I" "SweptPaths") ∈ wt := List.mem_filter.mpr ⟨List.mem_of_getElem? (i := 332) (by decide +kernel), rfl⟩
theorem t_307 : (Cond.fieldLink "SweptPaths" 85 "SweptPaths" "startX" "I") ∈ wt := List.mem_filter.mpr ⟨List.mem_of_getElem? (i := 333) (by decide +kernel), rfl⟩
theorem t_308 : (Cond.fieldLinkNest "SweptPaths$Run" 69 "SweptPaths" "startY" "I" "SweptPaths") ∈ wt := List.mem_filter.mpr ⟨List.mem_of_getElem? (i := 334) (by decide +kernel), rfl⟩
theorem t_309 : (Cond.fieldLink "SweptPaths" 88 "SweptPaths" "startY" "I") ∈ wt := List.mem_filter.mpr ⟨List.mem_of_getElem? (i := 335) (by decide +kernel), rfl⟩
theorem t_310 : (Cond.fieldLinkNest "SweptPaths$Run" 57 "SweptPaths" "startHeading" "I" "SweptPaths") ∈ wt := List.mem_filter.mpr ⟨List.mem_of_getElem? (i := 336) (by decide +kernel), rfl⟩
theorem t_311 : (Cond.fieldLink "SweptPaths" 91 "SweptPaths" "startHeading" "I") ∈ wt := List.mem_filter.mpr ⟨List.mem_of_getElem? (i := 337) (by decide +kernel), rfl⟩
theorem t_312 : (Cond.fieldLink "SweptPaths" 33 "SweptPaths" "step" "I") ∈ wt := List.mem_filter.mpr ⟨List.mem_of_getElem? (i := 338) (by decide +kernel), rfl⟩
theorem t_313 : (Cond.fieldLinkNest "SweptPaths$Run" 135 "SweptPaths" "step" "I" "SweptPaths") ∈ wt := List.mem_filter.mpr ⟨List.mem_of_getElem? (i := 339) (by decide +kernel), rfl⟩
theorem t_314 : (Cond.fieldLink "SweptPaths" 46 "SweptPaths" "run" "LSweptPaths$Run;") ∈ wt := List.mem_filter.mpr ⟨List.mem_of_getElem? (i := 340) (by decide +kernel), rfl⟩
theorem t_315 : (Cond.laysFinal "SweptPaths" "SweptPaths" "shapes" "Ljava/util/ArrayList;") ∈ wt := List.mem_filter.mpr ⟨List.mem_of_getElem? (i := 341) (by decide +kernel), rfl⟩
theorem t_316 : (Cond.soleField "SweptPaths" "shapes") ∈ wt := List.mem_filter.mpr ⟨List.mem_of_getElem? (i := 342) (by decide +kernel), rfl⟩
theorem t_317 : (Cond.laysFinal "SweptPaths" "SweptPaths" "plans" "Ljava/util/ArrayList;") ∈ wt := List.mem_filter.mpr ⟨List.mem_of_getElem? (i := 343) (by decide +kernel), rfl⟩
theorem t_318 : (Cond.soleField "SweptPaths" "plans") ∈ wt := List.mem_filter.mpr ⟨List.mem_of_getElem? (i := 344) (by decide +kernel), rfl⟩
theorem t_319 : (Cond.laysFinal "SweptPaths" "SweptPaths" "poleX" "[I") ∈ wt := List.mem_filter.mpr ⟨List.mem_of_getElem? (i := 345) (by decide +kernel), rfl⟩
theorem t_320 : (Cond.soleField "SweptPaths" "poleX") ∈ wt := List.mem_filter.mpr ⟨List.mem_of_getElem? (i := 346) (by decide +kernel), rfl⟩
theorem t_321 : (Cond.laysFinal "SweptPaths" "SweptPaths" "poleY" "[I") ∈ wt := List.mem_filter.mpr ⟨List.mem_of_getElem? (i := 347) (by decide +kernel), rfl⟩
theorem t_322 : (Cond.soleField "SweptPaths" "poleY") ∈ wt := List.mem_filter.mpr ⟨List.mem_of_getElem? (i := 348) (by decide +kernel), rfl⟩
theorem t_323 : (Cond.lays "SweptPaths" "SweptPaths" "poles" "I") ∈ wt := List.mem_filter.mpr ⟨List.mem_of_getElem? (i := 349) (by decide +kernel), rfl⟩
theorem t_324 : (Cond.soleField "SweptPaths" "poles") ∈ wt := List.mem_filter.mpr ⟨List.mem_of_getElem? (i := 350) (by decide +kernel), rfl⟩
theorem t_325 : (Cond.lays "SweptPaths" "SweptPaths" "startX" "I") ∈ wt := List.mem_filter.mpr ⟨List.mem_of_getElem? (i := 351) (by decide +kernel), rfl⟩
theorem t_326 : (Cond.soleField "SweptPaths" "startX") ∈ wt := List.mem_filter.mpr ⟨List.mem_of_getElem? (i := 352) (by decide +kernel), rfl⟩
theorem t_327 : (Cond.lays "SweptPaths" "SweptPaths" "startY" "I") ∈ wt := List.mem_filter.mpr ⟨List.mem_of_getElem? (i := 353) (by decide +kernel), rfl⟩
theorem t_328 : (Cond.soleField "SweptPaths" "startY") ∈ wt := List.mem_filter.mpr ⟨List.mem_of_getElem? (i := 354) (by decide +kernel), rfl⟩
theorem t_329 : (Cond.lays "SweptPaths" "SweptPaths" "startHeading" "I") ∈ wt := List.mem_filter.mpr ⟨List.mem_of_getElem? (i := 355) (by decide +kernel), rfl⟩
theorem t_330 : (Cond.soleField "SweptPaths" "startHeading") ∈ wt := List.mem_filter.mpr ⟨List.mem_of_getElem? (i := 356) (by decide +kernel), rfl⟩
theorem t_331 : (Cond.lays "SweptPaths" "SweptPaths" "step" "I") ∈ wt := List.mem_filter.mpr ⟨List.mem_of_getElem? (i := 357) (by decide +kernel), rfl⟩
theorem t_332 : (Cond.soleField "SweptPaths" "step") ∈ wt := List.mem_filter.mpr ⟨List.mem_of_getElem? (i := 358) (by decide +kernel), rfl⟩
theorem t_333 : (Cond.lays "SweptPaths" "SweptPaths" "run" "LSweptPaths$Run;") ∈ wt := List.mem_filter.mpr ⟨List.mem_of_getElem? (i := 359) (by decide +kernel), rfl⟩
theorem t_334 : (Cond.soleField "SweptPaths" "run") ∈ wt := List.mem_filter.mpr ⟨List.mem_of_getElem? (i := 360) (by decide +kernel), rfl⟩
theorem t_335 : (Cond.superclass "SweptPaths" "java/lang/Object") ∈ wt := List.mem_filter.mpr ⟨List.mem_of_getElem? (i := 361) (by decide +kernel), rfl⟩
theorem t_336 : (Cond.methodLink "SweptPathsLaw" 97 y_SP_swept) ∈ wt := List.mem_filter.mpr ⟨List.mem_of_getElem? (i := 362) (by decide +kernel), rfl⟩
theorem t_337 : (Cond.instanceMethod y_SP_swept) ∈ wt := List.mem_filter.mpr ⟨List.mem_of_getElem? (i := 363) (by decide +kernel), rfl⟩
theorem t_338 : (Cond.selects "SweptPaths" y_SP_swept y_SP_swept) ∈ wt := List.mem_filter.mpr ⟨List.mem_of_getElem? (i := 364) (by decide +kernel), rfl⟩
set_option maxRecDepth 20000 in
theorem t_339 : (Cond.code y_SP_swept prog_1_method_15_code 1 (some FieldType.int)) ∈ wt := List.mem_filter.mpr ⟨List.mem_of_getElem? (i := 365) rfl, rfl⟩
theorem t_340 : (Cond.methodLink "SweptPaths" 147 y_BS_cardinality) ∈ wt := List.mem_filter.mpr ⟨List.mem_of_getElem? (i := 366) (by decide +kernel), rfl⟩
theorem t_341 : (Cond.instanceMethod y_BS_cardinality) ∈ wt := List.mem_filter.mpr ⟨List.mem_of_getElem? (i := 367) (by decide +kernel), rfl⟩
theorem t_342 : (Cond.selects "java/util/BitSet" y_BS_cardinality y_BS_cardinality) ∈ wt := List.mem_filter.mpr ⟨List.mem_of_getElem? (i := 368) (by decide +kernel), rfl⟩
set_option maxRecDepth 20000 in
theorem t_343 : (Cond.code y_BS_cardinality prog_24_method_35_code 3 (some FieldType.int)) ∈ wt := List.mem_filter.mpr ⟨List.mem_of_getElem? (i := 369) rfl, rfl⟩
theorem t_344 : (Cond.methodLink "java/util/BitSet" 196 y_Long_bitCount) ∈ wt := List.mem_filter.mpr ⟨List.mem_of_getElem? (i := 370) (by decide +kernel), rfl⟩
theorem t_345 : (Cond.static y_Long_bitCount) ∈ wt := List.mem_filter.mpr ⟨List.mem_of_getElem? (i := 371) (by decide +kernel), rfl⟩
set_option maxRecDepth 20000 in
theorem t_346 : (Cond.code y_Long_bitCount prog_14_method_50_code 2 (some FieldType.int)) ∈ wt := List.mem_filter.mpr ⟨List.mem_of_getElem? (i := 372) rfl, rfl⟩
theorem t_347 : (Cond.constantLong "java/lang/Long" 314 (6148914691236517205 : Int64)) ∈ wt := List.mem_filter.mpr ⟨List.mem_of_getElem? (i := 373) (by decide +kernel), rfl⟩
theorem t_348 : (Cond.constantLong "java/lang/Long" 316 (3689348814741910323 : Int64)) ∈ wt := List.mem_filter.mpr ⟨List.mem_of_getElem? (i := 374) (by decide +kernel), rfl⟩
theorem t_349 : (Cond.constantLong "java/lang/Long" 318 (1085102592571150095 : Int64)) ∈ wt := List.mem_filter.mpr ⟨List.mem_of_getElem? (i := 375) (by decide +kernel), rfl⟩
theorem t_350 : (Cond.methodLink "SweptPathsLaw" 107 y_SP_isStuck) ∈ wt := List.mem_filter.mpr ⟨List.mem_of_getElem? (i := 376) (by decide +kernel), rfl⟩
theorem t_351 : (Cond.instanceMethod y_SP_isStuck) ∈ wt := List.mem_filter.mpr ⟨List.mem_of_getElem? (i := 377) (by decide +kernel), rfl⟩
theorem t_352 : (Cond.selects "SweptPaths" y_SP_isStuck y_SP_isStuck) ∈ wt := List.mem_filter.mpr ⟨List.mem_of_getElem? (i := 378) (by decide +kernel), rfl⟩
set_option maxRecDepth 20000 in
theorem t_353 : (Cond.code y_SP_isStuck prog_1_method_18_code 1 (some FieldType.boolean)) ∈ wt := List.mem_filter.mpr ⟨List.mem_of_getElem? (i := 379) rfl, rfl⟩
theorem t_354 : (Cond.methodLink "SweptPathsLaw" 65 y_Law_body) ∈ wt := List.mem_filter.mpr ⟨List.mem_of_getElem? (i := 380) (by decide +kernel), rfl⟩
theorem t_355 : (Cond.static y_Law_body) ∈ wt := List.mem_filter.mpr ⟨List.mem_of_getElem? (i := 381) (by decide +kernel), rfl⟩
set_option maxRecDepth 20000 in
theorem t_356 : (Cond.codeWith y_Law_body method_3_code 8 (some FieldType.int) [(0, 16, 19, 13), (0, 16, 23, 15)]) ∈ wt := List.mem_filter.mpr ⟨List.mem_of_getElem? (i := 382) rfl, rfl⟩
theorem t_357 : (Cond.classLink "SweptPathsLaw" 13 "java/lang/IllegalArgumentException") ∈ wt := List.mem_filter.mpr ⟨List.mem_of_getElem? (i := 383) (by decide +kernel), rfl⟩
theorem t_358 : (Cond.classLink "SweptPathsLaw" 15 "java/lang/IllegalStateException") ∈ wt := List.mem_filter.mpr ⟨List.mem_of_getElem? (i := 384) (by decide +kernel), rfl⟩
theorem t_359 : (Cond.methodLink "SweptPathsLaw" 7 y_SP_body) ∈ wt := List.mem_filter.mpr ⟨List.mem_of_getElem? (i := 385) (by decide +kernel), rfl⟩
theorem t_360 : (Cond.instanceMethod y_SP_body) ∈ wt := List.mem_filter.mpr ⟨List.mem_of_getElem? (i := 386) (by decide +kernel), rfl⟩
theorem t_361 : (Cond.selects "SweptPaths" y_SP_body y_SP_body) ∈ wt := List.mem_filter.mpr ⟨List.mem_of_getElem? (i := 387) (by decide +kernel), rfl⟩
set_option maxRecDepth 20000 in
theorem t_362 : (Cond.code y_SP_body prog_1_method_8_code 6 (some FieldType.int)) ∈ wt := List.mem_filter.mpr ⟨List.mem_of_getElem? (i := 388) rfl, rfl⟩
theorem t_363 : (Cond.methodLink "SweptPaths" 63 y_SP_isIn) ∈ wt := List.mem_filter.mpr ⟨List.mem_of_getElem? (i := 389) (by decide +kernel), rfl⟩
theorem t_364 : (Cond.static y_SP_isIn) ∈ wt := List.mem_filter.mpr ⟨List.mem_of_getElem? (i := 390) (by decide +kernel), rfl⟩
set_option maxRecDepth 20000 in
theorem t_365 : (Cond.code y_SP_isIn prog_1_method_6_code 3 (some FieldType.boolean)) ∈ wt := List.mem_filter.mpr ⟨List.mem_of_getElem? (i := 391) rfl, rfl⟩
theorem t_366 : (Cond.methodLink "SweptPaths" 67 y_SP_need) ∈ wt := List.mem_filter.mpr ⟨List.mem_of_getElem? (i := 392) (by decide +kernel), rfl⟩
theorem t_367 : (Cond.static y_SP_need) ∈ wt := List.mem_filter.mpr ⟨List.mem_of_getElem? (i := 393) (by decide +kernel), rfl⟩
set_option maxRecDepth 20000 in
theorem t_368 : (Cond.code y_SP_need prog_1_method_4_code 1 none) ∈ wt := List.mem_filter.mpr ⟨List.mem_of_getElem? (i := 394) rfl, rfl⟩
theorem t_369 : (Cond.classLink "SweptPaths" 50 "java/lang/IllegalArgumentException") ∈ wt := List.mem_filter.mpr ⟨List.mem_of_getElem? (i := 395) (by decide +kernel), rfl⟩
theorem t_370 : (Cond.instantiable "java/lang/IllegalArgumentException" 6) ∈ wt := List.mem_filter.mpr ⟨List.mem_of_getElem? (i := 396) (by decide +kernel), rfl⟩
theorem t_371 : (Cond.castable "java/lang/IllegalArgumentException" "java/lang/IllegalArgumentException") ∈ wt := List.mem_filter.mpr ⟨List.mem_of_getElem? (i := 397) (by decide +kernel), rfl⟩
theorem t_372 : (Cond.declares y_RTE_init) ∈ wt := List.mem_filter.mpr ⟨List.mem_of_getElem? (i := 398) (by decide +kernel), rfl⟩
theorem t_373 : (Cond.declares y_RTE_init_2) ∈ wt := List.mem_filter.mpr ⟨List.mem_of_getElem? (i := 399) (by decide +kernel), rfl⟩
theorem t_374 : (Cond.declares y_Exc_init) ∈ wt := List.mem_filter.mpr ⟨List.mem_of_getElem? (i := 400) (by decide +kernel), rfl⟩
theorem t_375 : (Cond.declares y_Exc_init_2) ∈ wt := List.mem_filter.mpr ⟨List.mem_of_getElem? (i := 401) (by decide +kernel), rfl⟩
theorem t_376 : (Cond.declares y_Thr_init) ∈ wt := List.mem_filter.mpr ⟨List.mem_of_getElem? (i := 402) (by decide +kernel), rfl⟩
theorem t_377 : (Cond.declares y_Thr_init_2) ∈ wt := List.mem_filter.mpr ⟨List.mem_of_getElem? (i := 403) (by decide +kernel), rfl⟩
theorem t_378 : (Cond.selects "java/lang/IllegalArgumentException" y_Thr_fillInStackTrace y_Thr_fillInStackTrace) ∈ wt := List.mem_filter.mpr ⟨List.mem_of_getElem? (i := 404) (by decide +kernel), rfl⟩
theorem t_379 : (Cond.selects "java/lang/IllegalArgumentException" y_Thr_fillInStackTrace_2 y_Thr_fillInStackTrace_2) ∈ wt := List.mem_filter.mpr ⟨List.mem_of_getElem? (i := 405) (by decide +kernel), rfl⟩
theorem t_380 : (Cond.lays "java/lang/IllegalArgumentException" "java/lang/Throwable" "cause" "Ljava/lang/Throwable;") ∈ wt := List.mem_filter.mpr ⟨List.mem_of_getElem? (i := 406) (by decide +kernel), rfl⟩
theorem t_381 : (Cond.lays "java/lang/Throwable" "java/lang/Throwable" "cause" "Ljava/lang/Throwable;") ∈ wt := List.mem_filter.mpr ⟨List.mem_of_getElem? (i := 407) (by decide +kernel), rfl⟩
theorem t_382 : (Cond.lays "java/lang/IllegalArgumentException" "java/lang/Throwable" "stackTrace" "[Ljava/lang/StackTraceElement;") ∈ wt := List.mem_filter.mpr ⟨List.mem_of_getElem? (i := 408) (by decide +kernel), rfl⟩
theorem t_383 : (Cond.lays "java/lang/Throwable" "java/lang/Throwable" "stackTrace" "[Ljava/lang/StackTraceElement;") ∈ wt := List.mem_filter.mpr ⟨List.mem_of_getElem? (i := 409) (by decide +kernel), rfl⟩
theorem t_384 : (Cond.lays "java/lang/IllegalArgumentException" "java/lang/Throwable" "suppressedExceptions" "Ljava/util/List;") ∈ wt := List.mem_filter.mpr ⟨List.mem_of_getElem? (i := 410) (by decide +kernel), rfl⟩
theorem t_385 : (Cond.lays "java/lang/Throwable" "java/lang/Throwable" "suppressedExceptions" "Ljava/util/List;") ∈ wt := List.mem_filter.mpr ⟨List.mem_of_getElem? (i := 411) (by decide +kernel), rfl⟩
theorem t_386 : (Cond.lays "java/lang/IllegalArgumentException" "java/lang/Throwable" "detailMessage" "Ljava/lang/String;") ∈ wt := List.mem_filter.mpr ⟨List.mem_of_getElem? (i := 412) (by decide +kernel), rfl⟩
theorem t_387 : (Cond.lays "java/lang/Throwable" "java/lang/Throwable" "detailMessage" "Ljava/lang/String;") ∈ wt := List.mem_filter.mpr ⟨List.mem_of_getElem? (i := 413) (by decide +kernel), rfl⟩
theorem t_388 : (Cond.lays "java/lang/IllegalArgumentException" "java/lang/Throwable" "backtrace" "Ljava/lang/Object;") ∈ wt := List.mem_filter.mpr ⟨List.mem_of_getElem? (i := 414) (by decide +kernel), rfl⟩
theorem t_389 : (Cond.lays "java/lang/Throwable" "java/lang/Throwable" "backtrace" "Ljava/lang/Object;") ∈ wt := List.mem_filter.mpr ⟨List.mem_of_getElem? (i := 415) (by decide +kernel), rfl⟩
theorem t_390 : (Cond.fieldLink "java/lang/Throwable" 198 "java/lang/Throwable" "backtrace" "Ljava/lang/Object;") ∈ wt := List.mem_filter.mpr ⟨List.mem_of_getElem? (i := 416) (by decide +kernel), rfl⟩
theorem t_391 : (Cond.superclass "java/lang/Throwable" "java/lang/Object") ∈ wt := List.mem_filter.mpr ⟨List.mem_of_getElem? (i := 417) (by decide +kernel), rfl⟩
theorem t_392 : (Cond.instanceMethod y_Thr_init) ∈ wt := List.mem_filter.mpr ⟨List.mem_of_getElem? (i := 418) (by decide +kernel), rfl⟩
set_option maxRecDepth 20000 in
theorem t_393 : (Cond.code y_Thr_init prog_19_method_1_code 1 none) ∈ wt := List.mem_filter.mpr ⟨List.mem_of_getElem? (i := 419) rfl, rfl⟩
theorem t_394 : (Cond.methodLink "java/lang/Throwable" 1 y_Obj_init) ∈ wt := List.mem_filter.mpr ⟨List.mem_of_getElem? (i := 420) (by decide +kernel), rfl⟩
theorem t_395 : (Cond.fieldLink "java/lang/Throwable" 13 "java/lang/Throwable" "UNASSIGNED_STACK" "[Ljava/lang/StackTraceElement;") ∈ wt := List.mem_filter.mpr ⟨List.mem_of_getElem? (i := 421) (by decide +kernel), rfl⟩
theorem t_396 : (Cond.laysStatic "java/lang/Throwable" "UNASSIGNED_STACK" "[Ljava/lang/StackTraceElement;") ∈ lw_tbl := List.mem_of_getElem? (i := 422) (by decide +kernel)
theorem t_397 : (Cond.fieldLink "java/lang/Throwable" 20 "java/lang/Throwable" "SUPPRESSED_SENTINEL" "Ljava/util/List;") ∈ wt := List.mem_filter.mpr ⟨List.mem_of_getElem? (i := 423) (by decide +kernel), rfl⟩
theorem t_398 : (Cond.laysStatic "java/lang/Throwable" "SUPPRESSED_SENTINEL" "Ljava/util/List;") ∈ lw_tbl := List.mem_of_getElem? (i := 424) (by decide +kernel)
theorem t_399 : (Cond.methodLink "java/lang/Throwable" 27 y_Thr_fillInStackTrace_2) ∈ wt := List.mem_filter.mpr ⟨List.mem_of_getElem? (i := 425) (by decide +kernel), rfl⟩
theorem t_400 : (Cond.instanceMethod y_Thr_fillInStackTrace_2) ∈ wt := List.mem_filter.mpr ⟨List.mem_of_getElem? (i := 426) (by decide +kernel), rfl⟩
theorem t_401 : (Cond.sameMethod "java/lang/Throwable" "java/lang/Throwable" "fillInStackTrace" "()Ljava/lang/Throwable;") ∈ wt := List.mem_filter.mpr ⟨List.mem_of_getElem? (i := 427) (by decide +kernel), rfl⟩
theorem t_402 : (Cond.selects "java/lang/IllegalStateException" y_Thr_fillInStackTrace_2 y_Thr_fillInStackTrace_2) ∈ wt := List.mem_filter.mpr ⟨List.mem_of_getElem? (i := 428) (by decide +kernel), rfl⟩
set_option maxRecDepth 20000 in
theorem t_403 : (Cond.codeSync y_Thr_fillInStackTrace_2 prog_19_method_18_code 1 (some (FieldType.object "java/lang/Throwable"))) ∈ wt := List.mem_filter.mpr ⟨List.mem_of_getElem? (i := 429) rfl, rfl⟩
theorem t_404 : (Cond.methodLink "java/lang/Throwable" 202 y_Thr_fillInStackTrace) ∈ wt := List.mem_filter.mpr ⟨List.mem_of_getElem? (i := 430) (by decide +kernel), rfl⟩
theorem t_405 : (Cond.privateMethod y_Thr_fillInStackTrace) ∈ wt := List.mem_filter.mpr ⟨List.mem_of_getElem? (i := 431) (by decide +kernel), rfl⟩
theorem t_406 : (Cond.instanceMethod y_Thr_fillInStackTrace) ∈ wt := List.mem_filter.mpr ⟨List.mem_of_getElem? (i := 432) (by decide +kernel), rfl⟩
theorem t_407 : (Cond.instantiable "java/lang/Throwable" 6) ∈ wt := List.mem_filter.mpr ⟨List.mem_of_getElem? (i := 433) (by decide +kernel), rfl⟩
theorem t_408 : (Cond.native y_Thr_fillInStackTrace) ∈ wt := List.mem_filter.mpr ⟨List.mem_of_getElem? (i := 434) (by decide +kernel), rfl⟩
theorem t_409 : (Cond.methodLink "SweptPaths" 52 y_IAE_init) ∈ wt := List.mem_filter.mpr ⟨List.mem_of_getElem? (i := 435) (by decide +kernel), rfl⟩
theorem t_410 : (Cond.instanceMethod y_IAE_init) ∈ wt := List.mem_filter.mpr ⟨List.mem_of_getElem? (i := 436) (by decide +kernel), rfl⟩
set_option maxRecDepth 20000 in
theorem t_411 : (Cond.code y_IAE_init prog_11_method_1_code 1 none) ∈ wt := List.mem_filter.mpr ⟨List.mem_of_getElem? (i := 437) rfl, rfl⟩
theorem t_412 : (Cond.methodLink "java/lang/IllegalArgumentException" 1 y_RTE_init) ∈ wt := List.mem_filter.mpr ⟨List.mem_of_getElem? (i := 438) (by decide +kernel), rfl⟩
theorem t_413 : (Cond.instanceMethod y_RTE_init) ∈ wt := List.mem_filter.mpr ⟨List.mem_of_getElem? (i := 439) (by decide +kernel), rfl⟩
set_option maxRecDepth 20000 in
theorem t_414 : (Cond.code y_RTE_init prog_17_method_1_code 1 none) ∈ wt := List.mem_filter.mpr ⟨List.mem_of_getElem? (i := 440) rfl, rfl⟩
theorem t_415 : (Cond.methodLink "java/lang/RuntimeException" 1 y_Exc_init) ∈ wt := List.mem_filter.mpr ⟨List.mem_of_getElem? (i := 441) (by decide +kernel), rfl⟩
theorem t_416 : (Cond.instanceMethod y_Exc_init) ∈ wt := List.mem_filter.mpr ⟨List.mem_of_getElem? (i := 442) (by decide +kernel), rfl⟩
set_option maxRecDepth 20000 in
theorem t_417 : (Cond.code y_Exc_init prog_10_method_1_code 1 none) ∈ wt := List.mem_filter.mpr ⟨List.mem_of_getElem? (i := 443) rfl, rfl⟩
theorem t_418 : (Cond.methodLink "java/lang/Exception" 1 y_Thr_init) ∈ wt := List.mem_filter.mpr ⟨List.mem_of_getElem? (i := 444) (by decide +kernel), rfl⟩
theorem t_420 : (Cond.fieldLink "java/lang/Throwable" 7 "java/lang/Throwable" "cause" "Ljava/lang/Throwable;") ∈ wt := List.mem_filter.mpr ⟨List.mem_of_getElem? (i := 446) (by decide +kernel), rfl⟩
theorem t_421 : (Cond.fieldLink "java/lang/Throwable" 17 "java/lang/Throwable" "stackTrace" "[Ljava/lang/StackTraceElement;") ∈ wt := List.mem_filter.mpr ⟨List.mem_of_getElem? (i := 447) (by decide +kernel), rfl⟩
theorem t_422 : (Cond.fieldLink "java/lang/Throwable" 24 "java/lang/Throwable" "suppressedExceptions" "Ljava/util/List;") ∈ wt := List.mem_filter.mpr ⟨List.mem_of_getElem? (i := 448) (by decide +kernel), rfl⟩
theorem t_423 : (Cond.soleField "java/lang/Throwable" "backtrace") ∈ wt := List.mem_filter.mpr ⟨List.mem_of_getElem? (i := 449) (by decide +kernel), rfl⟩
theorem t_424 : (Cond.soleField "java/lang/Throwable" "detailMessage") ∈ wt := List.mem_filter.mpr ⟨List.mem_of_getElem? (i := 450) (by decide +kernel), rfl⟩
theorem t_425 : (Cond.soleField "java/lang/Throwable" "cause") ∈ wt := List.mem_filter.mpr ⟨List.mem_of_getElem? (i := 451) (by decide +kernel), rfl⟩
theorem t_426 : (Cond.soleField "java/lang/Throwable" "stackTrace") ∈ wt := List.mem_filter.mpr ⟨List.mem_of_getElem? (i := 452) (by decide +kernel), rfl⟩
theorem t_427 : (Cond.lays "java/lang/IllegalArgumentException" "java/lang/Throwable" "depth" "I") ∈ wt := List.mem_filter.mpr ⟨List.mem_of_getElem? (i := 453) (by decide +kernel), rfl⟩
theorem t_428 : (Cond.soleField "java/lang/Throwable" "depth") ∈ wt := List.mem_filter.mpr ⟨List.mem_of_getElem? (i := 454) (by decide +kernel), rfl⟩
theorem t_429 : (Cond.soleField "java/lang/Throwable" "suppressedExceptions") ∈ wt := List.mem_filter.mpr ⟨List.mem_of_getElem? (i := 455) (by decide +kernel), rfl⟩
theorem t_430 : (Cond.superclass "java/lang/IllegalArgumentException" "java/lang/RuntimeException") ∈ wt := List.mem_filter.mpr ⟨List.mem_of_getElem? (i := 456) (by decide +kernel), rfl⟩
theorem t_431 : (Cond.methodLink "SweptPaths" 59 y_AL_size) ∈ wt := List.mem_filter.mpr ⟨List.mem_of_getElem? (i := 457) (by decide +kernel), rfl⟩
theorem t_432 : (Cond.methodLink "SweptPaths" 77 y_SP_may) ∈ wt := List.mem_filter.mpr ⟨List.mem_of_getElem? (i := 458) (by decide +kernel), rfl⟩
theorem t_433 : (Cond.static y_SP_may) ∈ wt := List.mem_filter.mpr ⟨List.mem_of_getElem? (i := 459) (by decide +kernel), rfl⟩
set_option maxRecDepth 20000 in
theorem t_434 : (Cond.code y_SP_may prog_1_method_5_code 1 none) ∈ wt := List.mem_filter.mpr ⟨List.mem_of_getElem? (i := 460) rfl, rfl⟩
theorem t_435 : (Cond.classLink "SweptPaths" 53 "java/lang/IllegalStateException") ∈ wt := List.mem_filter.mpr ⟨List.mem_of_getElem? (i := 461) (by decide +kernel), rfl⟩
theorem t_436 : (Cond.instantiable "java/lang/IllegalStateException" 6) ∈ wt := List.mem_filter.mpr ⟨List.mem_of_getElem? (i := 462) (by decide +kernel), rfl⟩
theorem t_437 : (Cond.castable "java/lang/IllegalStateException" "java/lang/IllegalStateException") ∈ wt := List.mem_filter.mpr ⟨List.mem_of_getElem? (i := 463) (by decide +kernel), rfl⟩
theorem t_438 : (Cond.selects "java/lang/IllegalStateException" y_Thr_fillInStackTrace y_Thr_fillInStackTrace) ∈ wt := List.mem_filter.mpr ⟨List.mem_of_getElem? (i := 464) (by decide +kernel), rfl⟩
theorem t_439 : (Cond.lays "java/lang/IllegalStateException" "java/lang/Throwable" "cause" "Ljava/lang/Throwable;") ∈ wt := List.mem_filter.mpr ⟨List.mem_of_getElem? (i := 465) (by decide +kernel), rfl⟩
theorem t_440 : (Cond.lays "java/lang/IllegalStateException" "java/lang/Throwable" "stackTrace" "[Ljava/lang/StackTraceElement;") ∈ wt := List.mem_filter.mpr ⟨List.mem_of_getElem? (i := 466) (by decide +kernel), rfl⟩
theorem t_441 : (Cond.lays "java/lang/IllegalStateException" "java/lang/Throwable" "suppressedExceptions" "Ljava/util/List;") ∈ wt := List.mem_filter.mpr ⟨List.mem_of_getElem? (i := 467) (by decide +kernel), rfl⟩
theorem t_442 : (Cond.lays "java/lang/IllegalStateException" "java/lang/Throwable" "detailMessage" "Ljava/lang/String;") ∈ wt := List.mem_filter.mpr ⟨List.mem_of_getElem? (i := 468) (by decide +kernel), rfl⟩
theorem t_443 : (Cond.lays "java/lang/IllegalStateException" "java/lang/Throwable" "backtrace" "Ljava/lang/Object;") ∈ wt := List.mem_filter.mpr ⟨List.mem_of_getElem? (i := 469) (by decide +kernel), rfl⟩
theorem t_444 : (Cond.methodLink "SweptPaths" 55 y_ISE_init) ∈ wt := List.mem_filter.mpr ⟨List.mem_of_getElem? (i := 470) (by decide +kernel), rfl⟩
theorem t_445 : (Cond.instanceMethod y_ISE_init) ∈ wt := List.mem_filter.mpr ⟨List.mem_of_getElem? (i := 471) (by decide +kernel), rfl⟩
set_option maxRecDepth 20000 in
theorem t_446 : (Cond.code y_ISE_init prog_12_method_1_code 1 none) ∈ wt := List.mem_filter.mpr ⟨List.mem_of_getElem? (i := 472) rfl, rfl⟩
theorem t_447 : (Cond.methodLink "java/lang/IllegalStateException" 1 y_RTE_init) ∈ wt := List.mem_filter.mpr ⟨List.mem_of_getElem? (i := 473) (by decide +kernel), rfl⟩
theorem t_448 : (Cond.lays "java/lang/IllegalStateException" "java/lang/Throwable" "depth" "I") ∈ wt := List.mem_filter.mpr ⟨List.mem_of_getElem? (i := 474) (by decide +kernel), rfl⟩
theorem t_449 : (Cond.superclass "java/lang/IllegalStateException" "java/lang/RuntimeException") ∈ wt := List.mem_filter.mpr ⟨List.mem_of_getElem? (i := 475) (by decide +kernel), rfl⟩
theorem t_450 : (Cond.classLink "SweptPaths" 80 "SweptPaths$Shape") ∈ wt := List.mem_filter.mpr ⟨List.mem_of_getElem? (i := 476) (by decide +kernel), rfl⟩
theorem t_451 : (Cond.instantiable "SweptPaths$Shape" 5) ∈ wt := List.mem_filter.mpr ⟨List.mem_of_getElem? (i := 477) (by decide +kernel), rfl⟩
theorem t_452 : (Cond.methodLink "SweptPaths" 82 y_Shape_init) ∈ wt := List.mem_filter.mpr ⟨List.mem_of_getElem? (i := 478) (by decide +kernel), rfl⟩
theorem t_453 : (Cond.instanceMethod y_Shape_init) ∈ wt := List.mem_filter.mpr ⟨List.mem_of_getElem? (i := 479) (by decide +kernel), rfl⟩
set_option maxRecDepth 20000 in
theorem t_454 : (Cond.code y_Shape_init prog_5_method_1_code 6 none) ∈ wt := List.mem_filter.mpr ⟨List.mem_of_getElem? (i := 480) rfl, rfl⟩
theorem t_455 : (Cond.methodLink "SweptPaths$Shape" 1 y_Obj_init) ∈ wt := List.mem_filter.mpr ⟨List.mem_of_getElem? (i := 481) (by decide +kernel), rfl⟩
theorem t_456 : (Cond.fieldLink "SweptPaths$Shape" 7 "SweptPaths$Shape" "length" "I") ∈ wt := List.mem_filter.mpr ⟨List.mem_of_getElem? (i := 482) (by decide +kernel), rfl⟩
theorem t_457 : (Cond.fieldLink "SweptPaths$Body" 35 "SweptPaths$Shape" "length" "I") ∈ wt := List.mem_filter.mpr ⟨List.mem_of_getElem? (i := 483) (by decide +kernel), rfl⟩
theorem t_458 : (Cond.fieldLink "SweptPaths$Shape" 13 "SweptPaths$Shape" "hitch" "I") ∈ wt := List.mem_filter.mpr ⟨List.mem_of_getElem? (i := 484) (by decide +kernel), rfl⟩
theorem t_459 : (Cond.fieldLink "SweptPaths$Body" 26 "SweptPaths$Shape" "hitch" "I") ∈ wt := List.mem_filter.mpr ⟨List.mem_of_getElem? (i := 485) (by decide +kernel), rfl⟩
theorem t_460 : (Cond.fieldLink "SweptPaths$Shape" 16 "SweptPaths$Shape" "front" "I") ∈ wt := List.mem_filter.mpr ⟨List.mem_of_getElem? (i := 486) (by decide +kernel), rfl⟩
theorem t_461 : (Cond.fieldLink "SweptPaths$Run" 89 "SweptPaths$Shape" "front" "I") ∈ wt := List.mem_filter.mpr ⟨List.mem_of_getElem? (i := 487) (by decide +kernel), rfl⟩
theorem t_462 : (Cond.fieldLink "SweptPaths$Body" 56 "SweptPaths$Shape" "front" "I") ∈ wt := List.mem_filter.mpr ⟨List.mem_of_getElem? (i := 488) (by decide +kernel), rfl⟩
theorem t_463 : (Cond.fieldLink "SweptPaths" 131 "SweptPaths$Shape" "front" "I") ∈ wt := List.mem_filter.mpr ⟨List.mem_of_getElem? (i := 489) (by decide +kernel), rfl⟩
theorem t_464 : (Cond.fieldLink "SweptPaths$Shape" 19 "SweptPaths$Shape" "rear" "I") ∈ wt := List.mem_filter.mpr ⟨List.mem_of_getElem? (i := 490) (by decide +kernel), rfl⟩
theorem t_465 : (Cond.fieldLink "SweptPaths$Run" 92 "SweptPaths$Shape" "rear" "I") ∈ wt := List.mem_filter.mpr ⟨List.mem_of_getElem? (i := 491) (by decide +kernel), rfl⟩
theorem t_466 : (Cond.fieldLink "SweptPaths$Body" 53 "SweptPaths$Shape" "rear" "I") ∈ wt := List.mem_filter.mpr ⟨List.mem_of_getElem? (i := 492) (by decide +kernel), rfl⟩
theorem t_467 : (Cond.fieldLink "SweptPaths" 134 "SweptPaths$Shape" "rear" "I") ∈ wt := List.mem_filter.mpr ⟨List.mem_of_getElem? (i := 493) (by decide +kernel), rfl⟩
theorem t_468 : (Cond.fieldLink "SweptPaths$Shape" 22 "SweptPaths$Shape" "half" "I") ∈ wt := List.mem_filter.mpr ⟨List.mem_of_getElem? (i := 494) (by decide +kernel), rfl⟩
theorem t_469 : (Cond.fieldLink "SweptPaths$Run" 101 "SweptPaths$Shape" "half" "I") ∈ wt := List.mem_filter.mpr ⟨List.mem_of_getElem? (i := 495) (by decide +kernel), rfl⟩
theorem t_470 : (Cond.fieldLink "SweptPaths$Body" 59 "SweptPaths$Shape" "half" "I") ∈ wt := List.mem_filter.mpr ⟨List.mem_of_getElem? (i := 496) (by decide +kernel), rfl⟩
theorem t_471 : (Cond.fieldLink "SweptPaths" 137 "SweptPaths$Shape" "half" "I") ∈ wt := List.mem_filter.mpr ⟨List.mem_of_getElem? (i := 497) (by decide +kernel), rfl⟩
theorem t_472 : (Cond.laysFinal "SweptPaths$Shape" "SweptPaths$Shape" "length" "I") ∈ wt := List.mem_filter.mpr ⟨List.mem_of_getElem? (i := 498) (by decide +kernel), rfl⟩
theorem t_473 : (Cond.soleField "SweptPaths$Shape" "length") ∈ wt := List.mem_filter.mpr ⟨List.mem_of_getElem? (i := 499) (by decide +kernel), rfl⟩
theorem t_474 : (Cond.laysFinal "SweptPaths$Shape" "SweptPaths$Shape" "hitch" "I") ∈ wt := List.mem_filter.mpr ⟨List.mem_of_getElem? (i := 500) (by decide +kernel), rfl⟩
theorem t_475 : (Cond.soleField "SweptPaths$Shape" "hitch") ∈ wt := List.mem_filter.mpr ⟨List.mem_of_getElem? (i := 501) (by decide +kernel), rfl⟩
theorem t_476 : (Cond.laysFinal "SweptPaths$Shape" "SweptPaths$Shape" "front" "I") ∈ wt := List.mem_filter.mpr ⟨List.mem_of_getElem? (i := 502) (by decide +kernel), rfl⟩
theorem t_477 : (Cond.soleField "SweptPaths$Shape" "front") ∈ wt := List.mem_filter.mpr ⟨List.mem_of_getElem? (i := 503) (by decide +kernel), rfl⟩
theorem t_478 : (Cond.laysFinal "SweptPaths$Shape" "SweptPaths$Shape" "rear" "I") ∈ wt := List.mem_filter.mpr ⟨List.mem_of_getElem? (i := 504) (by decide +kernel), rfl⟩
theorem t_479 : (Cond.soleField "SweptPaths$Shape" "rear") ∈ wt := List.mem_filter.mpr ⟨List.mem_of_getElem? (i := 505) (by decide +kernel), rfl⟩
theorem t_480 : (Cond.laysFinal "SweptPaths$Shape" "SweptPaths$Shape" "half" "I") ∈ wt := List.mem_filter.mpr ⟨List.mem_of_getElem? (i := 506) (by decide +kernel), rfl⟩
theorem t_481 : (Cond.soleField "SweptPaths$Shape" "half") ∈ wt := List.mem_filter.mpr ⟨List.mem_of_getElem? (i := 507) (by decide +kernel), rfl⟩
theorem t_482 : (Cond.superclass "SweptPaths$Shape" "java/lang/Object") ∈ wt := List.mem_filter.mpr ⟨List.mem_of_getElem? (i := 508) (by decide +kernel), rfl⟩
theorem t_483 : (Cond.methodLink "SweptPathsLaw" 74 y_Law_start) ∈ wt := List.mem_filter.mpr ⟨List.mem_of_getElem? (i := 509) (by decide +kernel), rfl⟩
theorem t_484 : (Cond.static y_Law_start) ∈ wt := List.mem_filter.mpr ⟨List.mem_of_getElem? (i := 510) (by decide +kernel), rfl⟩
set_option maxRecDepth 20000 in
theorem t_485 : (Cond.codeWith y_Law_start method_4_code 5 (some FieldType.int) [(0, 7, 10, 13)]) ∈ wt := List.mem_filter.mpr ⟨List.mem_of_getElem? (i := 511) rfl, rfl⟩
theorem t_486 : (Cond.methodLink "SweptPathsLaw" 17 y_SP_start) ∈ wt := List.mem_filter.mpr ⟨List.mem_of_getElem? (i := 512) (by decide +kernel), rfl⟩
theorem t_487 : (Cond.instanceMethod y_SP_start) ∈ wt := List.mem_filter.mpr ⟨List.mem_of_getElem? (i := 513) (by decide +kernel), rfl⟩
theorem t_488 : (Cond.selects "SweptPaths" y_SP_start y_SP_start) ∈ wt := List.mem_filter.mpr ⟨List.mem_of_getElem? (i := 514) (by decide +kernel), rfl⟩
set_option maxRecDepth 20000 in
theorem t_489 : (Cond.code y_SP_start prog_1_method_9_code 4 none) ∈ wt := List.mem_filter.mpr ⟨List.mem_of_getElem? (i := 515) rfl, rfl⟩
theorem t_490 : (Cond.methodLink "SweptPathsLaw" 78 y_Law_step) ∈ wt := List.mem_filter.mpr ⟨List.mem_of_getElem? (i := 516) (by decide +kernel), rfl⟩
theorem t_491 : (Cond.static y_Law_step) ∈ wt := List.mem_filter.mpr ⟨List.mem_of_getElem? (i := 517) (by decide +kernel), rfl⟩
set_option maxRecDepth 20000 in
theorem t_492 : (Cond.codeWith y_Law_step method_5_code 4 (some FieldType.int) [(0, 9, 12, 13)]) ∈ wt := List.mem_filter.mpr ⟨List.mem_of_getElem? (i := 518) rfl, rfl⟩
theorem t_493 : (Cond.methodLink "SweptPathsLaw" 21 y_SP_step) ∈ wt := List.mem_filter.mpr ⟨List.mem_of_getElem? (i := 519) (by decide +kernel), rfl⟩
theorem t_494 : (Cond.instanceMethod y_SP_step) ∈ wt := List.mem_filter.mpr ⟨List.mem_of_getElem? (i := 520) (by decide +kernel), rfl⟩
theorem t_495 : (Cond.selects "SweptPaths" y_SP_step y_SP_step) ∈ wt := List.mem_filter.mpr ⟨List.mem_of_getElem? (i := 521) (by decide +kernel), rfl⟩
set_option maxRecDepth 20000 in
theorem t_496 : (Cond.code y_SP_step prog_1_method_10_code 3 (some FieldType.int)) ∈ wt := List.mem_filter.mpr ⟨List.mem_of_getElem? (i := 522) rfl, rfl⟩
theorem t_497 : (Cond.methodLink "SweptPathsLaw" 82 y_Law_pole) ∈ wt := List.mem_filter.mpr ⟨List.mem_of_getElem? (i := 523) (by decide +kernel), rfl⟩
theorem t_498 : (Cond.static y_Law_pole) ∈ wt := List.mem_filter.mpr ⟨List.mem_of_getElem? (i := 524) (by decide +kernel), rfl⟩
set_option maxRecDepth 20000 in
theorem t_499 : (Cond.codeWith y_Law_pole method_6_code 5 (some FieldType.int) [(0, 10, 13, 13), (0, 10, 17, 15)]) ∈ wt := List.mem_filter.mpr ⟨List.mem_of_getElem? (i := 525) rfl, rfl⟩
theorem t_500 : (Cond.methodLink "SweptPathsLaw" 25 y_SP_pole) ∈ wt := List.mem_filter.mpr ⟨List.mem_of_getElem? (i := 526) (by decide +kernel), rfl⟩
theorem t_501 : (Cond.instanceMethod y_SP_pole) ∈ wt := List.mem_filter.mpr ⟨List.mem_of_getElem? (i := 527) (by decide +kernel), rfl⟩
theorem t_502 : (Cond.selects "SweptPaths" y_SP_pole y_SP_pole) ∈ wt := List.mem_filter.mpr ⟨List.mem_of_getElem? (i := 528) (by decide +kernel), rfl⟩
set_option maxRecDepth 20000 in
theorem t_503 : (Cond.code y_SP_pole prog_1_method_11_code 3 (some FieldType.int)) ∈ wt := List.mem_filter.mpr ⟨List.mem_of_getElem? (i := 529) rfl, rfl⟩
theorem t_504 : (Cond.methodLink "SweptPathsLaw" 86 y_Law_go) ∈ wt := List.mem_filter.mpr ⟨List.mem_of_getElem? (i := 530) (by decide +kernel), rfl⟩
theorem t_505 : (Cond.static y_Law_go) ∈ wt := List.mem_filter.mpr ⟨List.mem_of_getElem? (i := 531) (by decide +kernel), rfl⟩
set_option maxRecDepth 20000 in
theorem t_506 : (Cond.codeWith y_Law_go method_7_code 6 (some FieldType.int) [(0, 12, 15, 13), (0, 12, 19, 15)]) ∈ wt := List.mem_filter.mpr ⟨List.mem_of_getElem? (i := 532) rfl, rfl⟩
theorem t_507 : (Cond.methodLink "SweptPathsLaw" 29 y_SP_go) ∈ wt := List.mem_filter.mpr ⟨List.mem_of_getElem? (i := 533) (by decide +kernel), rfl⟩
theorem t_508 : (Cond.instanceMethod y_SP_go) ∈ wt := List.mem_filter.mpr ⟨List.mem_of_getElem? (i := 534) (by decide +kernel), rfl⟩
theorem t_509 : (Cond.selects "SweptPaths" y_SP_go y_SP_go) ∈ wt := List.mem_filter.mpr ⟨List.mem_of_getElem? (i := 535) (by decide +kernel), rfl⟩
set_option maxRecDepth 20000 in
theorem t_510 : (Cond.code y_SP_go prog_1_method_12_code 4 (some FieldType.int)) ∈ wt := List.mem_filter.mpr ⟨List.mem_of_getElem? (i := 536) rfl, rfl⟩
theorem t_511 : (Cond.methodLink "SweptPaths" 97 y_AL_isEmpty) ∈ wt := List.mem_filter.mpr ⟨List.mem_of_getElem? (i := 537) (by decide +kernel), rfl⟩
theorem t_512 : (Cond.instanceMethod y_AL_isEmpty) ∈ wt := List.mem_filter.mpr ⟨List.mem_of_getElem? (i := 538) (by decide +kernel), rfl⟩
theorem t_513 : (Cond.selects "java/util/ArrayList" y_AL_isEmpty y_AL_isEmpty) ∈ wt := List.mem_filter.mpr ⟨List.mem_of_getElem? (i := 539) (by decide +kernel), rfl⟩
set_option maxRecDepth 20000 in
theorem t_514 : (Cond.code y_AL_isEmpty prog_22_method_9_code 1 (some FieldType.boolean)) ∈ wt := List.mem_filter.mpr ⟨List.mem_of_getElem? (i := 540) rfl, rfl⟩
theorem t_515 : (Cond.methodLink "SweptPaths" 101 y_Run_go) ∈ wt := List.mem_filter.mpr ⟨List.mem_of_getElem? (i := 541) (by decide +kernel), rfl⟩
theorem t_516 : (Cond.instanceMethod y_Run_go) ∈ wt := List.mem_filter.mpr ⟨List.mem_of_getElem? (i := 542) (by decide +kernel), rfl⟩
theorem t_517 : (Cond.selects "SweptPaths$Run" y_Run_go y_Run_go) ∈ wt := List.mem_filter.mpr ⟨List.mem_of_getElem? (i := 543) (by decide +kernel), rfl⟩
set_option maxRecDepth 20000 in
theorem t_518 : (Cond.code y_Run_go prog_4_method_5_code 5 none) ∈ wt := List.mem_filter.mpr ⟨List.mem_of_getElem? (i := 544) rfl, rfl⟩
theorem t_519 : (Cond.methodLink "SweptPaths$Run" 161 y_Run_once) ∈ wt := List.mem_filter.mpr ⟨List.mem_of_getElem? (i := 545) (by decide +kernel), rfl⟩
theorem t_520 : (Cond.privateMethod y_Run_once) ∈ wt := List.mem_filter.mpr ⟨List.mem_of_getElem? (i := 546) (by decide +kernel), rfl⟩
theorem t_521 : (Cond.instanceMethod y_Run_once) ∈ wt := List.mem_filter.mpr ⟨List.mem_of_getElem? (i := 547) (by decide +kernel), rfl⟩
set_option maxRecDepth 20000 in
theorem t_522 : (Cond.code y_Run_once prog_4_method_4_code 7 none) ∈ wt := List.mem_filter.mpr ⟨List.mem_of_getElem? (i := 548) rfl, rfl⟩
theorem t_523 : (Cond.methodLinkNest "SweptPaths$Run" 138 y_SP_dx "SweptPaths") ∈ wt := List.mem_filter.mpr ⟨List.mem_of_getElem? (i := 549) (by decide +kernel), rfl⟩
theorem t_524 : (Cond.methodLinkNest "SweptPaths$Run" 142 y_SP_dy "SweptPaths") ∈ wt := List.mem_filter.mpr ⟨List.mem_of_getElem? (i := 550) (by decide +kernel), rfl⟩
theorem t_525 : (Cond.methodLink "SweptPaths$Run" 145 y_Body_swing) ∈ wt := List.mem_filter.mpr ⟨List.mem_of_getElem? (i := 551) (by decide +kernel), rfl⟩
theorem t_526 : (Cond.instanceMethod y_Body_swing) ∈ wt := List.mem_filter.mpr ⟨List.mem_of_getElem? (i := 552) (by decide +kernel), rfl⟩
theorem t_527 : (Cond.selects "SweptPaths$Body" y_Body_swing y_Body_swing) ∈ wt := List.mem_filter.mpr ⟨List.mem_of_getElem? (i := 553) (by decide +kernel), rfl⟩
set_option maxRecDepth 20000 in
theorem t_528 : (Cond.code y_Body_swing prog_2_method_4_code 3 none) ∈ wt := List.mem_filter.mpr ⟨List.mem_of_getElem? (i := 554) rfl, rfl⟩
theorem t_529 : (Cond.methodLink "SweptPaths$Body" 47 y_Body_askew) ∈ wt := List.mem_filter.mpr ⟨List.mem_of_getElem? (i := 555) (by decide +kernel), rfl⟩
theorem t_530 : (Cond.instanceMethod y_Body_askew) ∈ wt := List.mem_filter.mpr ⟨List.mem_of_getElem? (i := 556) (by decide +kernel), rfl⟩
theorem t_531 : (Cond.selects "SweptPaths$Body" y_Body_askew y_Body_askew) ∈ wt := List.mem_filter.mpr ⟨List.mem_of_getElem? (i := 557) (by decide +kernel), rfl⟩
set_option maxRecDepth 20000 in
theorem t_532 : (Cond.code y_Body_askew prog_2_method_2_code 1 (some FieldType.int)) ∈ wt := List.mem_filter.mpr ⟨List.mem_of_getElem? (i := 558) rfl, rfl⟩
theorem t_533 : (Cond.methodLink "SweptPaths$Run" 151 y_Body_askew) ∈ wt := List.mem_filter.mpr ⟨List.mem_of_getElem? (i := 559) (by decide +kernel), rfl⟩
theorem t_534 : (Cond.methodLink "SweptPaths$Run" 154 y_Math_abs) ∈ wt := List.mem_filter.mpr ⟨List.mem_of_getElem? (i := 560) (by decide +kernel), rfl⟩
theorem t_535 : (Cond.static y_Math_abs) ∈ wt := List.mem_filter.mpr ⟨List.mem_of_getElem? (i := 561) (by decide +kernel), rfl⟩
set_option maxRecDepth 20000 in
theorem t_536 : (Cond.code y_Math_abs prog_15_method_59_code 1 (some FieldType.int)) ∈ wt := List.mem_filter.mpr ⟨List.mem_of_getElem? (i := 562) rfl, rfl⟩
theorem t_537 : (Cond.methodLink "SweptPathsLaw" 90 y_Law_told) ∈ wt := List.mem_filter.mpr ⟨List.mem_of_getElem? (i := 563) (by decide +kernel), rfl⟩
theorem t_538 : (Cond.static y_Law_told) ∈ wt := List.mem_filter.mpr ⟨List.mem_of_getElem? (i := 564) (by decide +kernel), rfl⟩
set_option maxRecDepth 20000 in
theorem t_539 : (Cond.codeWith y_Law_told method_8_code 5 (some FieldType.int) [(0, 10, 13, 13)]) ∈ wt := List.mem_filter.mpr ⟨List.mem_of_getElem? (i := 565) rfl, rfl⟩
theorem t_540 : (Cond.methodLink "SweptPathsLaw" 33 y_SP_told) ∈ wt := List.mem_filter.mpr ⟨List.mem_of_getElem? (i := 566) (by decide +kernel), rfl⟩
theorem t_541 : (Cond.instanceMethod y_SP_told) ∈ wt := List.mem_filter.mpr ⟨List.mem_of_getElem? (i := 567) (by decide +kernel), rfl⟩
theorem t_542 : (Cond.selects "SweptPaths" y_SP_told y_SP_told) ∈ wt := List.mem_filter.mpr ⟨List.mem_of_getElem? (i := 568) (by decide +kernel), rfl⟩
set_option maxRecDepth 20000 in
theorem t_543 : (Cond.code y_SP_told prog_1_method_13_code 4 (some FieldType.int)) ∈ wt := List.mem_filter.mpr ⟨List.mem_of_getElem? (i := 569) rfl, rfl⟩
theorem t_544 : (Cond.methodLink "SweptPaths" 108 y_SP_bodyOf) ∈ wt := List.mem_filter.mpr ⟨List.mem_of_getElem? (i := 570) (by decide +kernel), rfl⟩
theorem t_545 : (Cond.privateMethod y_SP_bodyOf) ∈ wt := List.mem_filter.mpr ⟨List.mem_of_getElem? (i := 571) (by decide +kernel), rfl⟩
theorem t_546 : (Cond.instanceMethod y_SP_bodyOf) ∈ wt := List.mem_filter.mpr ⟨List.mem_of_getElem? (i := 572) (by decide +kernel), rfl⟩
set_option maxRecDepth 20000 in
theorem t_547 : (Cond.code y_SP_bodyOf prog_1_method_7_code 2 (some (FieldType.object "SweptPaths$Body"))) ∈ wt := List.mem_filter.mpr ⟨List.mem_of_getElem? (i := 573) rfl, rfl⟩
theorem t_548 : (Cond.methodLink "SweptPaths" 71 y_AL_get) ∈ wt := List.mem_filter.mpr ⟨List.mem_of_getElem? (i := 574) (by decide +kernel), rfl⟩
theorem t_549 : (Cond.classLink "SweptPaths" 75 "SweptPaths$Body") ∈ wt := List.mem_filter.mpr ⟨List.mem_of_getElem? (i := 575) (by decide +kernel), rfl⟩
theorem t_550 : (Cond.methodLink "SweptPaths" 121 y_Body_askew) ∈ wt := List.mem_filter.mpr ⟨List.mem_of_getElem? (i := 576) (by decide +kernel), rfl⟩
theorem t_551 : (Cond.methodLink "SweptPathsLaw" 93 y_Law_corner) ∈ wt := List.mem_filter.mpr ⟨List.mem_of_getElem? (i := 577) (by decide +kernel), rfl⟩
theorem t_552 : (Cond.static y_Law_corner) ∈ wt := List.mem_filter.mpr ⟨List.mem_of_getElem? (i := 578) (by decide +kernel), rfl⟩
set_option maxRecDepth 20000 in
theorem t_553 : (Cond.codeWith y_Law_corner method_9_code 6 (some FieldType.int) [(0, 12, 15, 13)]) ∈ wt := List.mem_filter.mpr ⟨List.mem_of_getElem? (i := 579) rfl, rfl⟩
theorem t_554 : (Cond.methodLink "SweptPathsLaw" 36 y_SP_corner) ∈ wt := List.mem_filter.mpr ⟨List.mem_of_getElem? (i := 580) (by decide +kernel), rfl⟩
theorem t_555 : (Cond.instanceMethod y_SP_corner) ∈ wt := List.mem_filter.mpr ⟨List.mem_of_getElem? (i := 581) (by decide +kernel), rfl⟩
theorem t_556 : (Cond.selects "SweptPaths" y_SP_corner y_SP_corner) ∈ wt := List.mem_filter.mpr ⟨List.mem_of_getElem? (i := 582) (by decide +kernel), rfl⟩
set_option maxRecDepth 20000 in
theorem t_557 : (Cond.code y_SP_corner prog_1_method_14_code 9 (some FieldType.int)) ∈ wt := List.mem_filter.mpr ⟨List.mem_of_getElem? (i := 583) rfl, rfl⟩
theorem t_558 : (Cond.methodLink "SweptPaths" 140 y_SP_dy) ∈ wt := List.mem_filter.mpr ⟨List.mem_of_getElem? (i := 584) (by decide +kernel), rfl⟩
theorem t_559 : (Cond.methodLink "SweptPathsLaw" 101 y_Law_cell) ∈ wt := List.mem_filter.mpr ⟨List.mem_of_getElem? (i := 585) (by decide +kernel), rfl⟩
theorem t_560 : (Cond.static y_Law_cell) ∈ wt := List.mem_filter.mpr ⟨List.mem_of_getElem? (i := 586) (by decide +kernel), rfl⟩
set_option maxRecDepth 20000 in
theorem t_561 : (Cond.codeWith y_Law_cell method_10_code 5 (some FieldType.int) [(0, 17, 20, 13)]) ∈ wt := List.mem_filter.mpr ⟨List.mem_of_getElem? (i := 587) rfl, rfl⟩
theorem t_562 : (Cond.methodLink "SweptPathsLaw" 40 y_SP_cell) ∈ wt := List.mem_filter.mpr ⟨List.mem_of_getElem? (i := 588) (by decide +kernel), rfl⟩
theorem t_563 : (Cond.instanceMethod y_SP_cell) ∈ wt := List.mem_filter.mpr ⟨List.mem_of_getElem? (i := 589) (by decide +kernel), rfl⟩
theorem t_564 : (Cond.selects "SweptPaths" y_SP_cell y_SP_cell) ∈ wt := List.mem_filter.mpr ⟨List.mem_of_getElem? (i := 590) (by decide +kernel), rfl⟩
set_option maxRecDepth 20000 in
theorem t_565 : (Cond.code y_SP_cell prog_1_method_16_code 3 (some FieldType.boolean)) ∈ wt := List.mem_filter.mpr ⟨List.mem_of_getElem? (i := 591) rfl, rfl⟩
theorem t_566 : (Cond.methodLink "SweptPaths" 152 y_BS_get) ∈ wt := List.mem_filter.mpr ⟨List.mem_of_getElem? (i := 592) (by decide +kernel), rfl⟩
theorem t_567 : (Cond.instanceMethod y_BS_get) ∈ wt := List.mem_filter.mpr ⟨List.mem_of_getElem? (i := 593) (by decide +kernel), rfl⟩
theorem t_568 : (Cond.selects "java/util/BitSet" y_BS_get y_BS_get) ∈ wt := List.mem_filter.mpr ⟨List.mem_of_getElem? (i := 594) (by decide +kernel), rfl⟩
set_option maxRecDepth 20000 in
theorem t_569 : (Cond.code y_BS_get prog_24_method_26_code 3 (some FieldType.boolean)) ∈ wt := List.mem_filter.mpr ⟨List.mem_of_getElem? (i := 595) rfl, rfl⟩
theorem t_570 : (Cond.methodLink "SweptPathsLaw" 104 y_Law_clash) ∈ wt := List.mem_filter.mpr ⟨List.mem_of_getElem? (i := 596) (by decide +kernel), rfl⟩
theorem t_571 : (Cond.static y_Law_clash) ∈ wt := List.mem_filter.mpr ⟨List.mem_of_getElem? (i := 597) (by decide +kernel), rfl⟩
set_option maxRecDepth 20000 in
theorem t_572 : (Cond.codeWith y_Law_clash method_11_code 4 (some FieldType.int) [(0, 9, 12, 13)]) ∈ wt := List.mem_filter.mpr ⟨List.mem_of_getElem? (i := 598) rfl, rfl⟩
theorem t_573 : (Cond.methodLink "SweptPathsLaw" 44 y_SP_clash) ∈ wt := List.mem_filter.mpr ⟨List.mem_of_getElem? (i := 599) (by decide +kernel), rfl⟩
theorem t_574 : (Cond.instanceMethod y_SP_clash) ∈ wt := List.mem_filter.mpr ⟨List.mem_of_getElem? (i := 600) (by decide +kernel), rfl⟩
theorem t_575 : (Cond.selects "SweptPaths" y_SP_clash y_SP_clash) ∈ wt := List.mem_filter.mpr ⟨List.mem_of_getElem? (i := 601) (by decide +kernel), rfl⟩
set_option maxRecDepth 20000 in
theorem t_576 : (Cond.code y_SP_clash prog_1_method_17_code 2 (some FieldType.int)) ∈ wt := List.mem_filter.mpr ⟨List.mem_of_getElem? (i := 602) rfl, rfl⟩
theorem t_577 : (Cond.methodLink "SweptPathsLaw" 112 y_Law_part) ∈ wt := List.mem_filter.mpr ⟨List.mem_of_getElem? (i := 603) (by decide +kernel), rfl⟩
theorem t_578 : (Cond.static y_Law_part) ∈ wt := List.mem_filter.mpr ⟨List.mem_of_getElem? (i := 604) (by decide +kernel), rfl⟩
set_option maxRecDepth 20000 in
theorem t_579 : (Cond.codeWith y_Law_part method_12_code 7 (some FieldType.int) [(0, 14, 17, 13), (0, 14, 21, 15)]) ∈ wt := List.mem_filter.mpr ⟨List.mem_of_getElem? (i := 605) rfl, rfl⟩
theorem t_580 : (Cond.methodLink "SweptPathsLaw" 47 y_SP_part) ∈ wt := List.mem_filter.mpr ⟨List.mem_of_getElem? (i := 606) (by decide +kernel), rfl⟩
theorem t_581 : (Cond.instanceMethod y_SP_part) ∈ wt := List.mem_filter.mpr ⟨List.mem_of_getElem? (i := 607) (by decide +kernel), rfl⟩
theorem t_582 : (Cond.selects "SweptPaths" y_SP_part y_SP_part) ∈ wt := List.mem_filter.mpr ⟨List.mem_of_getElem? (i := 608) (by decide +kernel), rfl⟩
set_option maxRecDepth 20000 in
theorem t_583 : (Cond.code y_SP_part prog_1_method_20_code 6 (some FieldType.int)) ∈ wt := List.mem_filter.mpr ⟨List.mem_of_getElem? (i := 609) rfl, rfl⟩
theorem t_584 : (Cond.methodLink "SweptPaths" 168 y_SP_planOf) ∈ wt := List.mem_filter.mpr ⟨List.mem_of_getElem? (i := 610) (by decide +kernel), rfl⟩
theorem t_585 : (Cond.privateMethod y_SP_planOf) ∈ wt := List.mem_filter.mpr ⟨List.mem_of_getElem? (i := 611) (by decide +kernel), rfl⟩
theorem t_586 : (Cond.instanceMethod y_SP_planOf) ∈ wt := List.mem_filter.mpr ⟨List.mem_of_getElem? (i := 612) (by decide +kernel), rfl⟩
set_option maxRecDepth 20000 in
theorem t_587 : (Cond.code y_SP_planOf prog_1_method_19_code 2 (some (FieldType.object "java/util/ArrayList"))) ∈ wt := List.mem_filter.mpr ⟨List.mem_of_getElem? (i := 613) rfl, rfl⟩
theorem t_588 : (Cond.classLink "SweptPaths" 172 "SweptPaths$Part") ∈ wt := List.mem_filter.mpr ⟨List.mem_of_getElem? (i := 614) (by decide +kernel), rfl⟩
theorem t_589 : (Cond.instantiable "SweptPaths$Part" 3) ∈ wt := List.mem_filter.mpr ⟨List.mem_of_getElem? (i := 615) (by decide +kernel), rfl⟩
theorem t_590 : (Cond.methodLink "SweptPaths" 174 y_Part_init) ∈ wt := List.mem_filter.mpr ⟨List.mem_of_getElem? (i := 616) (by decide +kernel), rfl⟩
theorem t_591 : (Cond.instanceMethod y_Part_init) ∈ wt := List.mem_filter.mpr ⟨List.mem_of_getElem? (i := 617) (by decide +kernel), rfl⟩
set_option maxRecDepth 20000 in
theorem t_592 : (Cond.code y_Part_init prog_3_method_1_code 4 none) ∈ wt := List.mem_filter.mpr ⟨List.mem_of_getElem? (i := 618) rfl, rfl⟩
theorem t_593 : (Cond.methodLink "SweptPaths$Part" 1 y_Obj_init) ∈ wt := List.mem_filter.mpr ⟨List.mem_of_getElem? (i := 619) (by decide +kernel), rfl⟩
theorem t_594 : (Cond.fieldLink "SweptPaths$Part" 7 "SweptPaths$Part" "turn" "I") ∈ wt := List.mem_filter.mpr ⟨List.mem_of_getElem? (i := 620) (by decide +kernel), rfl⟩
theorem t_595 : (Cond.fieldLink "SweptPaths" 179 "SweptPaths$Part" "turn" "I") ∈ wt := List.mem_filter.mpr ⟨List.mem_of_getElem? (i := 621) (by decide +kernel), rfl⟩
theorem t_596 : (Cond.fieldLink "SweptPaths$Part" 13 "SweptPaths$Part" "steps" "I") ∈ wt := List.mem_filter.mpr ⟨List.mem_of_getElem? (i := 622) (by decide +kernel), rfl⟩
theorem t_597 : (Cond.fieldLink "SweptPaths" 182 "SweptPaths$Part" "steps" "I") ∈ wt := List.mem_filter.mpr ⟨List.mem_of_getElem? (i := 623) (by decide +kernel), rfl⟩
theorem t_598 : (Cond.fieldLink "SweptPaths$Part" 16 "SweptPaths$Part" "forwards" "Z") ∈ wt := List.mem_filter.mpr ⟨List.mem_of_getElem? (i := 624) (by decide +kernel), rfl⟩
theorem t_599 : (Cond.fieldLink "SweptPaths" 183 "SweptPaths$Part" "forwards" "Z") ∈ wt := List.mem_filter.mpr ⟨List.mem_of_getElem? (i := 625) (by decide +kernel), rfl⟩
theorem t_600 : (Cond.laysFinal "SweptPaths$Part" "SweptPaths$Part" "turn" "I") ∈ wt := List.mem_filter.mpr ⟨List.mem_of_getElem? (i := 626) (by decide +kernel), rfl⟩
theorem t_601 : (Cond.soleField "SweptPaths$Part" "turn") ∈ wt := List.mem_filter.mpr ⟨List.mem_of_getElem? (i := 627) (by decide +kernel), rfl⟩
theorem t_602 : (Cond.laysFinal "SweptPaths$Part" "SweptPaths$Part" "steps" "I") ∈ wt := List.mem_filter.mpr ⟨List.mem_of_getElem? (i := 628) (by decide +kernel), rfl⟩
theorem t_603 : (Cond.soleField "SweptPaths$Part" "steps") ∈ wt := List.mem_filter.mpr ⟨List.mem_of_getElem? (i := 629) (by decide +kernel), rfl⟩
theorem t_604 : (Cond.laysFinal "SweptPaths$Part" "SweptPaths$Part" "forwards" "Z") ∈ wt := List.mem_filter.mpr ⟨List.mem_of_getElem? (i := 630) (by decide +kernel), rfl⟩
theorem t_605 : (Cond.soleField "SweptPaths$Part" "forwards") ∈ wt := List.mem_filter.mpr ⟨List.mem_of_getElem? (i := 631) (by decide +kernel), rfl⟩
theorem t_606 : (Cond.superclass "SweptPaths$Part" "java/lang/Object") ∈ wt := List.mem_filter.mpr ⟨List.mem_of_getElem? (i := 632) (by decide +kernel), rfl⟩
theorem t_607 : (Cond.methodLink "SweptPathsLaw" 116 y_Law_clear) ∈ wt := List.mem_filter.mpr ⟨List.mem_of_getElem? (i := 633) (by decide +kernel), rfl⟩
theorem t_608 : (Cond.static y_Law_clear) ∈ wt := List.mem_filter.mpr ⟨List.mem_of_getElem? (i := 634) (by decide +kernel), rfl⟩
set_option maxRecDepth 20000 in
theorem t_609 : (Cond.codeWith y_Law_clear method_13_code 4 (some FieldType.int) [(0, 9, 12, 13)]) ∈ wt := List.mem_filter.mpr ⟨List.mem_of_getElem? (i := 635) rfl, rfl⟩
theorem t_610 : (Cond.methodLink "SweptPathsLaw" 51 y_SP_clear) ∈ wt := List.mem_filter.mpr ⟨List.mem_of_getElem? (i := 636) (by decide +kernel), rfl⟩
theorem t_611 : (Cond.instanceMethod y_SP_clear) ∈ wt := List.mem_filter.mpr ⟨List.mem_of_getElem? (i := 637) (by decide +kernel), rfl⟩
theorem t_612 : (Cond.selects "SweptPaths" y_SP_clear y_SP_clear) ∈ wt := List.mem_filter.mpr ⟨List.mem_of_getElem? (i := 638) (by decide +kernel), rfl⟩
set_option maxRecDepth 20000 in
theorem t_613 : (Cond.code y_SP_clear prog_1_method_21_code 4 (some FieldType.int)) ∈ wt := List.mem_filter.mpr ⟨List.mem_of_getElem? (i := 639) rfl, rfl⟩
theorem t_614 : (Cond.methodLink "SweptPaths" 176 y_AL_clear) ∈ wt := List.mem_filter.mpr ⟨List.mem_of_getElem? (i := 640) (by decide +kernel), rfl⟩
theorem t_615 : (Cond.instanceMethod y_AL_clear) ∈ wt := List.mem_filter.mpr ⟨List.mem_of_getElem? (i := 641) (by decide +kernel), rfl⟩
theorem t_616 : (Cond.selects "java/util/ArrayList" y_AL_clear y_AL_clear) ∈ wt := List.mem_filter.mpr ⟨List.mem_of_getElem? (i := 642) (by decide +kernel), rfl⟩
set_option maxRecDepth 20000 in
theorem t_617 : (Cond.code y_AL_clear prog_22_method_40_code 4 none) ∈ wt := List.mem_filter.mpr ⟨List.mem_of_getElem? (i := 643) rfl, rfl⟩
theorem t_618 : (Cond.methodLink "SweptPathsLaw" 119 y_Law_best) ∈ wt := List.mem_filter.mpr ⟨List.mem_of_getElem? (i := 644) (by decide +kernel), rfl⟩
theorem t_619 : (Cond.static y_Law_best) ∈ wt := List.mem_filter.mpr ⟨List.mem_of_getElem? (i := 645) (by decide +kernel), rfl⟩
set_option maxRecDepth 20000 in
theorem t_620 : (Cond.codeWith y_Law_best method_14_code 3 (some FieldType.int) [(0, 8, 11, 15)]) ∈ wt := List.mem_filter.mpr ⟨List.mem_of_getElem? (i := 646) rfl, rfl⟩
theorem t_621 : (Cond.methodLink "SweptPathsLaw" 54 y_SP_best) ∈ wt := List.mem_filter.mpr ⟨List.mem_of_getElem? (i := 647) (by decide +kernel), rfl⟩
theorem t_622 : (Cond.instanceMethod y_SP_best) ∈ wt := List.mem_filter.mpr ⟨List.mem_of_getElem? (i := 648) (by decide +kernel), rfl⟩
theorem t_623 : (Cond.selects "SweptPaths" y_SP_best y_SP_best) ∈ wt := List.mem_filter.mpr ⟨List.mem_of_getElem? (i := 649) (by decide +kernel), rfl⟩
set_option maxRecDepth 20000 in
theorem t_624 : (Cond.code y_SP_best prog_1_method_23_code 6 (some FieldType.int)) ∈ wt := List.mem_filter.mpr ⟨List.mem_of_getElem? (i := 650) rfl, rfl⟩
theorem t_625 : (Cond.methodLink "SweptPaths" 186 y_SP_gone) ∈ wt := List.mem_filter.mpr ⟨List.mem_of_getElem? (i := 651) (by decide +kernel), rfl⟩
theorem t_626 : (Cond.privateMethod y_SP_gone) ∈ wt := List.mem_filter.mpr ⟨List.mem_of_getElem? (i := 652) (by decide +kernel), rfl⟩
theorem t_627 : (Cond.instanceMethod y_SP_gone) ∈ wt := List.mem_filter.mpr ⟨List.mem_of_getElem? (i := 653) (by decide +kernel), rfl⟩
set_option maxRecDepth 20000 in
theorem t_628 : (Cond.code y_SP_gone prog_1_method_22_code 4 (some (FieldType.object "SweptPaths$Run"))) ∈ wt := List.mem_filter.mpr ⟨List.mem_of_getElem? (i := 654) rfl, rfl⟩
theorem t_629 : (Cond.methodLink "SweptPathsLaw" 123 y_Law_sweeps) ∈ wt := List.mem_filter.mpr ⟨List.mem_of_getElem? (i := 655) (by decide +kernel), rfl⟩
theorem t_630 : (Cond.static y_Law_sweeps) ∈ wt := List.mem_filter.mpr ⟨List.mem_of_getElem? (i := 656) (by decide +kernel), rfl⟩
set_option maxRecDepth 20000 in
theorem t_631 : (Cond.codeWith y_Law_sweeps method_15_code 4 (some FieldType.int) [(0, 9, 12, 13), (0, 9, 15, 15)]) ∈ wt := List.mem_filter.mpr ⟨List.mem_of_getElem? (i := 657) rfl, rfl⟩
theorem t_632 : (Cond.methodLink "SweptPathsLaw" 58 y_SP_sweeps) ∈ wt := List.mem_filter.mpr ⟨List.mem_of_getElem? (i := 658) (by decide +kernel), rfl⟩
theorem t_633 : (Cond.instanceMethod y_SP_sweeps) ∈ wt := List.mem_filter.mpr ⟨List.mem_of_getElem? (i := 659) (by decide +kernel), rfl⟩
theorem t_634 : (Cond.selects "SweptPaths" y_SP_sweeps y_SP_sweeps) ∈ wt := List.mem_filter.mpr ⟨List.mem_of_getElem? (i := 660) (by decide +kernel), rfl⟩
set_option maxRecDepth 20000 in
theorem t_635 : (Cond.code y_SP_sweeps prog_1_method_24_code 3 (some FieldType.int)) ∈ wt := List.mem_filter.mpr ⟨List.mem_of_getElem? (i := 661) rfl, rfl⟩
theorem t_636 : (Cond.classLink "SweptPathsLaw" 62 "SweptPathsModel") ∈ wt := List.mem_filter.mpr ⟨List.mem_of_getElem? (i := 662) (by decide +kernel), rfl⟩
theorem t_637 : (Cond.instantiable "SweptPathsModel" 33) ∈ wt := List.mem_filter.mpr ⟨List.mem_of_getElem? (i := 663) (by decide +kernel), rfl⟩
theorem t_638 : (Cond.methodLink "SweptPathsLaw" 64 y_Mo_init) ∈ wt := List.mem_filter.mpr ⟨List.mem_of_getElem? (i := 664) (by decide +kernel), rfl⟩
theorem t_639 : (Cond.instanceMethod y_Mo_init) ∈ wt := List.mem_filter.mpr ⟨List.mem_of_getElem? (i := 665) (by decide +kernel), rfl⟩
set_option maxRecDepth 20000 in
theorem t_640 : (Cond.code y_Mo_init prog_7_method_1_code 1 none) ∈ wt := List.mem_filter.mpr ⟨List.mem_of_getElem? (i := 666) rfl, rfl⟩
theorem t_641 : (Cond.methodLink "SweptPathsModel" 1 y_Obj_init) ∈ wt := List.mem_filter.mpr ⟨List.mem_of_getElem? (i := 667) (by decide +kernel), rfl⟩
theorem t_642 : (Cond.fieldLink "SweptPathsModel" 87 "SweptPathsModel" "thrown" "I") ∈ wt := List.mem_filter.mpr ⟨List.mem_of_getElem? (i := 668) (by decide +kernel), rfl⟩
theorem t_643 : (Cond.fieldLink "SweptPathsModel" 7 "SweptPathsModel" "cosines" "[I") ∈ wt := List.mem_filter.mpr ⟨List.mem_of_getElem? (i := 669) (by decide +kernel), rfl⟩
theorem t_644 : (Cond.fieldLink "SweptPathsModel" 84 "SweptPathsModel" "bodies" "I") ∈ wt := List.mem_filter.mpr ⟨List.mem_of_getElem? (i := 670) (by decide +kernel), rfl⟩
theorem t_645 : (Cond.fieldLink "SweptPathsModel" 13 "SweptPathsModel" "lengths" "[I") ∈ wt := List.mem_filter.mpr ⟨List.mem_of_getElem? (i := 671) (by decide +kernel), rfl⟩
theorem t_646 : (Cond.fieldLink "SweptPathsModel" 16 "SweptPathsModel" "hitches" "[I") ∈ wt := List.mem_filter.mpr ⟨List.mem_of_getElem? (i := 672) (by decide +kernel), rfl⟩
theorem t_647 : (Cond.fieldLink "SweptPathsModel" 19 "SweptPathsModel" "fronts" "[I") ∈ wt := List.mem_filter.mpr ⟨List.mem_of_getElem? (i := 673) (by decide +kernel), rfl⟩
theorem t_648 : (Cond.fieldLink "SweptPathsModel" 22 "SweptPathsModel" "rears" "[I") ∈ wt := List.mem_filter.mpr ⟨List.mem_of_getElem? (i := 674) (by decide +kernel), rfl⟩
theorem t_649 : (Cond.fieldLink "SweptPathsModel" 25 "SweptPathsModel" "halves" "[I") ∈ wt := List.mem_filter.mpr ⟨List.mem_of_getElem? (i := 675) (by decide +kernel), rfl⟩
theorem t_650 : (Cond.fieldLink "SweptPathsModel" 129 "SweptPathsModel" "startX" "I") ∈ wt := List.mem_filter.mpr ⟨List.mem_of_getElem? (i := 676) (by decide +kernel), rfl⟩
theorem t_651 : (Cond.fieldLink "SweptPathsModel" 132 "SweptPathsModel" "startY" "I") ∈ wt := List.mem_filter.mpr ⟨List.mem_of_getElem? (i := 677) (by decide +kernel), rfl⟩
theorem t_652 : (Cond.fieldLink "SweptPathsModel" 135 "SweptPathsModel" "startHeading" "I") ∈ wt := List.mem_filter.mpr ⟨List.mem_of_getElem? (i := 678) (by decide +kernel), rfl⟩
theorem t_653 : (Cond.fieldLink "SweptPathsModel" 28 "SweptPathsModel" "stepLength" "I") ∈ wt := List.mem_filter.mpr ⟨List.mem_of_getElem? (i := 679) (by decide +kernel), rfl⟩
theorem t_654 : (Cond.fieldLink "SweptPathsModel" 119 "SweptPathsModel" "poles" "I") ∈ wt := List.mem_filter.mpr ⟨List.mem_of_getElem? (i := 680) (by decide +kernel), rfl⟩
theorem t_655 : (Cond.fieldLink "SweptPathsModel" 32 "SweptPathsModel" "poleX" "[I") ∈ wt := List.mem_filter.mpr ⟨List.mem_of_getElem? (i := 681) (by decide +kernel), rfl⟩
theorem t_656 : (Cond.fieldLink "SweptPathsModel" 35 "SweptPathsModel" "poleY" "[I") ∈ wt := List.mem_filter.mpr ⟨List.mem_of_getElem? (i := 682) (by decide +kernel), rfl⟩
theorem t_657 : (Cond.fieldLink "SweptPathsModel" 38 "SweptPathsModel" "many" "[I") ∈ wt := List.mem_filter.mpr ⟨List.mem_of_getElem? (i := 683) (by decide +kernel), rfl⟩
theorem t_658 : (Cond.fieldLink "SweptPathsModel" 41 "SweptPathsModel" "turns" "[I") ∈ wt := List.mem_filter.mpr ⟨List.mem_of_getElem? (i := 684) (by decide +kernel), rfl⟩
theorem t_659 : (Cond.fieldLink "SweptPathsModel" 44 "SweptPathsModel" "counts" "[I") ∈ wt := List.mem_filter.mpr ⟨List.mem_of_getElem? (i := 685) (by decide +kernel), rfl⟩
theorem t_660 : (Cond.fieldLink "SweptPathsModel" 47 "SweptPathsModel" "ways" "[Z") ∈ wt := List.mem_filter.mpr ⟨List.mem_of_getElem? (i := 686) (by decide +kernel), rfl⟩
theorem t_661 : (Cond.fieldLink "SweptPathsModel" 51 "SweptPathsModel" "xs" "[I") ∈ wt := List.mem_filter.mpr ⟨List.mem_of_getElem? (i := 687) (by decide +kernel), rfl⟩
theorem t_662 : (Cond.fieldLink "SweptPathsModel" 54 "SweptPathsModel" "ys" "[I") ∈ wt := List.mem_filter.mpr ⟨List.mem_of_getElem? (i := 688) (by decide +kernel), rfl⟩
theorem t_663 : (Cond.fieldLink "SweptPathsModel" 57 "SweptPathsModel" "headings" "[I") ∈ wt := List.mem_filter.mpr ⟨List.mem_of_getElem? (i := 689) (by decide +kernel), rfl⟩
theorem t_664 : (Cond.fieldLink "SweptPathsModel" 60 "SweptPathsModel" "rests" "[I") ∈ wt := List.mem_filter.mpr ⟨List.mem_of_getElem? (i := 690) (by decide +kernel), rfl⟩
theorem t_665 : (Cond.fieldLink "SweptPathsModel" 63 "SweptPathsModel" "greatest" "[I") ∈ wt := List.mem_filter.mpr ⟨List.mem_of_getElem? (i := 691) (by decide +kernel), rfl⟩
theorem t_666 : (Cond.fieldLink "SweptPathsModel" 122 "SweptPathsModel" "made" "I") ∈ wt := List.mem_filter.mpr ⟨List.mem_of_getElem? (i := 692) (by decide +kernel), rfl⟩
theorem t_667 : (Cond.fieldLink "SweptPathsModel" 125 "SweptPathsModel" "stuck" "Z") ∈ wt := List.mem_filter.mpr ⟨List.mem_of_getElem? (i := 693) (by decide +kernel), rfl⟩
theorem t_668 : (Cond.fieldLink "SweptPathsModel" 66 "SweptPathsModel" "clashStep" "I") ∈ wt := List.mem_filter.mpr ⟨List.mem_of_getElem? (i := 694) (by decide +kernel), rfl⟩
theorem t_669 : (Cond.fieldLink "SweptPathsModel" 69 "SweptPathsModel" "clashBody" "I") ∈ wt := List.mem_filter.mpr ⟨List.mem_of_getElem? (i := 695) (by decide +kernel), rfl⟩
theorem t_670 : (Cond.fieldLink "SweptPathsModel" 72 "SweptPathsModel" "clashPole" "I") ∈ wt := List.mem_filter.mpr ⟨List.mem_of_getElem? (i := 696) (by decide +kernel), rfl⟩
theorem t_671 : (Cond.fieldLink "SweptPathsModel" 116 "SweptPathsModel" "cells" "I") ∈ wt := List.mem_filter.mpr ⟨List.mem_of_getElem? (i := 697) (by decide +kernel), rfl⟩
theorem t_672 : (Cond.fieldLink "SweptPathsModel" 75 "SweptPathsModel" "swept" "[Z") ∈ wt := List.mem_filter.mpr ⟨List.mem_of_getElem? (i := 698) (by decide +kernel), rfl⟩
theorem t_673 : (Cond.fieldLink "SweptPathsModel" 78 "SweptPathsModel" "asideNumbers" "[I") ∈ wt := List.mem_filter.mpr ⟨List.mem_of_getElem? (i := 699) (by decide +kernel), rfl⟩
theorem t_674 : (Cond.fieldLink "SweptPathsModel" 81 "SweptPathsModel" "asideCells" "[Z") ∈ wt := List.mem_filter.mpr ⟨List.mem_of_getElem? (i := 700) (by decide +kernel), rfl⟩
theorem t_675 : (Cond.lays "SweptPathsModel" "SweptPathsModel" "thrown" "I") ∈ wt := List.mem_filter.mpr ⟨List.mem_of_getElem? (i := 701) (by decide +kernel), rfl⟩
theorem t_676 : (Cond.soleField "SweptPathsModel" "thrown") ∈ wt := List.mem_filter.mpr ⟨List.mem_of_getElem? (i := 702) (by decide +kernel), rfl⟩
theorem t_677 : (Cond.laysFinal "SweptPathsModel" "SweptPathsModel" "cosines" "[I") ∈ wt := List.mem_filter.mpr ⟨List.mem_of_getElem? (i := 703) (by decide +kernel), rfl⟩
theorem t_678 : (Cond.soleField "SweptPathsModel" "cosines") ∈ wt := List.mem_filter.mpr ⟨List.mem_of_getElem? (i := 704) (by decide +kernel), rfl⟩
theorem t_679 : (Cond.lays "SweptPathsModel" "SweptPathsModel" "bodies" "I") ∈ wt := List.mem_filter.mpr ⟨List.mem_of_getElem? (i := 705) (by decide +kernel), rfl⟩
theorem t_680 : (Cond.soleField "SweptPathsModel" "bodies") ∈ wt := List.mem_filter.mpr ⟨List.mem_of_getElem? (i := 706) (by decide +kernel), rfl⟩
theorem t_681 : (Cond.laysFinal "SweptPathsModel" "SweptPathsModel" "lengths" "[I") ∈ wt := List.mem_filter.mpr ⟨List.mem_of_getElem? (i := 707) (by decide +kernel), rfl⟩
theorem t_682 : (Cond.soleField "SweptPathsModel" "lengths") ∈ wt := List.mem_filter.mpr ⟨List.mem_of_getElem? (i := 708) (by decide +kernel), rfl⟩
theorem t_683 : (Cond.laysFinal "SweptPathsModel" "SweptPathsModel" "hitches" "[I") ∈ wt := List.mem_filter.mpr ⟨List.mem_of_getElem? (i := 709) (by decide +kernel), rfl⟩
theorem t_684 : (Cond.soleField "SweptPathsModel" "hitches") ∈ wt := List.mem_filter.mpr ⟨List.mem_of_getElem? (i := 710) (by decide +kernel), rfl⟩
theorem t_685 : (Cond.laysFinal "SweptPathsModel" "SweptPathsModel" "fronts" "[I") ∈ wt := List.mem_filter.mpr ⟨List.mem_of_getElem? (i := 711) (by decide +kernel), rfl⟩
theorem t_686 : (Cond.soleField "SweptPathsModel" "fronts") ∈ wt := List.mem_filter.mpr ⟨List.mem_of_getElem? (i := 712) (by decide +kernel), rfl⟩
theorem t_687 : (Cond.laysFinal "SweptPathsModel" "SweptPathsModel" "rears" "[I") ∈ wt := List.mem_filter.mpr ⟨List.mem_of_getElem? (i := 713) (by decide +kernel), rfl⟩
theorem t_688 : (Cond.soleField "SweptPathsModel" "rears") ∈ wt := List.mem_filter.mpr ⟨List.mem_of_getElem? (i := 714) (by decide +kernel), rfl⟩
theorem t_689 : (Cond.laysFinal "SweptPathsModel" "SweptPathsModel" "halves" "[I") ∈ wt := List.mem_filter.mpr ⟨List.mem_of_getElem? (i := 715) (by decide +kernel), rfl⟩
theorem t_690 : (Cond.soleField "SweptPathsModel" "halves") ∈ wt := List.mem_filter.mpr ⟨List.mem_of_getElem? (i := 716) (by decide +kernel), rfl⟩
theorem t_691 : (Cond.lays "SweptPathsModel" "SweptPathsModel" "startX" "I") ∈ wt := List.mem_filter.mpr ⟨List.mem_of_getElem? (i := 717) (by decide +kernel), rfl⟩
theorem t_692 : (Cond.soleField "SweptPathsModel" "startX") ∈ wt := List.mem_filter.mpr ⟨List.mem_of_getElem? (i := 718) (by decide +kernel), rfl⟩
theorem t_693 : (Cond.lays "SweptPathsModel" "SweptPathsModel" "startY" "I") ∈ wt := List.mem_filter.mpr ⟨List.mem_of_getElem? (i := 719) (by decide +kernel), rfl⟩
theorem t_694 : (Cond.soleField "SweptPathsModel" "startY") ∈ wt := List.mem_filter.mpr ⟨List.mem_of_getElem? (i := 720) (by decide +kernel), rfl⟩
theorem t_695 : (Cond.lays "SweptPathsModel" "SweptPathsModel" "startHeading" "I") ∈ wt := List.mem_filter.mpr ⟨List.mem_of_getElem? (i := 721) (by decide +kernel), rfl⟩
theorem t_696 : (Cond.soleField "SweptPathsModel" "startHeading") ∈ wt := List.mem_filter.mpr ⟨List.mem_of_getElem? (i := 722) (by decide +kernel), rfl⟩
theorem t_697 : (Cond.lays "SweptPathsModel" "SweptPathsModel" "stepLength" "I") ∈ wt := List.mem_filter.mpr ⟨List.mem_of_getElem? (i := 723) (by decide +kernel), rfl⟩
theorem t_698 : (Cond.soleField "SweptPathsModel" "stepLength") ∈ wt := List.mem_filter.mpr ⟨List.mem_of_getElem? (i := 724) (by decide +kernel), rfl⟩
theorem t_699 : (Cond.lays "SweptPathsModel" "SweptPathsModel" "poles" "I") ∈ wt := List.mem_filter.mpr ⟨List.mem_of_getElem? (i := 725) (by decide +kernel), rfl⟩
theorem t_700 : (Cond.soleField "SweptPathsModel" "poles") ∈ wt := List.mem_filter.mpr ⟨List.mem_of_getElem? (i := 726) (by decide +kernel), rfl⟩
theorem t_701 : (Cond.laysFinal "SweptPathsModel" "SweptPathsModel" "poleX" "[I") ∈ wt := List.mem_filter.mpr ⟨List.mem_of_getElem? (i := 727) (by decide +kernel), rfl⟩
theorem t_702 : (Cond.soleField "SweptPathsModel" "poleX") ∈ wt := List.mem_filter.mpr ⟨List.mem_of_getElem? (i := 728) (by decide +kernel), rfl⟩
theorem t_703 : (Cond.laysFinal "SweptPathsModel" "SweptPathsModel" "poleY" "[I") ∈ wt := List.mem_filter.mpr ⟨List.mem_of_getElem? (i := 729) (by decide +kernel), rfl⟩
theorem t_704 : (Cond.soleField "SweptPathsModel" "poleY") ∈ wt := List.mem_filter.mpr ⟨List.mem_of_getElem? (i := 730) (by decide +kernel), rfl⟩
theorem t_705 : (Cond.laysFinal "SweptPathsModel" "SweptPathsModel" "many" "[I") ∈ wt := List.mem_filter.mpr ⟨List.mem_of_getElem? (i := 731) (by decide +kernel), rfl⟩
theorem t_706 : (Cond.soleField "SweptPathsModel" "many") ∈ wt := List.mem_filter.mpr ⟨List.mem_of_getElem? (i := 732) (by decide +kernel), rfl⟩
theorem t_707 : (Cond.laysFinal "SweptPathsModel" "SweptPathsModel" "turns" "[I") ∈ wt := List.mem_filter.mpr ⟨List.mem_of_getElem? (i := 733) (by decide +kernel), rfl⟩
theorem t_708 : (Cond.soleField "SweptPathsModel" "turns") ∈ wt := List.mem_filter.mpr ⟨List.mem_of_getElem? (i := 734) (by decide +kernel), rfl⟩
theorem t_709 : (Cond.laysFinal "SweptPathsModel" "SweptPathsModel" "counts" "[I") ∈ wt := List.mem_filter.mpr ⟨List.mem_of_getElem? (i := 735) (by decide +kernel), rfl⟩
theorem t_710 : (Cond.soleField "SweptPathsModel" "counts") ∈ wt := List.mem_filter.mpr ⟨List.mem_of_getElem? (i := 736) (by decide +kernel), rfl⟩
theorem t_711 : (Cond.laysFinal "SweptPathsModel" "SweptPathsModel" "ways" "[Z") ∈ wt := List.mem_filter.mpr ⟨List.mem_of_getElem? (i := 737) (by decide +kernel), rfl⟩
theorem t_712 : (Cond.soleField "SweptPathsModel" "ways") ∈ wt := List.mem_filter.mpr ⟨List.mem_of_getElem? (i := 738) (by decide +kernel), rfl⟩
theorem t_713 : (Cond.laysFinal "SweptPathsModel" "SweptPathsModel" "xs" "[I") ∈ wt := List.mem_filter.mpr ⟨List.mem_of_getElem? (i := 739) (by decide +kernel), rfl⟩
theorem t_714 : (Cond.soleField "SweptPathsModel" "xs") ∈ wt := List.mem_filter.mpr ⟨List.mem_of_getElem? (i := 740) (by decide +kernel), rfl⟩
theorem t_715 : (Cond.laysFinal "SweptPathsModel" "SweptPathsModel" "ys" "[I") ∈ wt := List.mem_filter.mpr ⟨List.mem_of_getElem? (i := 741) (by decide +kernel), rfl⟩
theorem t_716 : (Cond.soleField "SweptPathsModel" "ys") ∈ wt := List.mem_filter.mpr ⟨List.mem_of_getElem? (i := 742) (by decide +kernel), rfl⟩
theorem t_717 : (Cond.laysFinal "SweptPathsModel" "SweptPathsModel" "headings" "[I") ∈ wt := List.mem_filter.mpr ⟨List.mem_of_getElem? (i := 743) (by decide +kernel), rfl⟩
theorem t_718 : (Cond.soleField "SweptPathsModel" "headings") ∈ wt := List.mem_filter.mpr ⟨List.mem_of_getElem? (i := 744) (by decide +kernel), rfl⟩
theorem t_719 : (Cond.laysFinal "SweptPathsModel" "SweptPathsModel" "rests" "[I") ∈ wt := List.mem_filter.mpr ⟨List.mem_of_getElem? (i := 745) (by decide +kernel), rfl⟩
theorem t_720 : (Cond.soleField "SweptPathsModel" "rests") ∈ wt := List.mem_filter.mpr ⟨List.mem_of_getElem? (i := 746) (by decide +kernel), rfl⟩
theorem t_721 : (Cond.laysFinal "SweptPathsModel" "SweptPathsModel" "greatest" "[I") ∈ wt := List.mem_filter.mpr ⟨List.mem_of_getElem? (i := 747) (by decide +kernel), rfl⟩
theorem t_722 : (Cond.soleField "SweptPathsModel" "greatest") ∈ wt := List.mem_filter.mpr ⟨List.mem_of_getElem? (i := 748) (by decide +kernel), rfl⟩
theorem t_723 : (Cond.lays "SweptPathsModel" "SweptPathsModel" "made" "I") ∈ wt := List.mem_filter.mpr ⟨List.mem_of_getElem? (i := 749) (by decide +kernel), rfl⟩
theorem t_724 : (Cond.soleField "SweptPathsModel" "made") ∈ wt := List.mem_filter.mpr ⟨List.mem_of_getElem? (i := 750) (by decide +kernel), rfl⟩
theorem t_725 : (Cond.lays "SweptPathsModel" "SweptPathsModel" "stuck" "Z") ∈ wt := List.mem_filter.mpr ⟨List.mem_of_getElem? (i := 751) (by decide +kernel), rfl⟩
theorem t_726 : (Cond.soleField "SweptPathsModel" "stuck") ∈ wt := List.mem_filter.mpr ⟨List.mem_of_getElem? (i := 752) (by decide +kernel), rfl⟩
theorem t_727 : (Cond.lays "SweptPathsModel" "SweptPathsModel" "clashStep" "I") ∈ wt := List.mem_filter.mpr ⟨List.mem_of_getElem? (i := 753) (by decide +kernel), rfl⟩
theorem t_728 : (Cond.soleField "SweptPathsModel" "clashStep") ∈ wt := List.mem_filter.mpr ⟨List.mem_of_getElem? (i := 754) (by decide +kernel), rfl⟩
theorem t_729 : (Cond.lays "SweptPathsModel" "SweptPathsModel" "clashBody" "I") ∈ wt := List.mem_filter.mpr ⟨List.mem_of_getElem? (i := 755) (by decide +kernel), rfl⟩
theorem t_730 : (Cond.soleField "SweptPathsModel" "clashBody") ∈ wt := List.mem_filter.mpr ⟨List.mem_of_getElem? (i := 756) (by decide +kernel), rfl⟩
theorem t_731 : (Cond.lays "SweptPathsModel" "SweptPathsModel" "clashPole" "I") ∈ wt := List.mem_filter.mpr ⟨List.mem_of_getElem? (i := 757) (by decide +kernel), rfl⟩
theorem t_732 : (Cond.soleField "SweptPathsModel" "clashPole") ∈ wt := List.mem_filter.mpr ⟨List.mem_of_getElem? (i := 758) (by decide +kernel), rfl⟩
theorem t_733 : (Cond.lays "SweptPathsModel" "SweptPathsModel" "cells" "I") ∈ wt := List.mem_filter.mpr ⟨List.mem_of_getElem? (i := 759) (by decide +kernel), rfl⟩
theorem t_734 : (Cond.soleField "SweptPathsModel" "cells") ∈ wt := List.mem_filter.mpr ⟨List.mem_of_getElem? (i := 760) (by decide +kernel), rfl⟩
theorem t_735 : (Cond.laysFinal "SweptPathsModel" "SweptPathsModel" "swept" "[Z") ∈ wt := List.mem_filter.mpr ⟨List.mem_of_getElem? (i := 761) (by decide +kernel), rfl⟩
theorem t_736 : (Cond.soleField "SweptPathsModel" "swept") ∈ wt := List.mem_filter.mpr ⟨List.mem_of_getElem? (i := 762) (by decide +kernel), rfl⟩
theorem t_737 : (Cond.laysFinal "SweptPathsModel" "SweptPathsModel" "asideNumbers" "[I") ∈ wt := List.mem_filter.mpr ⟨List.mem_of_getElem? (i := 763) (by decide +kernel), rfl⟩
theorem t_738 : (Cond.soleField "SweptPathsModel" "asideNumbers") ∈ wt := List.mem_filter.mpr ⟨List.mem_of_getElem? (i := 764) (by decide +kernel), rfl⟩
theorem t_739 : (Cond.laysFinal "SweptPathsModel" "SweptPathsModel" "asideCells" "[Z") ∈ wt := List.mem_filter.mpr ⟨List.mem_of_getElem? (i := 765) (by decide +kernel), rfl⟩
theorem t_740 : (Cond.soleField "SweptPathsModel" "asideCells") ∈ wt := List.mem_filter.mpr ⟨List.mem_of_getElem? (i := 766) (by decide +kernel), rfl⟩
theorem t_741 : (Cond.superclass "SweptPathsModel" "java/lang/Object") ∈ wt := List.mem_filter.mpr ⟨List.mem_of_getElem? (i := 767) (by decide +kernel), rfl⟩
theorem t_742 : (Cond.arrayClass FieldType.boolean) ∈ wt := List.mem_filter.mpr ⟨List.mem_of_getElem? (i := 768) (by decide +kernel), rfl⟩
theorem t_743 : (Cond.methodLink "SweptPathsLaw" 71 y_Mo_thrown) ∈ wt := List.mem_filter.mpr ⟨List.mem_of_getElem? (i := 769) (by decide +kernel), rfl⟩
theorem t_744 : (Cond.instanceMethod y_Mo_thrown) ∈ wt := List.mem_filter.mpr ⟨List.mem_of_getElem? (i := 770) (by decide +kernel), rfl⟩
theorem t_745 : (Cond.selects "SweptPathsModel" y_Mo_thrown y_Mo_thrown) ∈ wt := List.mem_filter.mpr ⟨List.mem_of_getElem? (i := 771) (by decide +kernel), rfl⟩
set_option maxRecDepth 20000 in
theorem t_746 : (Cond.code y_Mo_thrown prog_7_method_2_code 1 (some FieldType.int)) ∈ wt := List.mem_filter.mpr ⟨List.mem_of_getElem? (i := 772) rfl, rfl⟩
theorem t_747 : (Cond.methodLink "SweptPathsLaw" 70 y_Mo_body) ∈ wt := List.mem_filter.mpr ⟨List.mem_of_getElem? (i := 773) (by decide +kernel), rfl⟩
theorem t_748 : (Cond.instanceMethod y_Mo_body) ∈ wt := List.mem_filter.mpr ⟨List.mem_of_getElem? (i := 774) (by decide +kernel), rfl⟩
theorem t_749 : (Cond.selects "SweptPathsModel" y_Mo_body y_Mo_body) ∈ wt := List.mem_filter.mpr ⟨List.mem_of_getElem? (i := 775) (by decide +kernel), rfl⟩
set_option maxRecDepth 20000 in
theorem t_750 : (Cond.code y_Mo_body prog_7_method_17_code 7 (some FieldType.int)) ∈ wt := List.mem_filter.mpr ⟨List.mem_of_getElem? (i := 776) rfl, rfl⟩
theorem t_751 : (Cond.methodLink "SweptPathsModel" 152 y_Mo_in) ∈ wt := List.mem_filter.mpr ⟨List.mem_of_getElem? (i := 777) (by decide +kernel), rfl⟩
theorem t_752 : (Cond.static y_Mo_in) ∈ wt := List.mem_filter.mpr ⟨List.mem_of_getElem? (i := 778) (by decide +kernel), rfl⟩
set_option maxRecDepth 20000 in
theorem t_753 : (Cond.code y_Mo_in prog_7_method_3_code 3 (some FieldType.boolean)) ∈ wt := List.mem_filter.mpr ⟨List.mem_of_getElem? (i := 779) rfl, rfl⟩
theorem t_754 : (Cond.methodLink "SweptPathsModel" 155 y_Mo_beginAnew) ∈ wt := List.mem_filter.mpr ⟨List.mem_of_getElem? (i := 780) (by decide +kernel), rfl⟩
theorem t_755 : (Cond.privateMethod y_Mo_beginAnew) ∈ wt := List.mem_filter.mpr ⟨List.mem_of_getElem? (i := 781) (by decide +kernel), rfl⟩
theorem t_756 : (Cond.instanceMethod y_Mo_beginAnew) ∈ wt := List.mem_filter.mpr ⟨List.mem_of_getElem? (i := 782) (by decide +kernel), rfl⟩
set_option maxRecDepth 20000 in
theorem t_757 : (Cond.code y_Mo_beginAnew prog_7_method_14_code 2 none) ∈ wt := List.mem_filter.mpr ⟨List.mem_of_getElem? (i := 783) rfl, rfl⟩
theorem t_758 : (Cond.methodLink "SweptPathsModel" 138 y_Mo_hang) ∈ wt := List.mem_filter.mpr ⟨List.mem_of_getElem? (i := 784) (by decide +kernel), rfl⟩
theorem t_759 : (Cond.privateMethod y_Mo_hang) ∈ wt := List.mem_filter.mpr ⟨List.mem_of_getElem? (i := 785) (by decide +kernel), rfl⟩
theorem t_760 : (Cond.instanceMethod y_Mo_hang) ∈ wt := List.mem_filter.mpr ⟨List.mem_of_getElem? (i := 786) (by decide +kernel), rfl⟩
set_option maxRecDepth 20000 in
theorem t_761 : (Cond.code y_Mo_hang prog_7_method_8_code 3 none) ∈ wt := List.mem_filter.mpr ⟨List.mem_of_getElem? (i := 787) rfl, rfl⟩
theorem t_762 : (Cond.methodLink "SweptPathsModel" 90 y_Mo_dx) ∈ wt := List.mem_filter.mpr ⟨List.mem_of_getElem? (i := 788) (by decide +kernel), rfl⟩
theorem t_763 : (Cond.privateMethod y_Mo_dx) ∈ wt := List.mem_filter.mpr ⟨List.mem_of_getElem? (i := 789) (by decide +kernel), rfl⟩
theorem t_764 : (Cond.instanceMethod y_Mo_dx) ∈ wt := List.mem_filter.mpr ⟨List.mem_of_getElem? (i := 790) (by decide +kernel), rfl⟩
set_option maxRecDepth 20000 in
theorem t_765 : (Cond.code y_Mo_dx prog_7_method_4_code 3 (some FieldType.int)) ∈ wt := List.mem_filter.mpr ⟨List.mem_of_getElem? (i := 791) rfl, rfl⟩
theorem t_766 : (Cond.methodLink "SweptPathsModel" 97 y_Mo_dy) ∈ wt := List.mem_filter.mpr ⟨List.mem_of_getElem? (i := 792) (by decide +kernel), rfl⟩
theorem t_767 : (Cond.privateMethod y_Mo_dy) ∈ wt := List.mem_filter.mpr ⟨List.mem_of_getElem? (i := 793) (by decide +kernel), rfl⟩
theorem t_768 : (Cond.instanceMethod y_Mo_dy) ∈ wt := List.mem_filter.mpr ⟨List.mem_of_getElem? (i := 794) (by decide +kernel), rfl⟩
set_option maxRecDepth 20000 in
theorem t_769 : (Cond.code y_Mo_dy prog_7_method_5_code 2 (some FieldType.int)) ∈ wt := List.mem_filter.mpr ⟨List.mem_of_getElem? (i := 795) rfl, rfl⟩
theorem t_770 : (Cond.methodLink "SweptPathsModel" 142 y_Mo_look) ∈ wt := List.mem_filter.mpr ⟨List.mem_of_getElem? (i := 796) (by decide +kernel), rfl⟩
theorem t_771 : (Cond.privateMethod y_Mo_look) ∈ wt := List.mem_filter.mpr ⟨List.mem_of_getElem? (i := 797) (by decide +kernel), rfl⟩
theorem t_772 : (Cond.instanceMethod y_Mo_look) ∈ wt := List.mem_filter.mpr ⟨List.mem_of_getElem? (i := 798) (by decide +kernel), rfl⟩
set_option maxRecDepth 20000 in
theorem t_773 : (Cond.code y_Mo_look prog_7_method_13_code 9 none) ∈ wt := List.mem_filter.mpr ⟨List.mem_of_getElem? (i := 799) rfl, rfl⟩
theorem t_774 : (Cond.methodLink "SweptPathsModel" 106 y_Mo_cellOf) ∈ wt := List.mem_filter.mpr ⟨List.mem_of_getElem? (i := 800) (by decide +kernel), rfl⟩
theorem t_775 : (Cond.static y_Mo_cellOf) ∈ wt := List.mem_filter.mpr ⟨List.mem_of_getElem? (i := 801) (by decide +kernel), rfl⟩
set_option maxRecDepth 20000 in
theorem t_776 : (Cond.code y_Mo_cellOf prog_7_method_10_code 2 (some FieldType.int)) ∈ wt := List.mem_filter.mpr ⟨List.mem_of_getElem? (i := 802) rfl, rfl⟩
theorem t_777 : (Cond.methodLink "SweptPathsModel" 102 y_Mo_down) ∈ wt := List.mem_filter.mpr ⟨List.mem_of_getElem? (i := 803) (by decide +kernel), rfl⟩
theorem t_778 : (Cond.static y_Mo_down) ∈ wt := List.mem_filter.mpr ⟨List.mem_of_getElem? (i := 804) (by decide +kernel), rfl⟩
set_option maxRecDepth 20000 in
theorem t_779 : (Cond.code y_Mo_down prog_7_method_11_code 3 (some FieldType.int)) ∈ wt := List.mem_filter.mpr ⟨List.mem_of_getElem? (i := 805) rfl, rfl⟩
theorem t_780 : (Cond.methodLink "SweptPathsModel" 109 y_Mo_within) ∈ wt := List.mem_filter.mpr ⟨List.mem_of_getElem? (i := 806) (by decide +kernel), rfl⟩
theorem t_781 : (Cond.static y_Mo_within) ∈ wt := List.mem_filter.mpr ⟨List.mem_of_getElem? (i := 807) (by decide +kernel), rfl⟩
set_option maxRecDepth 20000 in
theorem t_782 : (Cond.code y_Mo_within prog_7_method_12_code 1 (some FieldType.int)) ∈ wt := List.mem_filter.mpr ⟨List.mem_of_getElem? (i := 808) rfl, rfl⟩
theorem t_783 : (Cond.methodLink "SweptPathsModel" 112 y_Mo_covers) ∈ wt := List.mem_filter.mpr ⟨List.mem_of_getElem? (i := 809) (by decide +kernel), rfl⟩
theorem t_784 : (Cond.privateMethod y_Mo_covers) ∈ wt := List.mem_filter.mpr ⟨List.mem_of_getElem? (i := 810) (by decide +kernel), rfl⟩
theorem t_785 : (Cond.instanceMethod y_Mo_covers) ∈ wt := List.mem_filter.mpr ⟨List.mem_of_getElem? (i := 811) (by decide +kernel), rfl⟩
set_option maxRecDepth 20000 in
theorem t_786 : (Cond.code y_Mo_covers prog_7_method_9_code 16 (some FieldType.boolean)) ∈ wt := List.mem_filter.mpr ⟨List.mem_of_getElem? (i := 812) rfl, rfl⟩
theorem t_787 : (Cond.constantLong "SweptPathsModel" 100 (16777216 : Int64)) ∈ wt := List.mem_filter.mpr ⟨List.mem_of_getElem? (i := 813) (by decide +kernel), rfl⟩
theorem t_788 : (Cond.methodLink "SweptPathsLaw" 77 y_Mo_start) ∈ wt := List.mem_filter.mpr ⟨List.mem_of_getElem? (i := 814) (by decide +kernel), rfl⟩
theorem t_789 : (Cond.instanceMethod y_Mo_start) ∈ wt := List.mem_filter.mpr ⟨List.mem_of_getElem? (i := 815) (by decide +kernel), rfl⟩
theorem t_790 : (Cond.selects "SweptPathsModel" y_Mo_start y_Mo_start) ∈ wt := List.mem_filter.mpr ⟨List.mem_of_getElem? (i := 816) (by decide +kernel), rfl⟩
set_option maxRecDepth 20000 in
theorem t_791 : (Cond.code y_Mo_start prog_7_method_18_code 4 none) ∈ wt := List.mem_filter.mpr ⟨List.mem_of_getElem? (i := 817) rfl, rfl⟩
theorem t_792 : (Cond.methodLink "SweptPathsLaw" 81 y_Mo_step) ∈ wt := List.mem_filter.mpr ⟨List.mem_of_getElem? (i := 818) (by decide +kernel), rfl⟩
theorem t_793 : (Cond.instanceMethod y_Mo_step) ∈ wt := List.mem_filter.mpr ⟨List.mem_of_getElem? (i := 819) (by decide +kernel), rfl⟩
theorem t_794 : (Cond.selects "SweptPathsModel" y_Mo_step y_Mo_step) ∈ wt := List.mem_filter.mpr ⟨List.mem_of_getElem? (i := 820) (by decide +kernel), rfl⟩
set_option maxRecDepth 20000 in
theorem t_795 : (Cond.code y_Mo_step prog_7_method_19_code 3 (some FieldType.int)) ∈ wt := List.mem_filter.mpr ⟨List.mem_of_getElem? (i := 821) rfl, rfl⟩
theorem t_796 : (Cond.methodLink "SweptPathsLaw" 85 y_Mo_pole) ∈ wt := List.mem_filter.mpr ⟨List.mem_of_getElem? (i := 822) (by decide +kernel), rfl⟩
theorem t_797 : (Cond.instanceMethod y_Mo_pole) ∈ wt := List.mem_filter.mpr ⟨List.mem_of_getElem? (i := 823) (by decide +kernel), rfl⟩
theorem t_798 : (Cond.selects "SweptPathsModel" y_Mo_pole y_Mo_pole) ∈ wt := List.mem_filter.mpr ⟨List.mem_of_getElem? (i := 824) (by decide +kernel), rfl⟩
set_option maxRecDepth 20000 in
theorem t_799 : (Cond.code y_Mo_pole prog_7_method_20_code 3 (some FieldType.int)) ∈ wt := List.mem_filter.mpr ⟨List.mem_of_getElem? (i := 825) rfl, rfl⟩
theorem t_800 : (Cond.methodLink "SweptPathsLaw" 89 y_Mo_go) ∈ wt := List.mem_filter.mpr ⟨List.mem_of_getElem? (i := 826) (by decide +kernel), rfl⟩
theorem t_801 : (Cond.instanceMethod y_Mo_go) ∈ wt := List.mem_filter.mpr ⟨List.mem_of_getElem? (i := 827) (by decide +kernel), rfl⟩
theorem t_802 : (Cond.selects "SweptPathsModel" y_Mo_go y_Mo_go) ∈ wt := List.mem_filter.mpr ⟨List.mem_of_getElem? (i := 828) (by decide +kernel), rfl⟩
set_option maxRecDepth 20000 in
theorem t_803 : (Cond.code y_Mo_go prog_7_method_21_code 4 (some FieldType.int)) ∈ wt := List.mem_filter.mpr ⟨List.mem_of_getElem? (i := 829) rfl, rfl⟩
theorem t_804 : (Cond.methodLink "SweptPathsModel" 158 y_Mo_goOn) ∈ wt := List.mem_filter.mpr ⟨List.mem_of_getElem? (i := 830) (by decide +kernel), rfl⟩
theorem t_805 : (Cond.privateMethod y_Mo_goOn) ∈ wt := List.mem_filter.mpr ⟨List.mem_of_getElem? (i := 831) (by decide +kernel), rfl⟩
theorem t_806 : (Cond.instanceMethod y_Mo_goOn) ∈ wt := List.mem_filter.mpr ⟨List.mem_of_getElem? (i := 832) (by decide +kernel), rfl⟩
set_option maxRecDepth 20000 in
theorem t_807 : (Cond.code y_Mo_goOn prog_7_method_16_code 5 none) ∈ wt := List.mem_filter.mpr ⟨List.mem_of_getElem? (i := 833) rfl, rfl⟩
theorem t_808 : (Cond.methodLink "SweptPathsModel" 148 y_Mo_move) ∈ wt := List.mem_filter.mpr ⟨List.mem_of_getElem? (i := 834) (by decide +kernel), rfl⟩
theorem t_809 : (Cond.privateMethod y_Mo_move) ∈ wt := List.mem_filter.mpr ⟨List.mem_of_getElem? (i := 835) (by decide +kernel), rfl⟩
theorem t_810 : (Cond.instanceMethod y_Mo_move) ∈ wt := List.mem_filter.mpr ⟨List.mem_of_getElem? (i := 836) (by decide +kernel), rfl⟩
set_option maxRecDepth 20000 in
theorem t_811 : (Cond.code y_Mo_move prog_7_method_15_code 7 none) ∈ wt := List.mem_filter.mpr ⟨List.mem_of_getElem? (i := 837) rfl, rfl⟩
theorem t_812 : (Cond.methodLink "SweptPathsModel" 145 y_Mo_askewOf) ∈ wt := List.mem_filter.mpr ⟨List.mem_of_getElem? (i := 838) (by decide +kernel), rfl⟩
theorem t_813 : (Cond.privateMethod y_Mo_askewOf) ∈ wt := List.mem_filter.mpr ⟨List.mem_of_getElem? (i := 839) (by decide +kernel), rfl⟩
theorem t_814 : (Cond.instanceMethod y_Mo_askewOf) ∈ wt := List.mem_filter.mpr ⟨List.mem_of_getElem? (i := 840) (by decide +kernel), rfl⟩
set_option maxRecDepth 20000 in
theorem t_815 : (Cond.code y_Mo_askewOf prog_7_method_7_code 2 (some FieldType.int)) ∈ wt := List.mem_filter.mpr ⟨List.mem_of_getElem? (i := 841) rfl, rfl⟩
theorem t_816 : (Cond.methodLink "SweptPathsModel" 94 y_Mo_wrapped) ∈ wt := List.mem_filter.mpr ⟨List.mem_of_getElem? (i := 842) (by decide +kernel), rfl⟩
theorem t_817 : (Cond.static y_Mo_wrapped) ∈ wt := List.mem_filter.mpr ⟨List.mem_of_getElem? (i := 843) (by decide +kernel), rfl⟩
set_option maxRecDepth 20000 in
theorem t_818 : (Cond.code y_Mo_wrapped prog_7_method_6_code 1 (some FieldType.int)) ∈ wt := List.mem_filter.mpr ⟨List.mem_of_getElem? (i := 844) rfl, rfl⟩
theorem t_819 : (Cond.methodLink "SweptPathsLaw" 92 y_Mo_told) ∈ wt := List.mem_filter.mpr ⟨List.mem_of_getElem? (i := 845) (by decide +kernel), rfl⟩
theorem t_820 : (Cond.instanceMethod y_Mo_told) ∈ wt := List.mem_filter.mpr ⟨List.mem_of_getElem? (i := 846) (by decide +kernel), rfl⟩
theorem t_821 : (Cond.selects "SweptPathsModel" y_Mo_told y_Mo_told) ∈ wt := List.mem_filter.mpr ⟨List.mem_of_getElem? (i := 847) (by decide +kernel), rfl⟩
set_option maxRecDepth 20000 in
theorem t_822 : (Cond.code y_Mo_told prog_7_method_22_code 3 (some FieldType.int)) ∈ wt := List.mem_filter.mpr ⟨List.mem_of_getElem? (i := 848) rfl, rfl⟩
theorem t_823 : (Cond.methodLink "SweptPathsLaw" 96 y_Mo_corner) ∈ wt := List.mem_filter.mpr ⟨List.mem_of_getElem? (i := 849) (by decide +kernel), rfl⟩
theorem t_824 : (Cond.instanceMethod y_Mo_corner) ∈ wt := List.mem_filter.mpr ⟨List.mem_of_getElem? (i := 850) (by decide +kernel), rfl⟩
theorem t_825 : (Cond.selects "SweptPathsModel" y_Mo_corner y_Mo_corner) ∈ wt := List.mem_filter.mpr ⟨List.mem_of_getElem? (i := 851) (by decide +kernel), rfl⟩
set_option maxRecDepth 20000 in
theorem t_826 : (Cond.code y_Mo_corner prog_7_method_23_code 8 (some FieldType.int)) ∈ wt := List.mem_filter.mpr ⟨List.mem_of_getElem? (i := 852) rfl, rfl⟩
theorem t_827 : (Cond.methodLink "SweptPathsLaw" 100 y_Mo_swept) ∈ wt := List.mem_filter.mpr ⟨List.mem_of_getElem? (i := 853) (by decide +kernel), rfl⟩
theorem t_828 : (Cond.instanceMethod y_Mo_swept) ∈ wt := List.mem_filter.mpr ⟨List.mem_of_getElem? (i := 854) (by decide +kernel), rfl⟩
theorem t_829 : (Cond.selects "SweptPathsModel" y_Mo_swept y_Mo_swept) ∈ wt := List.mem_filter.mpr ⟨List.mem_of_getElem? (i := 855) (by decide +kernel), rfl⟩
set_option maxRecDepth 20000 in
theorem t_830 : (Cond.code y_Mo_swept prog_7_method_24_code 1 (some FieldType.int)) ∈ wt := List.mem_filter.mpr ⟨List.mem_of_getElem? (i := 856) rfl, rfl⟩
theorem t_831 : (Cond.methodLink "SweptPathsLaw" 103 y_Mo_cell) ∈ wt := List.mem_filter.mpr ⟨List.mem_of_getElem? (i := 857) (by decide +kernel), rfl⟩
theorem t_832 : (Cond.instanceMethod y_Mo_cell) ∈ wt := List.mem_filter.mpr ⟨List.mem_of_getElem? (i := 858) (by decide +kernel), rfl⟩
theorem t_833 : (Cond.selects "SweptPathsModel" y_Mo_cell y_Mo_cell) ∈ wt := List.mem_filter.mpr ⟨List.mem_of_getElem? (i := 859) (by decide +kernel), rfl⟩
set_option maxRecDepth 20000 in
theorem t_834 : (Cond.code y_Mo_cell prog_7_method_25_code 3 (some FieldType.boolean)) ∈ wt := List.mem_filter.mpr ⟨List.mem_of_getElem? (i := 860) rfl, rfl⟩
theorem t_835 : (Cond.methodLink "SweptPathsLaw" 106 y_Mo_clash) ∈ wt := List.mem_filter.mpr ⟨List.mem_of_getElem? (i := 861) (by decide +kernel), rfl⟩
theorem t_836 : (Cond.instanceMethod y_Mo_clash) ∈ wt := List.mem_filter.mpr ⟨List.mem_of_getElem? (i := 862) (by decide +kernel), rfl⟩
theorem t_837 : (Cond.selects "SweptPathsModel" y_Mo_clash y_Mo_clash) ∈ wt := List.mem_filter.mpr ⟨List.mem_of_getElem? (i := 863) (by decide +kernel), rfl⟩
set_option maxRecDepth 20000 in
theorem t_838 : (Cond.code y_Mo_clash prog_7_method_26_code 2 (some FieldType.int)) ∈ wt := List.mem_filter.mpr ⟨List.mem_of_getElem? (i := 864) rfl, rfl⟩
theorem t_839 : (Cond.methodLink "SweptPathsLaw" 111 y_Mo_isStuck) ∈ wt := List.mem_filter.mpr ⟨List.mem_of_getElem? (i := 865) (by decide +kernel), rfl⟩
theorem t_840 : (Cond.instanceMethod y_Mo_isStuck) ∈ wt := List.mem_filter.mpr ⟨List.mem_of_getElem? (i := 866) (by decide +kernel), rfl⟩
theorem t_841 : (Cond.selects "SweptPathsModel" y_Mo_isStuck y_Mo_isStuck) ∈ wt := List.mem_filter.mpr ⟨List.mem_of_getElem? (i := 867) (by decide +kernel), rfl⟩
set_option maxRecDepth 20000 in
theorem t_842 : (Cond.code y_Mo_isStuck prog_7_method_27_code 1 (some FieldType.boolean)) ∈ wt := List.mem_filter.mpr ⟨List.mem_of_getElem? (i := 868) rfl, rfl⟩
theorem t_843 : (Cond.methodLink "SweptPathsLaw" 115 y_Mo_part) ∈ wt := List.mem_filter.mpr ⟨List.mem_of_getElem? (i := 869) (by decide +kernel), rfl⟩
theorem t_844 : (Cond.instanceMethod y_Mo_part) ∈ wt := List.mem_filter.mpr ⟨List.mem_of_getElem? (i := 870) (by decide +kernel), rfl⟩
theorem t_845 : (Cond.selects "SweptPathsModel" y_Mo_part y_Mo_part) ∈ wt := List.mem_filter.mpr ⟨List.mem_of_getElem? (i := 871) (by decide +kernel), rfl⟩
set_option maxRecDepth 20000 in
theorem t_846 : (Cond.code y_Mo_part prog_7_method_28_code 6 (some FieldType.int)) ∈ wt := List.mem_filter.mpr ⟨List.mem_of_getElem? (i := 872) rfl, rfl⟩
theorem t_847 : (Cond.methodLink "SweptPathsLaw" 118 y_Mo_clear) ∈ wt := List.mem_filter.mpr ⟨List.mem_of_getElem? (i := 873) (by decide +kernel), rfl⟩
theorem t_848 : (Cond.instanceMethod y_Mo_clear) ∈ wt := List.mem_filter.mpr ⟨List.mem_of_getElem? (i := 874) (by decide +kernel), rfl⟩
theorem t_849 : (Cond.selects "SweptPathsModel" y_Mo_clear y_Mo_clear) ∈ wt := List.mem_filter.mpr ⟨List.mem_of_getElem? (i := 875) (by decide +kernel), rfl⟩
set_option maxRecDepth 20000 in
theorem t_850 : (Cond.code y_Mo_clear prog_7_method_29_code 3 (some FieldType.int)) ∈ wt := List.mem_filter.mpr ⟨List.mem_of_getElem? (i := 876) rfl, rfl⟩
theorem t_851 : (Cond.methodLink "SweptPathsLaw" 122 y_Mo_best) ∈ wt := List.mem_filter.mpr ⟨List.mem_of_getElem? (i := 877) (by decide +kernel), rfl⟩
theorem t_852 : (Cond.instanceMethod y_Mo_best) ∈ wt := List.mem_filter.mpr ⟨List.mem_of_getElem? (i := 878) (by decide +kernel), rfl⟩
theorem t_853 : (Cond.selects "SweptPathsModel" y_Mo_best y_Mo_best) ∈ wt := List.mem_filter.mpr ⟨List.mem_of_getElem? (i := 879) (by decide +kernel), rfl⟩
set_option maxRecDepth 20000 in
theorem t_854 : (Cond.code y_Mo_best prog_7_method_33_code 4 (some FieldType.int)) ∈ wt := List.mem_filter.mpr ⟨List.mem_of_getElem? (i := 880) rfl, rfl⟩
theorem t_855 : (Cond.methodLink "SweptPathsModel" 162 y_Mo_keepAside) ∈ wt := List.mem_filter.mpr ⟨List.mem_of_getElem? (i := 881) (by decide +kernel), rfl⟩
theorem t_856 : (Cond.privateMethod y_Mo_keepAside) ∈ wt := List.mem_filter.mpr ⟨List.mem_of_getElem? (i := 882) (by decide +kernel), rfl⟩
theorem t_857 : (Cond.instanceMethod y_Mo_keepAside) ∈ wt := List.mem_filter.mpr ⟨List.mem_of_getElem? (i := 883) (by decide +kernel), rfl⟩
set_option maxRecDepth 20000 in
theorem t_858 : (Cond.code y_Mo_keepAside prog_7_method_30_code 2 none) ∈ wt := List.mem_filter.mpr ⟨List.mem_of_getElem? (i := 884) rfl, rfl⟩
theorem t_859 : (Cond.methodLink "SweptPathsModel" 165 y_Mo_goPlan) ∈ wt := List.mem_filter.mpr ⟨List.mem_of_getElem? (i := 885) (by decide +kernel), rfl⟩
theorem t_860 : (Cond.privateMethod y_Mo_goPlan) ∈ wt := List.mem_filter.mpr ⟨List.mem_of_getElem? (i := 886) (by decide +kernel), rfl⟩
theorem t_861 : (Cond.instanceMethod y_Mo_goPlan) ∈ wt := List.mem_filter.mpr ⟨List.mem_of_getElem? (i := 887) (by decide +kernel), rfl⟩
set_option maxRecDepth 20000 in
theorem t_862 : (Cond.code y_Mo_goPlan prog_7_method_32_code 4 none) ∈ wt := List.mem_filter.mpr ⟨List.mem_of_getElem? (i := 888) rfl, rfl⟩
theorem t_863 : (Cond.methodLink "SweptPathsModel" 168 y_Mo_putBack) ∈ wt := List.mem_filter.mpr ⟨List.mem_of_getElem? (i := 889) (by decide +kernel), rfl⟩
theorem t_864 : (Cond.privateMethod y_Mo_putBack) ∈ wt := List.mem_filter.mpr ⟨List.mem_of_getElem? (i := 890) (by decide +kernel), rfl⟩
theorem t_865 : (Cond.instanceMethod y_Mo_putBack) ∈ wt := List.mem_filter.mpr ⟨List.mem_of_getElem? (i := 891) (by decide +kernel), rfl⟩
set_option maxRecDepth 20000 in
theorem t_866 : (Cond.code y_Mo_putBack prog_7_method_31_code 2 none) ∈ wt := List.mem_filter.mpr ⟨List.mem_of_getElem? (i := 892) rfl, rfl⟩
theorem t_867 : (Cond.methodLink "SweptPathsLaw" 125 y_Mo_sweeps) ∈ wt := List.mem_filter.mpr ⟨List.mem_of_getElem? (i := 893) (by decide +kernel), rfl⟩
theorem t_868 : (Cond.instanceMethod y_Mo_sweeps) ∈ wt := List.mem_filter.mpr ⟨List.mem_of_getElem? (i := 894) (by decide +kernel), rfl⟩
theorem t_869 : (Cond.selects "SweptPathsModel" y_Mo_sweeps y_Mo_sweeps) ∈ wt := List.mem_filter.mpr ⟨List.mem_of_getElem? (i := 895) (by decide +kernel), rfl⟩
set_option maxRecDepth 20000 in
theorem t_870 : (Cond.code y_Mo_sweeps prog_7_method_34_code 3 (some FieldType.int)) ∈ wt := List.mem_filter.mpr ⟨List.mem_of_getElem? (i := 896) rfl, rfl⟩
theorem t_871 : (Cond.sameMethod "java/lang/Throwable" "java/lang/Throwable" "fillInStackTrace" "(I)Ljava/lang/Throwable;") ∈ wt := List.mem_filter.mpr ⟨List.mem_of_getElem? (i := 897) (by decide +kernel), rfl⟩
theorem t_872 : (Cond.castable "SweptPaths$Shape" "SweptPaths$Shape") ∈ wt := List.mem_filter.mpr ⟨List.mem_of_getElem? (i := 898) (by decide +kernel), rfl⟩
theorem t_873 : (Cond.castable "SweptPaths$Body" "SweptPaths$Body") ∈ wt := List.mem_filter.mpr ⟨List.mem_of_getElem? (i := 899) (by decide +kernel), rfl⟩
theorem t_874 : (Cond.castable "SweptPaths$Part" "SweptPaths$Part") ∈ wt := List.mem_filter.mpr ⟨List.mem_of_getElem? (i := 900) (by decide +kernel), rfl⟩
theorem t_875 : (Cond.sameMethod "[Ljava/lang/Object;" "java/lang/Object" "getClass" "()Ljava/lang/Class;") ∈ wt := List.mem_filter.mpr ⟨List.mem_of_getElem? (i := 901) (by decide +kernel), rfl⟩
theorem t_876 : (Cond.selects "[Ljava/lang/Object;" y_Obj_getClass y_Obj_getClass) ∈ wt := List.mem_filter.mpr ⟨List.mem_of_getElem? (i := 902) (by decide +kernel), rfl⟩
theorem t_877 : (Cond.declares y_Obj_getClass) ∈ wt := List.mem_filter.mpr ⟨List.mem_of_getElem? (i := 903) (by decide +kernel), rfl⟩
theorem t_878 : (Cond.castable "SweptPaths" "java/lang/Object") ∈ wt := List.mem_filter.mpr ⟨List.mem_of_getElem? (i := 904) (by decide +kernel), rfl⟩
theorem t_879 : (Cond.castable "SweptPaths$Run" "java/lang/Object") ∈ wt := List.mem_filter.mpr ⟨List.mem_of_getElem? (i := 905) (by decide +kernel), rfl⟩
theorem t_880 : (Cond.castable "SweptPaths$Body" "java/lang/Object") ∈ wt := List.mem_filter.mpr ⟨List.mem_of_getElem? (i := 906) (by decide +kernel), rfl⟩
theorem t_881 : (Cond.castable "SweptPathsModel" "java/lang/Object") ∈ wt := List.mem_filter.mpr ⟨List.mem_of_getElem? (i := 907) (by decide +kernel), rfl⟩
theorem t_882 : (Cond.castable "SweptPaths$Shape" "java/lang/Object") ∈ wt := List.mem_filter.mpr ⟨List.mem_of_getElem? (i := 908) (by decide +kernel), rfl⟩
theorem t_883 : (Cond.castable "SweptPaths$Part" "java/lang/Object") ∈ wt := List.mem_filter.mpr ⟨List.mem_of_getElem? (i := 909) (by decide +kernel), rfl⟩
theorem t_884 : (Cond.castable "java/util/ArrayList" "java/lang/Object") ∈ wt := List.mem_filter.mpr ⟨List.mem_of_getElem? (i := 910) (by decide +kernel), rfl⟩
theorem ts_0 : (Cond.selects "java/util/ArrayList" y_AL_add_2 y_AL_add_2) ∈ wt := List.mem_filter.mpr ⟨List.mem_of_getElem? (i := 0) (by decide +kernel), rfl⟩
theorem ts_1 : (Cond.selects "java/util/ArrayList" y_AL_grow y_AL_grow) ∈ wt := List.mem_filter.mpr ⟨List.mem_of_getElem? (i := 1) (by decide +kernel), rfl⟩
theorem ts_2 : (Cond.selects "java/util/ArrayList" y_AL_grow_2 y_AL_grow_2) ∈ wt := List.mem_filter.mpr ⟨List.mem_of_getElem? (i := 2) (by decide +kernel), rfl⟩
theorem ts_3 : (Cond.selects "java/util/BitSet" y_BS_initWords y_BS_initWords) ∈ wt := List.mem_filter.mpr ⟨List.mem_of_getElem? (i := 3) (by decide +kernel), rfl⟩
theorem ts_4 : (Cond.selects "SweptPaths$Run" y_Run_look y_Run_look) ∈ wt := List.mem_filter.mpr ⟨List.mem_of_getElem? (i := 4) (by decide +kernel), rfl⟩
theorem ts_5 : (Cond.selects "SweptPaths$Run" y_Run_sweep y_Run_sweep) ∈ wt := List.mem_filter.mpr ⟨List.mem_of_getElem? (i := 5) (by decide +kernel), rfl⟩
theorem ts_6 : (Cond.selects "java/util/BitSet" y_BS_expandTo y_BS_expandTo) ∈ wt := List.mem_filter.mpr ⟨List.mem_of_getElem? (i := 6) (by decide +kernel), rfl⟩
theorem ts_7 : (Cond.selects "java/util/BitSet" y_BS_ensureCapacity y_BS_ensureCapacity) ∈ wt := List.mem_filter.mpr ⟨List.mem_of_getElem? (i := 7) (by decide +kernel), rfl⟩
theorem ts_8 : (Cond.selects "java/util/BitSet" y_BS_checkInvariants y_BS_checkInvariants) ∈ wt := List.mem_filter.mpr ⟨List.mem_of_getElem? (i := 8) (by decide +kernel), rfl⟩
theorem ts_9 : (Cond.selects "java/lang/Throwable" y_Thr_fillInStackTrace y_Thr_fillInStackTrace) ∈ wt := List.mem_filter.mpr ⟨List.mem_of_getElem? (i := 9) (by decide +kernel), rfl⟩
theorem ts_10 : (Cond.selects "SweptPaths$Run" y_Run_once y_Run_once) ∈ wt := List.mem_filter.mpr ⟨List.mem_of_getElem? (i := 10) (by decide +kernel), rfl⟩
theorem ts_11 : (Cond.selects "SweptPaths" y_SP_bodyOf y_SP_bodyOf) ∈ wt := List.mem_filter.mpr ⟨List.mem_of_getElem? (i := 11) (by decide +kernel), rfl⟩
theorem ts_12 : (Cond.selects "SweptPaths" y_SP_planOf y_SP_planOf) ∈ wt := List.mem_filter.mpr ⟨List.mem_of_getElem? (i := 12) (by decide +kernel), rfl⟩
theorem ts_13 : (Cond.selects "SweptPaths" y_SP_gone y_SP_gone) ∈ wt := List.mem_filter.mpr ⟨List.mem_of_getElem? (i := 13) (by decide +kernel), rfl⟩
theorem ts_14 : (Cond.selects "SweptPathsModel" y_Mo_beginAnew y_Mo_beginAnew) ∈ wt := List.mem_filter.mpr ⟨List.mem_of_getElem? (i := 14) (by decide +kernel), rfl⟩
theorem ts_15 : (Cond.selects "SweptPathsModel" y_Mo_hang y_Mo_hang) ∈ wt := List.mem_filter.mpr ⟨List.mem_of_getElem? (i := 15) (by decide +kernel), rfl⟩
theorem ts_16 : (Cond.selects "SweptPathsModel" y_Mo_dx y_Mo_dx) ∈ wt := List.mem_filter.mpr ⟨List.mem_of_getElem? (i := 16) (by decide +kernel), rfl⟩
theorem ts_17 : (Cond.selects "SweptPathsModel" y_Mo_dy y_Mo_dy) ∈ wt := List.mem_filter.mpr ⟨List.mem_of_getElem? (i := 17) (by decide +kernel), rfl⟩
theorem ts_18 : (Cond.selects "SweptPathsModel" y_Mo_look y_Mo_look) ∈ wt := List.mem_filter.mpr ⟨List.mem_of_getElem? (i := 18) (by decide +kernel), rfl⟩
theorem ts_19 : (Cond.selects "SweptPathsModel" y_Mo_covers y_Mo_covers) ∈ wt := List.mem_filter.mpr ⟨List.mem_of_getElem? (i := 19) (by decide +kernel), rfl⟩
theorem ts_20 : (Cond.selects "SweptPathsModel" y_Mo_goOn y_Mo_goOn) ∈ wt := List.mem_filter.mpr ⟨List.mem_of_getElem? (i := 20) (by decide +kernel), rfl⟩
theorem ts_21 : (Cond.selects "SweptPathsModel" y_Mo_move y_Mo_move) ∈ wt := List.mem_filter.mpr ⟨List.mem_of_getElem? (i := 21) (by decide +kernel), rfl⟩
theorem ts_22 : (Cond.selects "SweptPathsModel" y_Mo_askewOf y_Mo_askewOf) ∈ wt := List.mem_filter.mpr ⟨List.mem_of_getElem? (i := 22) (by decide +kernel), rfl⟩
theorem ts_23 : (Cond.selects "SweptPathsModel" y_Mo_keepAside y_Mo_keepAside) ∈ wt := List.mem_filter.mpr ⟨List.mem_of_getElem? (i := 23) (by decide +kernel), rfl⟩
theorem ts_24 : (Cond.selects "SweptPathsModel" y_Mo_goPlan y_Mo_goPlan) ∈ wt := List.mem_filter.mpr ⟨List.mem_of_getElem? (i := 24) (by decide +kernel), rfl⟩
theorem ts_25 : (Cond.selects "SweptPathsModel" y_Mo_putBack y_Mo_putBack) ∈ wt := List.mem_filter.mpr ⟨List.mem_of_getElem? (i := 25) (by decide +kernel), rfl⟩
