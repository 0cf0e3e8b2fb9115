section
-- ===== PART A: goes FIRST, ahead of the names: the tables' words, and 'selects' of the private methods out of them =====
/-- a private method of a class that the tables say can be made, by its rows of tables_1 -/
def lw_okq (q : MethodName × Nat) : Prop := (q.1.cls ≠ "java/lang/invoke/MethodHandle" ∧ q.1.cls ≠ "java/lang/invoke/VarHandle") ∧ Cond.instantiable q.1.cls q.2 ∈ tables_1 ∧ Cond.privateMethod q.1 ∈ tables_1 ∧ Cond.instanceMethod q.1 ∈ tables_1
theorem lw_p0 : lw_okq (⟨"java/util/ArrayList", "add", "(Ljava/lang/Object;[Ljava/lang/Object;I)V"⟩, 3) := ⟨⟨by decide +kernel, by decide +kernel⟩, List.mem_of_getElem? (i := 34) (by decide +kernel), List.mem_of_getElem? (i := 181) (by decide +kernel), List.mem_of_getElem? (i := 182) (by decide +kernel)⟩
theorem lw_p1 : lw_okq (⟨"java/util/ArrayList", "grow", "()[Ljava/lang/Object;"⟩, 3) := ⟨⟨by decide +kernel, by decide +kernel⟩, List.mem_of_getElem? (i := 34) (by decide +kernel), List.mem_of_getElem? (i := 185) (by decide +kernel), List.mem_of_getElem? (i := 186) (by decide +kernel)⟩
theorem lw_p2 : lw_okq (⟨"java/util/ArrayList", "grow", "(I)[Ljava/lang/Object;"⟩, 3) := ⟨⟨by decide +kernel, by decide +kernel⟩, List.mem_of_getElem? (i := 34) (by decide +kernel), List.mem_of_getElem? (i := 189) (by decide +kernel), List.mem_of_getElem? (i := 190) (by decide +kernel)⟩
theorem lw_p3 : lw_okq (⟨"KeyGraph", "isFunction", "(I)Z"⟩, 5) := ⟨⟨by decide +kernel, by decide +kernel⟩, List.mem_of_getElem? (i := 26) (by decide +kernel), List.mem_of_getElem? (i := 345) (by decide +kernel), List.mem_of_getElem? (i := 346) (by decide +kernel)⟩
theorem lw_p4 : lw_okq (⟨"KeyGraph", "isKey", "(I)Z"⟩, 5) := ⟨⟨by decide +kernel, by decide +kernel⟩, List.mem_of_getElem? (i := 26) (by decide +kernel), List.mem_of_getElem? (i := 349) (by decide +kernel), List.mem_of_getElem? (i := 350) (by decide +kernel)⟩
theorem lw_p5 : lw_okq (⟨"KeyGraph", "leadTo", "(LKeyGraph$Key;)V"⟩, 5) := ⟨⟨by decide +kernel, by decide +kernel⟩, List.mem_of_getElem? (i := 26) (by decide +kernel), List.mem_of_getElem? (i := 371) (by decide +kernel), List.mem_of_getElem? (i := 372) (by decide +kernel)⟩
theorem lw_p6 : lw_okq (⟨"KeyGraph", "asksOne", "(LKeyGraph$Key;)Z"⟩, 5) := ⟨⟨by decide +kernel, by decide +kernel⟩, List.mem_of_getElem? (i := 26) (by decide +kernel), List.mem_of_getElem? (i := 375) (by decide +kernel), List.mem_of_getElem? (i := 376) (by decide +kernel)⟩
theorem lw_p7 : lw_okq (⟨"KeyGraph", "isLeading", "(LKeyGraph$Key;)Z"⟩, 5) := ⟨⟨by decide +kernel, by decide +kernel⟩, List.mem_of_getElem? (i := 26) (by decide +kernel), List.mem_of_getElem? (i := 379) (by decide +kernel), List.mem_of_getElem? (i := 380) (by decide +kernel)⟩
theorem lw_p8 : lw_okq (⟨"KeyGraph", "raise", "()V"⟩, 5) := ⟨⟨by decide +kernel, by decide +kernel⟩, List.mem_of_getElem? (i := 26) (by decide +kernel), List.mem_of_getElem? (i := 387) (by decide +kernel), List.mem_of_getElem? (i := 388) (by decide +kernel)⟩
theorem lw_p9 : lw_okq (⟨"KeyGraph", "isSure", "(LKeyGraph$Key;)Z"⟩, 5) := ⟨⟨by decide +kernel, by decide +kernel⟩, List.mem_of_getElem? (i := 26) (by decide +kernel), List.mem_of_getElem? (i := 422) (by decide +kernel), List.mem_of_getElem? (i := 423) (by decide +kernel)⟩
theorem lw_p10 : lw_okq (⟨"KeyGraph", "put", "(ILKeyGraph$Key;)V"⟩, 5) := ⟨⟨by decide +kernel, by decide +kernel⟩, List.mem_of_getElem? (i := 26) (by decide +kernel), List.mem_of_getElem? (i := 426) (by decide +kernel), List.mem_of_getElem? (i := 427) (by decide +kernel)⟩
theorem lw_p11 : lw_okq (⟨"KeyGraph", "stepOf", "(I)I"⟩, 5) := ⟨⟨by decide +kernel, by decide +kernel⟩, List.mem_of_getElem? (i := 26) (by decide +kernel), List.mem_of_getElem? (i := 450) (by decide +kernel), List.mem_of_getElem? (i := 451) (by decide +kernel)⟩
theorem lw_p12 : lw_okq (⟨"KeyGraph", "check", "(ILKeyGraph$Pile;LKeyGraph$Key;)I"⟩, 5) := ⟨⟨by decide +kernel, by decide +kernel⟩, List.mem_of_getElem? (i := 26) (by decide +kernel), List.mem_of_getElem? (i := 454) (by decide +kernel), List.mem_of_getElem? (i := 455) (by decide +kernel)⟩
theorem lw_p13 : lw_okq (⟨"KeyGraph", "found", "(LKeyGraph$Pile;)I"⟩, 5) := ⟨⟨by decide +kernel, by decide +kernel⟩, List.mem_of_getElem? (i := 26) (by decide +kernel), List.mem_of_getElem? (i := 458) (by decide +kernel), List.mem_of_getElem? (i := 459) (by decide +kernel)⟩
theorem lw_p14 : lw_okq (⟨"KeyGraph", "goesDown", "(ILKeyGraph$Key;)I"⟩, 5) := ⟨⟨by decide +kernel, by decide +kernel⟩, List.mem_of_getElem? (i := 26) (by decide +kernel), List.mem_of_getElem? (i := 462) (by decide +kernel), List.mem_of_getElem? (i := 463) (by decide +kernel)⟩
theorem lw_p15 : lw_okq (⟨"KeyGraph", "ends", "(LKeyGraph$Pile;IJ)I"⟩, 5) := ⟨⟨by decide +kernel, by decide +kernel⟩, List.mem_of_getElem? (i := 26) (by decide +kernel), List.mem_of_getElem? (i := 466) (by decide +kernel), List.mem_of_getElem? (i := 467) (by decide +kernel)⟩
def lw_privs_1 : List (MethodName × Nat) := [(⟨"java/util/ArrayList", "add", "(Ljava/lang/Object;[Ljava/lang/Object;I)V"⟩, 3), (⟨"java/util/ArrayList", "grow", "()[Ljava/lang/Object;"⟩, 3), (⟨"java/util/ArrayList", "grow", "(I)[Ljava/lang/Object;"⟩, 3), (⟨"KeyGraph", "isFunction", "(I)Z"⟩, 5), (⟨"KeyGraph", "isKey", "(I)Z"⟩, 5), (⟨"KeyGraph", "leadTo", "(LKeyGraph$Key;)V"⟩, 5), (⟨"KeyGraph", "asksOne", "(LKeyGraph$Key;)Z"⟩, 5), (⟨"KeyGraph", "isLeading", "(LKeyGraph$Key;)Z"⟩, 5), (⟨"KeyGraph", "raise", "()V"⟩, 5), (⟨"KeyGraph", "isSure", "(LKeyGraph$Key;)Z"⟩, 5), (⟨"KeyGraph", "put", "(ILKeyGraph$Key;)V"⟩, 5), (⟨"KeyGraph", "stepOf", "(I)I"⟩, 5), (⟨"KeyGraph", "check", "(ILKeyGraph$Pile;LKeyGraph$Key;)I"⟩, 5), (⟨"KeyGraph", "found", "(LKeyGraph$Pile;)I"⟩, 5), (⟨"KeyGraph", "goesDown", "(ILKeyGraph$Key;)I"⟩, 5), (⟨"KeyGraph", "ends", "(LKeyGraph$Pile;IJ)I"⟩, 5)]
theorem lw_r1 : ∀ q ∈ lw_privs_1, lw_okq q := List.forall_mem_cons.mpr ⟨lw_p0, List.forall_mem_cons.mpr ⟨lw_p1, List.forall_mem_cons.mpr ⟨lw_p2, List.forall_mem_cons.mpr ⟨lw_p3, List.forall_mem_cons.mpr ⟨lw_p4, List.forall_mem_cons.mpr ⟨lw_p5, List.forall_mem_cons.mpr ⟨lw_p6, List.forall_mem_cons.mpr ⟨lw_p7, List.forall_mem_cons.mpr ⟨lw_p8, List.forall_mem_cons.mpr ⟨lw_p9, List.forall_mem_cons.mpr ⟨lw_p10, List.forall_mem_cons.mpr ⟨lw_p11, List.forall_mem_cons.mpr ⟨lw_p12, List.forall_mem_cons.mpr ⟨lw_p13, List.forall_mem_cons.mpr ⟨lw_p14, List.forall_mem_cons.mpr ⟨lw_p15, fun _ h => absurd h List.not_mem_nil⟩⟩⟩⟩⟩⟩⟩⟩⟩⟩⟩⟩⟩⟩⟩⟩
theorem lw_p16 : lw_okq (⟨"java/lang/Throwable", "fillInStackTrace", "(I)Ljava/lang/Throwable;"⟩, 6) := ⟨⟨by decide +kernel, by decide +kernel⟩, List.mem_of_getElem? (i := 607) (by decide +kernel), List.mem_of_getElem? (i := 605) (by decide +kernel), List.mem_of_getElem? (i := 606) (by decide +kernel)⟩
theorem lw_p17 : lw_okq (⟨"KeyGraphModel", "make", "(I)I"⟩, 25) := ⟨⟨by decide +kernel, by decide +kernel⟩, List.mem_of_getElem? (i := 648) (by decide +kernel), List.mem_of_getElem? (i := 739) (by decide +kernel), List.mem_of_getElem? (i := 740) (by decide +kernel)⟩
theorem lw_p18 : lw_okq (⟨"KeyGraphModel", "isKey", "(I)Z"⟩, 25) := ⟨⟨by decide +kernel, by decide +kernel⟩, List.mem_of_getElem? (i := 648) (by decide +kernel), List.mem_of_getElem? (i := 751) (by decide +kernel), List.mem_of_getElem? (i := 752) (by decide +kernel)⟩
theorem lw_p19 : lw_okq (⟨"KeyGraphModel", "isLeaf", "(I)Z"⟩, 25) := ⟨⟨by decide +kernel, by decide +kernel⟩, List.mem_of_getElem? (i := 648) (by decide +kernel), List.mem_of_getElem? (i := 755) (by decide +kernel), List.mem_of_getElem? (i := 756) (by decide +kernel)⟩
theorem lw_p20 : lw_okq (⟨"KeyGraphModel", "fillLeads", "(I)V"⟩, 25) := ⟨⟨by decide +kernel, by decide +kernel⟩, List.mem_of_getElem? (i := 648) (by decide +kernel), List.mem_of_getElem? (i := 759) (by decide +kernel), List.mem_of_getElem? (i := 760) (by decide +kernel)⟩
theorem lw_p21 : lw_okq (⟨"KeyGraphModel", "rowKey", "(II)I"⟩, 25) := ⟨⟨by decide +kernel, by decide +kernel⟩, List.mem_of_getElem? (i := 648) (by decide +kernel), List.mem_of_getElem? (i := 763) (by decide +kernel), List.mem_of_getElem? (i := 764) (by decide +kernel)⟩
theorem lw_p22 : lw_okq (⟨"KeyGraphModel", "firstBack", "(I)I"⟩, 25) := ⟨⟨by decide +kernel, by decide +kernel⟩, List.mem_of_getElem? (i := 648) (by decide +kernel), List.mem_of_getElem? (i := 767) (by decide +kernel), List.mem_of_getElem? (i := 768) (by decide +kernel)⟩
theorem lw_p23 : lw_okq (⟨"KeyGraphModel", "next", "()I"⟩, 25) := ⟨⟨by decide +kernel, by decide +kernel⟩, List.mem_of_getElem? (i := 648) (by decide +kernel), List.mem_of_getElem? (i := 771) (by decide +kernel), List.mem_of_getElem? (i := 772) (by decide +kernel)⟩
theorem lw_p24 : lw_okq (⟨"KeyGraphModel", "empty", "()I"⟩, 25) := ⟨⟨by decide +kernel, by decide +kernel⟩, List.mem_of_getElem? (i := 648) (by decide +kernel), List.mem_of_getElem? (i := 775) (by decide +kernel), List.mem_of_getElem? (i := 776) (by decide +kernel)⟩
theorem lw_p25 : lw_okq (⟨"KeyGraphModel", "pileOf", "(I)I"⟩, 25) := ⟨⟨by decide +kernel, by decide +kernel⟩, List.mem_of_getElem? (i := 648) (by decide +kernel), List.mem_of_getElem? (i := 798) (by decide +kernel), List.mem_of_getElem? (i := 799) (by decide +kernel)⟩
theorem lw_p26 : lw_okq (⟨"KeyGraphModel", "isSure", "(I)Z"⟩, 25) := ⟨⟨by decide +kernel, by decide +kernel⟩, List.mem_of_getElem? (i := 648) (by decide +kernel), List.mem_of_getElem? (i := 802) (by decide +kernel), List.mem_of_getElem? (i := 803) (by decide +kernel)⟩
theorem lw_p27 : lw_okq (⟨"KeyGraphModel", "lay", "(II)V"⟩, 25) := ⟨⟨by decide +kernel, by decide +kernel⟩, List.mem_of_getElem? (i := 648) (by decide +kernel), List.mem_of_getElem? (i := 806) (by decide +kernel), List.mem_of_getElem? (i := 807) (by decide +kernel)⟩
theorem lw_p28 : lw_okq (⟨"KeyGraphModel", "go", "(I)I"⟩, 25) := ⟨⟨by decide +kernel, by decide +kernel⟩, List.mem_of_getElem? (i := 648) (by decide +kernel), List.mem_of_getElem? (i := 818) (by decide +kernel), List.mem_of_getElem? (i := 819) (by decide +kernel)⟩
theorem lw_p29 : lw_okq (⟨"KeyGraphModel", "check", "(II)I"⟩, 25) := ⟨⟨by decide +kernel, by decide +kernel⟩, List.mem_of_getElem? (i := 648) (by decide +kernel), List.mem_of_getElem? (i := 822) (by decide +kernel), List.mem_of_getElem? (i := 823) (by decide +kernel)⟩
theorem lw_p30 : lw_okq (⟨"KeyGraphModel", "await", "(II)I"⟩, 25) := ⟨⟨by decide +kernel, by decide +kernel⟩, List.mem_of_getElem? (i := 648) (by decide +kernel), List.mem_of_getElem? (i := 826) (by decide +kernel), List.mem_of_getElem? (i := 827) (by decide +kernel)⟩
theorem lw_p31 : lw_okq (⟨"KeyGraphModel", "comes", "(I)I"⟩, 25) := ⟨⟨by decide +kernel, by decide +kernel⟩, List.mem_of_getElem? (i := 648) (by decide +kernel), List.mem_of_getElem? (i := 830) (by decide +kernel), List.mem_of_getElem? (i := 831) (by decide +kernel)⟩
def lw_privs_2 : List (MethodName × Nat) := [(⟨"java/lang/Throwable", "fillInStackTrace", "(I)Ljava/lang/Throwable;"⟩, 6), (⟨"KeyGraphModel", "make", "(I)I"⟩, 25), (⟨"KeyGraphModel", "isKey", "(I)Z"⟩, 25), (⟨"KeyGraphModel", "isLeaf", "(I)Z"⟩, 25), (⟨"KeyGraphModel", "fillLeads", "(I)V"⟩, 25), (⟨"KeyGraphModel", "rowKey", "(II)I"⟩, 25), (⟨"KeyGraphModel", "firstBack", "(I)I"⟩, 25), (⟨"KeyGraphModel", "next", "()I"⟩, 25), (⟨"KeyGraphModel", "empty", "()I"⟩, 25), (⟨"KeyGraphModel", "pileOf", "(I)I"⟩, 25), (⟨"KeyGraphModel", "isSure", "(I)Z"⟩, 25), (⟨"KeyGraphModel", "lay", "(II)V"⟩, 25), (⟨"KeyGraphModel", "go", "(I)I"⟩, 25), (⟨"KeyGraphModel", "check", "(II)I"⟩, 25), (⟨"KeyGraphModel", "await", "(II)I"⟩, 25), (⟨"KeyGraphModel", "comes", "(I)I"⟩, 25)]
theorem lw_r2 : ∀ q ∈ lw_privs_2, lw_okq q := List.forall_mem_cons.mpr ⟨lw_p16, List.forall_mem_cons.mpr ⟨lw_p17, List.forall_mem_cons.mpr ⟨lw_p18, List.forall_mem_cons.mpr ⟨lw_p19, List.forall_mem_cons.mpr ⟨lw_p20, List.forall_mem_cons.mpr ⟨lw_p21, List.forall_mem_cons.mpr ⟨lw_p22, List.forall_mem_cons.mpr ⟨lw_p23, List.forall_mem_cons.mpr ⟨lw_p24, List.forall_mem_cons.mpr ⟨lw_p25, List.forall_mem_cons.mpr ⟨lw_p26, List.forall_mem_cons.mpr ⟨lw_p27, List.forall_mem_cons.mpr ⟨lw_p28, List.forall_mem_cons.mpr ⟨lw_p29, List.forall_mem_cons.mpr ⟨lw_p30, List.forall_mem_cons.mpr ⟨lw_p31, fun _ h => absurd h List.not_mem_nil⟩⟩⟩⟩⟩⟩⟩⟩⟩⟩⟩⟩⟩⟩⟩⟩
theorem lw_p32 : lw_okq (⟨"KeyGraphModel", "taken", "(II)J"⟩, 25) := ⟨⟨by decide +kernel, by decide +kernel⟩, List.mem_of_getElem? (i := 648) (by decide +kernel), List.mem_of_getElem? (i := 834) (by decide +kernel), List.mem_of_getElem? (i := 835) (by decide +kernel)⟩
theorem lw_p33 : lw_okq (⟨"KeyGraphModel", "end", "(IIJ)I"⟩, 25) := ⟨⟨by decide +kernel, by decide +kernel⟩, List.mem_of_getElem? (i := 648) (by decide +kernel), List.mem_of_getElem? (i := 841) (by decide +kernel), List.mem_of_getElem? (i := 842) (by decide +kernel)⟩
theorem lw_p34 : lw_okq (⟨"KeyGraphModel", "outcome", "(I)J"⟩, 25) := ⟨⟨by decide +kernel, by decide +kernel⟩, List.mem_of_getElem? (i := 648) (by decide +kernel), List.mem_of_getElem? (i := 845) (by decide +kernel), List.mem_of_getElem? (i := 846) (by decide +kernel)⟩
def lw_privs_3 : List (MethodName × Nat) := [(⟨"KeyGraphModel", "taken", "(II)J"⟩, 25), (⟨"KeyGraphModel", "end", "(IIJ)I"⟩, 25), (⟨"KeyGraphModel", "outcome", "(I)J"⟩, 25)]
theorem lw_r3 : ∀ q ∈ lw_privs_3, lw_okq q := List.forall_mem_cons.mpr ⟨lw_p32, List.forall_mem_cons.mpr ⟨lw_p33, List.forall_mem_cons.mpr ⟨lw_p34, fun _ h => absurd h List.not_mem_nil⟩⟩⟩
def lw_privs : List (MethodName × Nat) := lw_privs_1 ++ (lw_privs_2 ++ (lw_privs_3))
def lw_tbl : List Cond := k2_sels lw_privs ++ tables_1
theorem lw_privs_ok : ∀ q ∈ lw_privs, lw_okq q := by
  show ∀ q ∈ lw_privs_1 ++ (lw_privs_2 ++ (lw_privs_3)), lw_okq q
  exact List.forall_mem_append.mpr ⟨lw_r1, List.forall_mem_append.mpr ⟨lw_r2, lw_r3⟩⟩
end
section
def TT : List Cond := lw_tbl.filter goodWord
theorem tt_i {w : Cond} {i : Nat} (h : lw_tbl[i]? = some w) (g : goodWord w = true) : w ∈ TT := List.mem_filter.mpr ⟨List.mem_of_getElem? h, g⟩
def y_KG_init : MethodName := ⟨"KeyGraph", "<init>", "()V"⟩
def y_Obj_init : MethodName := ⟨"java/lang/Object", "<init>", "()V"⟩
def y_AL_init : MethodName := ⟨"java/util/ArrayList", "<init>", "()V"⟩
def y_AbsL_init : MethodName := ⟨"java/util/AbstractList", "<init>", "()V"⟩
def y_AbsC_init : MethodName := ⟨"java/util/AbstractCollection", "<init>", "()V"⟩
def y_KG_piles : MethodName := ⟨"KeyGraph", "piles", "()[LKeyGraph$Pile;"⟩
def y_Pile_init : MethodName := ⟨"KeyGraph$Pile", "<init>", "()V"⟩
def y_KG_leaf : MethodName := ⟨"KeyGraph", "leaf", "(J)I"⟩
def y_AL_size : MethodName := ⟨"java/util/ArrayList", "size", "()I"⟩
def y_Key_init : MethodName := ⟨"KeyGraph$Key", "<init>", "(ILKeyGraph$Function;)V"⟩
def y_AL_add1 : MethodName := ⟨"java/util/ArrayList", "add", "(Ljava/lang/Object;)Z"⟩
def y_AL_add3 : MethodName := ⟨"java/util/ArrayList", "add", "(Ljava/lang/Object;[Ljava/lang/Object;I)V"⟩
def y_AL_grow0 : MethodName := ⟨"java/util/ArrayList", "grow", "()[Ljava/lang/Object;"⟩
def y_AL_grow1 : MethodName := ⟨"java/util/ArrayList", "grow", "(I)[Ljava/lang/Object;"⟩
def y_ASup_newLength : MethodName := ⟨"jdk/internal/util/ArraysSupport", "newLength", "(III)I"⟩
def y_Math_max : MethodName := ⟨"java/lang/Math", "max", "(II)I"⟩
def y_ASup_hugeLength : MethodName := ⟨"jdk/internal/util/ArraysSupport", "hugeLength", "(II)I"⟩
def y_Arrs_copyOf2 : MethodName := ⟨"java/util/Arrays", "copyOf", "([Ljava/lang/Object;I)[Ljava/lang/Object;"⟩
def y_Obj_getClass : MethodName := ⟨"java/lang/Object", "getClass", "()Ljava/lang/Class;"⟩
def y_Arrs_copyOf3 : MethodName := ⟨"java/util/Arrays", "copyOf", "([Ljava/lang/Object;ILjava/lang/Class;)[Ljava/lang/Object;"⟩
def y_Math_min : MethodName := ⟨"java/lang/Math", "min", "(II)I"⟩
def y_Sys_arraycopy : MethodName := ⟨"java/lang/System", "arraycopy", "(Ljava/lang/Object;ILjava/lang/Object;II)V"⟩
def y_KG_key : MethodName := ⟨"KeyGraph", "key", "(I)I"⟩
def y_KG_made : MethodName := ⟨"KeyGraph", "made", "(I)LKeyGraph$Function;"⟩
def y_Sum_init : MethodName := ⟨"KeyGraph$Sum", "<init>", "(Z)V"⟩
def y_Fun_init : MethodName := ⟨"KeyGraph$Function", "<init>", "()V"⟩
def y_First_init : MethodName := ⟨"KeyGraph$First", "<init>", "()V"⟩
def y_Choice_init : MethodName := ⟨"KeyGraph$Choice", "<init>", "()V"⟩
def y_Quot_init : MethodName := ⟨"KeyGraph$Quotient", "<init>", "()V"⟩
def y_Great_init : MethodName := ⟨"KeyGraph$Greatest", "<init>", "()V"⟩
def y_KG_asks : MethodName := ⟨"KeyGraph", "asks", "(II)I"⟩
def y_KG_isFunction : MethodName := ⟨"KeyGraph", "isFunction", "(I)Z"⟩
def y_KG_isKey : MethodName := ⟨"KeyGraph", "isKey", "(I)Z"⟩
def y_AL_get : MethodName := ⟨"java/util/ArrayList", "get", "(I)Ljava/lang/Object;"⟩
def y_Objs_checkIndex : MethodName := ⟨"java/util/Objects", "checkIndex", "(II)I"⟩
def y_Prec_checkIndex : MethodName := ⟨"jdk/internal/util/Preconditions", "checkIndex", "(IILjava/util/function/BiFunction;)I"⟩
def y_AL_elementData : MethodName := ⟨"java/util/ArrayList", "elementData", "(I)Ljava/lang/Object;"⟩
def y_Key_isLeaf : MethodName := ⟨"KeyGraph$Key", "isLeaf", "()Z"⟩
def y_KG_leadTo : MethodName := ⟨"KeyGraph", "leadTo", "(LKeyGraph$Key;)V"⟩
def y_KG_asksOne : MethodName := ⟨"KeyGraph", "asksOne", "(LKeyGraph$Key;)Z"⟩
def y_KG_isLeading : MethodName := ⟨"KeyGraph", "isLeading", "(LKeyGraph$Key;)Z"⟩
def y_AL_clear : MethodName := ⟨"java/util/ArrayList", "clear", "()V"⟩
def y_KG_raise : MethodName := ⟨"KeyGraph", "raise", "()V"⟩
def y_KG_cancel : MethodName := ⟨"KeyGraph", "cancel", "()I"⟩
def y_Pile_top : MethodName := ⟨"KeyGraph$Pile", "top", "()LKeyGraph$Key;"⟩
def y_KG_ring : MethodName := ⟨"KeyGraph", "ring", "(I)I"⟩
def y_KG_change : MethodName := ⟨"KeyGraph", "change", "(IJ)I"⟩
def y_KG_spoil : MethodName := ⟨"KeyGraph", "spoil", "(IZ)I"⟩
def y_KG_version : MethodName := ⟨"KeyGraph", "version", "()I"⟩
def y_KG_begin : MethodName := ⟨"KeyGraph", "begin", "(II)I"⟩
def y_KG_isWorker : MethodName := ⟨"KeyGraph", "isWorker", "(I)Z"⟩
def y_KG_isSure : MethodName := ⟨"KeyGraph", "isSure", "(LKeyGraph$Key;)Z"⟩
def y_KG_put : MethodName := ⟨"KeyGraph", "put", "(ILKeyGraph$Key;)V"⟩
def y_Fun_begin : MethodName := ⟨"KeyGraph$Function", "begin", "(I)V"⟩
def y_Choice_begin : MethodName := ⟨"KeyGraph$Choice", "begin", "(I)V"⟩
def y_Great_begin : MethodName := ⟨"KeyGraph$Greatest", "begin", "(I)V"⟩
def y_KG_step : MethodName := ⟨"KeyGraph", "step", "(I)I"⟩
def y_KG_stepOf : MethodName := ⟨"KeyGraph", "stepOf", "(I)I"⟩
def y_KG_check : MethodName := ⟨"KeyGraph", "check", "(ILKeyGraph$Pile;LKeyGraph$Key;)I"⟩
def y_KG_found : MethodName := ⟨"KeyGraph", "found", "(LKeyGraph$Pile;)I"⟩
def y_KG_goesDown : MethodName := ⟨"KeyGraph", "goesDown", "(ILKeyGraph$Key;)I"⟩
def y_KG_ends : MethodName := ⟨"KeyGraph", "ends", "(LKeyGraph$Pile;IJ)I"⟩
def y_Fun_fails : MethodName := ⟨"KeyGraph$Function", "fails", "()Z"⟩
def y_Fun_next : MethodName := ⟨"KeyGraph$Function", "next", "()I"⟩
def y_Choice_next : MethodName := ⟨"KeyGraph$Choice", "next", "()I"⟩
def y_Fun_result : MethodName := ⟨"KeyGraph$Function", "result", "()J"⟩
def y_Sum_result : MethodName := ⟨"KeyGraph$Sum", "result", "()J"⟩
def y_Fun_take : MethodName := ⟨"KeyGraph$Function", "take", "(J)V"⟩
def y_Choice_take : MethodName := ⟨"KeyGraph$Choice", "take", "(J)V"⟩
def y_Choice_with : MethodName := ⟨"KeyGraph$Choice", "with", "(J)V"⟩
def y_Fun_with : MethodName := ⟨"KeyGraph$Function", "with", "(J)V"⟩
def y_First_with : MethodName := ⟨"KeyGraph$First", "with", "(J)V"⟩
def y_Great_with : MethodName := ⟨"KeyGraph$Greatest", "with", "(J)V"⟩
def y_Quot_with : MethodName := ⟨"KeyGraph$Quotient", "with", "(J)V"⟩
def y_Sum_with : MethodName := ⟨"KeyGraph$Sum", "with", "(J)V"⟩
def y_KG_run : MethodName := ⟨"KeyGraph", "run", "(I)I"⟩
def y_KG_state : MethodName := ⟨"KeyGraph", "state", "(I)I"⟩
def y_KG_worked : MethodName := ⟨"KeyGraph", "worked", "(I)I"⟩
def y_KG_kept : MethodName := ⟨"KeyGraph", "kept", "(I)I"⟩
def y_KG_changed : MethodName := ⟨"KeyGraph", "changed", "(I)I"⟩
def y_KG_asked : MethodName := ⟨"KeyGraph", "asked", "(II)I"⟩
def y_KG_drop : MethodName := ⟨"KeyGraph", "drop", "(I)Z"⟩
def y_Law_value : MethodName := ⟨"KeyGraphLaw", "value", "(LKeyGraph;I[J)I"⟩
def y_KG_value : MethodName := ⟨"KeyGraph", "value", "(I)J"⟩
def y_RTE_init : MethodName := ⟨"java/lang/RuntimeException", "<init>", "()V"⟩
def y_RTE_initx : MethodName := ⟨"java/lang/RuntimeException", "<init>", "(Ljava/lang/String;)V"⟩
def y_Exc_init : MethodName := ⟨"java/lang/Exception", "<init>", "()V"⟩
def y_Exc_initx : MethodName := ⟨"java/lang/Exception", "<init>", "(Ljava/lang/String;)V"⟩
def y_Thr_init : MethodName := ⟨"java/lang/Throwable", "<init>", "()V"⟩
def y_Thr_initx : MethodName := ⟨"java/lang/Throwable", "<init>", "(Ljava/lang/String;)V"⟩
def y_Thr_fillInStackTracex : MethodName := ⟨"java/lang/Throwable", "fillInStackTrace", "(I)Ljava/lang/Throwable;"⟩
def y_Thr_fillInStackTrace : MethodName := ⟨"java/lang/Throwable", "fillInStackTrace", "()Ljava/lang/Throwable;"⟩
def y_IAE_init : MethodName := ⟨"java/lang/IllegalArgumentException", "<init>", "()V"⟩
def y_ISE_init : MethodName := ⟨"java/lang/IllegalStateException", "<init>", "()V"⟩
def y_Mod_init : MethodName := ⟨"KeyGraphModel", "<init>", "()V"⟩
def y_Mod_thrown : MethodName := ⟨"KeyGraphModel", "thrown", "()I"⟩
def y_Mod_leaf : MethodName := ⟨"KeyGraphModel", "leaf", "(J)I"⟩
def y_Mod_make : MethodName := ⟨"KeyGraphModel", "make", "(I)I"⟩
def y_Mod_key : MethodName := ⟨"KeyGraphModel", "key", "(I)I"⟩
def y_Mod_asks : MethodName := ⟨"KeyGraphModel", "asks", "(II)I"⟩
def y_Mod_isKey : MethodName := ⟨"KeyGraphModel", "isKey", "(I)Z"⟩
def y_Mod_isLeaf : MethodName := ⟨"KeyGraphModel", "isLeaf", "(I)Z"⟩
def y_Mod_fillLeads : MethodName := ⟨"KeyGraphModel", "fillLeads", "(I)V"⟩
def y_Mod_rowKey : MethodName := ⟨"KeyGraphModel", "rowKey", "(II)I"⟩
def y_Mod_firstBack : MethodName := ⟨"KeyGraphModel", "firstBack", "(I)I"⟩
def y_Mod_next : MethodName := ⟨"KeyGraphModel", "next", "()I"⟩
def y_Mod_empty : MethodName := ⟨"KeyGraphModel", "empty", "()I"⟩
def y_Mod_ring : MethodName := ⟨"KeyGraphModel", "ring", "(I)I"⟩
def y_Mod_change : MethodName := ⟨"KeyGraphModel", "change", "(IJ)I"⟩
def y_Mod_spoil : MethodName := ⟨"KeyGraphModel", "spoil", "(IZ)I"⟩
def y_Mod_begin : MethodName := ⟨"KeyGraphModel", "begin", "(II)I"⟩
def y_Mod_isWorker : MethodName := ⟨"KeyGraphModel", "isWorker", "(I)Z"⟩
def y_Mod_pileOf : MethodName := ⟨"KeyGraphModel", "pileOf", "(I)I"⟩
def y_Mod_isSure : MethodName := ⟨"KeyGraphModel", "isSure", "(I)Z"⟩
def y_Mod_lay : MethodName := ⟨"KeyGraphModel", "lay", "(II)V"⟩
def y_Mod_cancel : MethodName := ⟨"KeyGraphModel", "cancel", "()I"⟩
def y_Mod_step : MethodName := ⟨"KeyGraphModel", "step", "(I)I"⟩
def y_Mod_go : MethodName := ⟨"KeyGraphModel", "go", "(I)I"⟩
def y_Mod_check : MethodName := ⟨"KeyGraphModel", "check", "(II)I"⟩
def y_Mod_await : MethodName := ⟨"KeyGraphModel", "await", "(II)I"⟩
def y_Mod_comes : MethodName := ⟨"KeyGraphModel", "comes", "(I)I"⟩
def y_Mod_taken : MethodName := ⟨"KeyGraphModel", "taken", "(II)J"⟩
def y_Mod_remainder : MethodName := ⟨"KeyGraphModel", "remainder", "(JI)I"⟩
def y_Mod_end : MethodName := ⟨"KeyGraphModel", "end", "(IIJ)I"⟩
def y_Mod_outcome : MethodName := ⟨"KeyGraphModel", "outcome", "(I)J"⟩
def y_Mod_run : MethodName := ⟨"KeyGraphModel", "run", "(I)I"⟩
def y_Mod_state : MethodName := ⟨"KeyGraphModel", "state", "(I)I"⟩
def y_Mod_value : MethodName := ⟨"KeyGraphModel", "value", "(I)J"⟩
def y_Mod_worked : MethodName := ⟨"KeyGraphModel", "worked", "(I)I"⟩
def y_Mod_kept : MethodName := ⟨"KeyGraphModel", "kept", "(I)I"⟩
def y_Mod_changed : MethodName := ⟨"KeyGraphModel", "changed", "(I)I"⟩
def y_Mod_asked : MethodName := ⟨"KeyGraphModel", "asked", "(II)I"⟩
def y_Mod_drop : MethodName := ⟨"KeyGraphModel", "drop", "(I)Z"⟩
def y_Mod_version : MethodName := ⟨"KeyGraphModel", "version", "()I"⟩
abbrev b_KG_init : ByteArray := prog_1_method_3_code
abbrev b_Obj_init : ByteArray := object_method_1_code
abbrev b_AL_init : ByteArray := prog_24_method_2_code
abbrev b_AbsL_init : ByteArray := prog_23_method_1_code
abbrev b_AbsC_init : ByteArray := prog_22_method_1_code
abbrev b_KG_piles : ByteArray := prog_1_method_2_code
abbrev b_Pile_init : ByteArray := prog_7_method_1_code
abbrev b_KG_leaf : ByteArray := prog_1_method_7_code
abbrev b_AL_size : ByteArray := prog_24_method_8_code
abbrev b_Key_init : ByteArray := prog_6_method_1_code
abbrev b_AL_add1 : ByteArray := prog_24_method_25_code
abbrev b_AL_add3 : ByteArray := prog_24_method_24_code
abbrev b_AL_grow0 : ByteArray := prog_24_method_7_code
abbrev b_AL_grow1 : ByteArray := prog_24_method_6_code
abbrev b_ASup_newLength : ByteArray := prog_31_method_27_code
abbrev b_Math_max : ByteArray := prog_18_method_65_code
abbrev b_ASup_hugeLength : ByteArray := prog_31_method_28_code
abbrev b_Arrs_copyOf2 : ByteArray := prog_25_method_119_code
abbrev b_Arrs_copyOf3 : ByteArray := prog_25_method_120_code
abbrev b_Math_min : ByteArray := prog_18_method_69_code
abbrev b_KG_key : ByteArray := prog_1_method_8_code
abbrev b_KG_made : ByteArray := prog_1_method_1_code
abbrev b_Sum_init : ByteArray := prog_9_method_1_code
abbrev b_Fun_init : ByteArray := prog_4_method_1_code
abbrev b_First_init : ByteArray := prog_3_method_1_code
abbrev b_Choice_init : ByteArray := prog_2_method_1_code
abbrev b_Quot_init : ByteArray := prog_8_method_1_code
abbrev b_Great_init : ByteArray := prog_5_method_1_code
abbrev b_KG_asks : ByteArray := prog_1_method_12_code
abbrev b_KG_isFunction : ByteArray := prog_1_method_5_code
abbrev b_KG_isKey : ByteArray := prog_1_method_4_code
abbrev b_AL_get : ByteArray := prog_24_method_20_code
abbrev b_Objs_checkIndex : ByteArray := prog_28_method_17_code
abbrev b_Prec_checkIndex : ByteArray := prog_32_method_11_code
abbrev b_AL_elementData : ByteArray := prog_24_method_18_code
abbrev b_Key_isLeaf : ByteArray := prog_6_method_2_code
abbrev b_KG_leadTo : ByteArray := prog_1_method_11_code
abbrev b_KG_asksOne : ByteArray := prog_1_method_10_code
abbrev b_KG_isLeading : ByteArray := prog_1_method_9_code
abbrev b_AL_clear : ByteArray := prog_24_method_40_code
abbrev b_KG_raise : ByteArray := prog_1_method_14_code
abbrev b_KG_cancel : ByteArray := prog_1_method_21_code
abbrev b_Pile_top : ByteArray := prog_7_method_2_code
abbrev b_KG_ring : ByteArray := prog_1_method_13_code
abbrev b_KG_change : ByteArray := prog_1_method_15_code
abbrev b_KG_spoil : ByteArray := prog_1_method_16_code
abbrev b_KG_version : ByteArray := prog_1_method_17_code
abbrev b_KG_begin : ByteArray := prog_1_method_20_code
abbrev b_KG_isWorker : ByteArray := prog_1_method_18_code
abbrev b_KG_isSure : ByteArray := prog_1_method_6_code
abbrev b_KG_put : ByteArray := prog_1_method_19_code
abbrev b_Choice_begin : ByteArray := prog_2_method_2_code
abbrev b_Great_begin : ByteArray := prog_5_method_2_code
abbrev b_Fun_begin : ByteArray := prog_4_method_2_code
abbrev b_KG_step : ByteArray := prog_1_method_27_code
abbrev b_KG_stepOf : ByteArray := prog_1_method_25_code
abbrev b_KG_check : ByteArray := prog_1_method_26_code
abbrev b_KG_found : ByteArray := prog_1_method_22_code
abbrev b_KG_goesDown : ByteArray := prog_1_method_24_code
abbrev b_KG_ends : ByteArray := prog_1_method_23_code
abbrev b_Fun_fails : ByteArray := prog_4_method_7_code
abbrev b_Choice_next : ByteArray := prog_2_method_3_code
abbrev b_Fun_next : ByteArray := prog_4_method_3_code
abbrev b_Sum_result : ByteArray := prog_9_method_3_code
abbrev b_Fun_result : ByteArray := prog_4_method_6_code
abbrev b_Choice_take : ByteArray := prog_2_method_4_code
abbrev b_Choice_with : ByteArray := prog_2_method_5_code
abbrev b_Fun_take : ByteArray := prog_4_method_4_code
abbrev b_First_with : ByteArray := prog_3_method_2_code
abbrev b_Great_with : ByteArray := prog_5_method_3_code
abbrev b_Quot_with : ByteArray := prog_8_method_2_code
abbrev b_Sum_with : ByteArray := prog_9_method_2_code
abbrev b_KG_run : ByteArray := prog_1_method_28_code
abbrev b_KG_state : ByteArray := prog_1_method_29_code
abbrev b_KG_worked : ByteArray := prog_1_method_31_code
abbrev b_KG_kept : ByteArray := prog_1_method_32_code
abbrev b_KG_changed : ByteArray := prog_1_method_33_code
abbrev b_KG_asked : ByteArray := prog_1_method_34_code
abbrev b_KG_drop : ByteArray := prog_1_method_35_code
abbrev b_Law_value : ByteArray := method_3_code
abbrev b_KG_value : ByteArray := prog_1_method_30_code
abbrev b_Thr_init : ByteArray := prog_21_method_1_code
abbrev b_Thr_fillInStackTrace : ByteArray := prog_21_method_18_code
abbrev b_IAE_init : ByteArray := prog_15_method_1_code
abbrev b_RTE_init : ByteArray := prog_19_method_1_code
abbrev b_Exc_init : ByteArray := prog_14_method_1_code
abbrev b_ISE_init : ByteArray := prog_16_method_1_code
abbrev b_Mod_init : ByteArray := prog_11_method_1_code
abbrev b_Mod_thrown : ByteArray := prog_11_method_2_code
abbrev b_Mod_leaf : ByteArray := prog_11_method_6_code
abbrev b_Mod_make : ByteArray := prog_11_method_5_code
abbrev b_Mod_key : ByteArray := prog_11_method_7_code
abbrev b_Mod_asks : ByteArray := prog_11_method_12_code
abbrev b_Mod_isKey : ByteArray := prog_11_method_3_code
abbrev b_Mod_isLeaf : ByteArray := prog_11_method_4_code
abbrev b_Mod_fillLeads : ByteArray := prog_11_method_11_code
abbrev b_Mod_rowKey : ByteArray := prog_11_method_10_code
abbrev b_Mod_firstBack : ByteArray := prog_11_method_13_code
abbrev b_Mod_next : ByteArray := prog_11_method_9_code
abbrev b_Mod_empty : ByteArray := prog_11_method_8_code
abbrev b_Mod_ring : ByteArray := prog_11_method_14_code
abbrev b_Mod_change : ByteArray := prog_11_method_15_code
abbrev b_Mod_spoil : ByteArray := prog_11_method_16_code
abbrev b_Mod_begin : ByteArray := prog_11_method_21_code
abbrev b_Mod_isWorker : ByteArray := prog_11_method_20_code
abbrev b_Mod_pileOf : ByteArray := prog_11_method_18_code
abbrev b_Mod_isSure : ByteArray := prog_11_method_17_code
abbrev b_Mod_lay : ByteArray := prog_11_method_19_code
abbrev b_Mod_cancel : ByteArray := prog_11_method_22_code
abbrev b_Mod_step : ByteArray := prog_11_method_31_code
abbrev b_Mod_go : ByteArray := prog_11_method_30_code
abbrev b_Mod_check : ByteArray := prog_11_method_29_code
abbrev b_Mod_await : ByteArray := prog_11_method_28_code
abbrev b_Mod_comes : ByteArray := prog_11_method_24_code
abbrev b_Mod_taken : ByteArray := prog_11_method_23_code
abbrev b_Mod_remainder : ByteArray := prog_11_method_25_code
abbrev b_Mod_end : ByteArray := prog_11_method_27_code
abbrev b_Mod_outcome : ByteArray := prog_11_method_26_code
abbrev b_Mod_run : ByteArray := prog_11_method_32_code
abbrev b_Mod_state : ByteArray := prog_11_method_33_code
abbrev b_Mod_value : ByteArray := prog_11_method_34_code
abbrev b_Mod_worked : ByteArray := prog_11_method_35_code
abbrev b_Mod_kept : ByteArray := prog_11_method_36_code
abbrev b_Mod_changed : ByteArray := prog_11_method_37_code
abbrev b_Mod_asked : ByteArray := prog_11_method_38_code
abbrev b_Mod_drop : ByteArray := prog_11_method_39_code
abbrev b_Mod_version : ByteArray := prog_11_method_40_code
def w_KG_init : List Cond := .code y_KG_init b_KG_init 1 none :: TT
def w_Obj_init : List Cond := .code y_Obj_init b_Obj_init 1 none :: TT
def w_AL_init : List Cond := .code y_AL_init b_AL_init 1 none :: TT
def w_AbsL_init : List Cond := .code y_AbsL_init b_AbsL_init 1 none :: TT
def w_AbsC_init : List Cond := .code y_AbsC_init b_AbsC_init 1 none :: TT
def w_KG_piles : List Cond := .code y_KG_piles b_KG_piles 2 (some (FieldType.array (FieldType.object "KeyGraph$Pile"))) :: TT
def w_Pile_init : List Cond := .code y_Pile_init b_Pile_init 1 none :: TT
def w_KG_leaf : List Cond := .code y_KG_leaf b_KG_leaf 4 (some FieldType.int) :: TT
def w_AL_size : List Cond := .code y_AL_size b_AL_size 1 (some FieldType.int) :: TT
def w_Key_init : List Cond := .code y_Key_init b_Key_init 3 none :: TT
def w_AL_add1 : List Cond := .code y_AL_add1 b_AL_add1 2 (some FieldType.boolean) :: TT
def w_AL_add3 : List Cond := .code y_AL_add3 b_AL_add3 4 none :: TT
def w_AL_grow0 : List Cond := .code y_AL_grow0 b_AL_grow0 1 (some (FieldType.array (FieldType.object "java/lang/Object"))) :: TT
def w_AL_grow1 : List Cond := .code y_AL_grow1 b_AL_grow1 4 (some (FieldType.array (FieldType.object "java/lang/Object"))) :: TT
def w_ASup_newLength : List Cond := .code y_ASup_newLength b_ASup_newLength 4 (some FieldType.int) :: TT
def w_Math_max : List Cond := .code y_Math_max b_Math_max 2 (some FieldType.int) :: TT
def w_ASup_hugeLength : List Cond := .code y_ASup_hugeLength b_ASup_hugeLength 3 (some FieldType.int) :: TT
def w_Arrs_copyOf2 : List Cond := .code y_Arrs_copyOf2 b_Arrs_copyOf2 2 (some (FieldType.array (FieldType.object "java/lang/Object"))) :: TT
def w_Arrs_copyOf3 : List Cond := .code y_Arrs_copyOf3 b_Arrs_copyOf3 4 (some (FieldType.array (FieldType.object "java/lang/Object"))) :: TT
def w_Math_min : List Cond := .code y_Math_min b_Math_min 2 (some FieldType.int) :: TT
def w_KG_key : List Cond := .code y_KG_key b_KG_key 2 (some FieldType.int) :: TT
def w_KG_made : List Cond := .code y_KG_made b_KG_made 1 (some (FieldType.object "KeyGraph$Function")) :: TT
def w_Sum_init : List Cond := .code y_Sum_init b_Sum_init 2 none :: TT
def w_Fun_init : List Cond := .code y_Fun_init b_Fun_init 1 none :: TT
def w_First_init : List Cond := .code y_First_init b_First_init 1 none :: TT
def w_Choice_init : List Cond := .code y_Choice_init b_Choice_init 1 none :: TT
def w_Quot_init : List Cond := .code y_Quot_init b_Quot_init 1 none :: TT
def w_Great_init : List Cond := .code y_Great_init b_Great_init 1 none :: TT
def w_KG_asks : List Cond := .code y_KG_asks b_KG_asks 7 (some FieldType.int) :: TT
def w_KG_isFunction : List Cond := .code y_KG_isFunction b_KG_isFunction 2 (some FieldType.boolean) :: TT
def w_KG_isKey : List Cond := .code y_KG_isKey b_KG_isKey 2 (some FieldType.boolean) :: TT
def w_AL_get : List Cond := .code y_AL_get b_AL_get 2 (some (FieldType.object "java/lang/Object")) :: TT
def w_Objs_checkIndex : List Cond := .code y_Objs_checkIndex b_Objs_checkIndex 2 (some FieldType.int) :: TT
def w_Prec_checkIndex : List Cond := .code y_Prec_checkIndex b_Prec_checkIndex 3 (some FieldType.int) :: TT
def w_AL_elementData : List Cond := .code y_AL_elementData b_AL_elementData 2 (some (FieldType.object "java/lang/Object")) :: TT
def w_Key_isLeaf : List Cond := .code y_Key_isLeaf b_Key_isLeaf 1 (some FieldType.boolean) :: TT
def w_KG_leadTo : List Cond := .code y_KG_leadTo b_KG_leadTo 4 none :: TT
def w_KG_asksOne : List Cond := .code y_KG_asksOne b_KG_asksOne 4 (some FieldType.boolean) :: TT
def w_KG_isLeading : List Cond := .code y_KG_isLeading b_KG_isLeading 2 (some FieldType.boolean) :: TT
def w_AL_clear : List Cond := .code y_AL_clear b_AL_clear 4 none :: TT
def w_KG_raise : List Cond := .code y_KG_raise b_KG_raise 1 none :: TT
def w_KG_cancel : List Cond := .code y_KG_cancel b_KG_cancel 4 (some FieldType.int) :: TT
def w_Pile_top : List Cond := .code y_Pile_top b_Pile_top 1 (some (FieldType.object "KeyGraph$Key")) :: TT
def w_KG_ring : List Cond := .code y_KG_ring b_KG_ring 2 (some FieldType.int) :: TT
def w_KG_change : List Cond := .code y_KG_change b_KG_change 5 (some FieldType.int) :: TT
def w_KG_spoil : List Cond := .code y_KG_spoil b_KG_spoil 4 (some FieldType.int) :: TT
def w_KG_version : List Cond := .code y_KG_version b_KG_version 1 (some FieldType.int) :: TT
def w_KG_begin : List Cond := .code y_KG_begin b_KG_begin 4 (some FieldType.int) :: TT
def w_KG_isWorker : List Cond := .code y_KG_isWorker b_KG_isWorker 1 (some FieldType.boolean) :: TT
def w_KG_isSure : List Cond := .code y_KG_isSure b_KG_isSure 2 (some FieldType.boolean) :: TT
def w_KG_put : List Cond := .code y_KG_put b_KG_put 4 none :: TT
def w_Choice_begin : List Cond := .code y_Choice_begin b_Choice_begin 2 none :: TT
def w_Great_begin : List Cond := .code y_Great_begin b_Great_begin 2 none :: TT
def w_Fun_begin : List Cond := .code y_Fun_begin b_Fun_begin 2 none :: TT
def w_KG_step : List Cond := .code y_KG_step b_KG_step 2 (some FieldType.int) :: TT
def w_KG_stepOf : List Cond := .code y_KG_stepOf b_KG_stepOf 6 (some FieldType.int) :: TT
def w_KG_check : List Cond := .code y_KG_check b_KG_check 5 (some FieldType.int) :: TT
def w_KG_found : List Cond := .code y_KG_found b_KG_found 3 (some FieldType.int) :: TT
def w_KG_goesDown : List Cond := .code y_KG_goesDown b_KG_goesDown 3 (some FieldType.int) :: TT
def w_KG_ends : List Cond := .code y_KG_ends b_KG_ends 7 (some FieldType.int) :: TT
def w_Fun_fails : List Cond := .code y_Fun_fails b_Fun_fails 1 (some FieldType.boolean) :: TT
def w_Choice_next : List Cond := .code y_Choice_next b_Choice_next 1 (some FieldType.int) :: TT
def w_Fun_next : List Cond := .code y_Fun_next b_Fun_next 1 (some FieldType.int) :: TT
def w_Sum_result : List Cond := .code y_Sum_result b_Sum_result 1 (some FieldType.long) :: TT
def w_Fun_result : List Cond := .code y_Fun_result b_Fun_result 1 (some FieldType.long) :: TT
def w_Choice_take : List Cond := .code y_Choice_take b_Choice_take 5 none :: TT
def w_Choice_with : List Cond := .code y_Choice_with b_Choice_with 3 none :: TT
def w_Fun_take : List Cond := .code y_Fun_take b_Fun_take 3 none :: TT
def w_First_with : List Cond := .code y_First_with b_First_with 3 none :: TT
def w_Great_with : List Cond := .code y_Great_with b_Great_with 3 none :: TT
def w_Quot_with : List Cond := .code y_Quot_with b_Quot_with 3 none :: TT
def w_Sum_with : List Cond := .code y_Sum_with b_Sum_with 3 none :: TT
def w_KG_run : List Cond := .code y_KG_run b_KG_run 5 (some FieldType.int) :: TT
def w_KG_state : List Cond := .code y_KG_state b_KG_state 2 (some FieldType.int) :: TT
def w_KG_worked : List Cond := .code y_KG_worked b_KG_worked 2 (some FieldType.int) :: TT
def w_KG_kept : List Cond := .code y_KG_kept b_KG_kept 2 (some FieldType.int) :: TT
def w_KG_changed : List Cond := .code y_KG_changed b_KG_changed 2 (some FieldType.int) :: TT
def w_KG_asked : List Cond := .code y_KG_asked b_KG_asked 3 (some FieldType.int) :: TT
def w_KG_drop : List Cond := .code y_KG_drop b_KG_drop 2 (some FieldType.boolean) :: TT
def w_KG_value : List Cond := .code y_KG_value b_KG_value 2 (some FieldType.long) :: TT
def w_Thr_init : List Cond := .code y_Thr_init b_Thr_init 1 none :: TT
def w_IAE_init : List Cond := .code y_IAE_init b_IAE_init 1 none :: TT
def w_RTE_init : List Cond := .code y_RTE_init b_RTE_init 1 none :: TT
def w_Exc_init : List Cond := .code y_Exc_init b_Exc_init 1 none :: TT
def w_ISE_init : List Cond := .code y_ISE_init b_ISE_init 1 none :: TT
def w_Mod_init : List Cond := .code y_Mod_init b_Mod_init 1 none :: TT
def w_Mod_thrown : List Cond := .code y_Mod_thrown b_Mod_thrown 1 (some FieldType.int) :: TT
def w_Mod_leaf : List Cond := .code y_Mod_leaf b_Mod_leaf 3 (some FieldType.int) :: TT
def w_Mod_make : List Cond := .code y_Mod_make b_Mod_make 2 (some FieldType.int) :: TT
def w_Mod_key : List Cond := .code y_Mod_key b_Mod_key 2 (some FieldType.int) :: TT
def w_Mod_asks : List Cond := .code y_Mod_asks b_Mod_asks 4 (some FieldType.int) :: TT
def w_Mod_isKey : List Cond := .code y_Mod_isKey b_Mod_isKey 2 (some FieldType.boolean) :: TT
def w_Mod_isLeaf : List Cond := .code y_Mod_isLeaf b_Mod_isLeaf 2 (some FieldType.boolean) :: TT
def w_Mod_fillLeads : List Cond := .code y_Mod_fillLeads b_Mod_fillLeads 5 none :: TT
def w_Mod_rowKey : List Cond := .code y_Mod_rowKey b_Mod_rowKey 3 (some FieldType.int) :: TT
def w_Mod_firstBack : List Cond := .code y_Mod_firstBack b_Mod_firstBack 3 (some FieldType.int) :: TT
def w_Mod_next : List Cond := .code y_Mod_next b_Mod_next 1 (some FieldType.int) :: TT
def w_Mod_empty : List Cond := .code y_Mod_empty b_Mod_empty 3 (some FieldType.int) :: TT
def w_Mod_ring : List Cond := .code y_Mod_ring b_Mod_ring 2 (some FieldType.int) :: TT
def w_Mod_change : List Cond := .code y_Mod_change b_Mod_change 4 (some FieldType.int) :: TT
def w_Mod_spoil : List Cond := .code y_Mod_spoil b_Mod_spoil 3 (some FieldType.int) :: TT
def w_Mod_begin : List Cond := .code y_Mod_begin b_Mod_begin 3 (some FieldType.int) :: TT
def w_Mod_isWorker : List Cond := .code y_Mod_isWorker b_Mod_isWorker 1 (some FieldType.boolean) :: TT
def w_Mod_pileOf : List Cond := .code y_Mod_pileOf b_Mod_pileOf 5 (some FieldType.int) :: TT
def w_Mod_isSure : List Cond := .code y_Mod_isSure b_Mod_isSure 2 (some FieldType.boolean) :: TT
def w_Mod_lay : List Cond := .code y_Mod_lay b_Mod_lay 4 none :: TT
def w_Mod_cancel : List Cond := .code y_Mod_cancel b_Mod_cancel 1 (some FieldType.int) :: TT
def w_Mod_step : List Cond := .code y_Mod_step b_Mod_step 2 (some FieldType.int) :: TT
def w_Mod_go : List Cond := .code y_Mod_go b_Mod_go 5 (some FieldType.int) :: TT
def w_Mod_check : List Cond := .code y_Mod_check b_Mod_check 5 (some FieldType.int) :: TT
def w_Mod_await : List Cond := .code y_Mod_await b_Mod_await 3 (some FieldType.int) :: TT
def w_Mod_comes : List Cond := .code y_Mod_comes b_Mod_comes 5 (some FieldType.int) :: TT
def w_Mod_taken : List Cond := .code y_Mod_taken b_Mod_taken 3 (some FieldType.long) :: TT
def w_Mod_remainder : List Cond := .code y_Mod_remainder b_Mod_remainder 4 (some FieldType.int) :: TT
def w_Mod_end : List Cond := .code y_Mod_end b_Mod_end 9 (some FieldType.int) :: TT
def w_Mod_outcome : List Cond := .code y_Mod_outcome b_Mod_outcome 9 (some FieldType.long) :: TT
def w_Mod_run : List Cond := .code y_Mod_run b_Mod_run 3 (some FieldType.int) :: TT
def w_Mod_state : List Cond := .code y_Mod_state b_Mod_state 2 (some FieldType.int) :: TT
def w_Mod_value : List Cond := .code y_Mod_value b_Mod_value 2 (some FieldType.long) :: TT
def w_Mod_worked : List Cond := .code y_Mod_worked b_Mod_worked 2 (some FieldType.int) :: TT
def w_Mod_kept : List Cond := .code y_Mod_kept b_Mod_kept 2 (some FieldType.int) :: TT
def w_Mod_changed : List Cond := .code y_Mod_changed b_Mod_changed 2 (some FieldType.int) :: TT
def w_Mod_asked : List Cond := .code y_Mod_asked b_Mod_asked 3 (some FieldType.int) :: TT
def w_Mod_drop : List Cond := .code y_Mod_drop b_Mod_drop 2 (some FieldType.boolean) :: TT
def w_Mod_version : List Cond := .code y_Mod_version b_Mod_version 1 (some FieldType.int) :: TT
theorem q_0 : Cond.initialized "KeyGraphLaw" ∈ TT := tt_i (i := 35) (by decide +kernel) rfl
theorem q_1 : Cond.initialized "KeyGraph" ∈ TT := tt_i (i := 36) (by decide +kernel) rfl
theorem q_2 : Cond.initialized "java/util/AbstractCollection" ∈ TT := tt_i (i := 37) (by decide +kernel) rfl
theorem q_3 : Cond.initialized "java/util/AbstractList" ∈ TT := tt_i (i := 38) (by decide +kernel) rfl
theorem q_4 : Cond.initialized "java/util/ArrayList" ∈ TT := tt_i (i := 39) (by decide +kernel) rfl
theorem q_5 : Cond.initialized "KeyGraph$Pile" ∈ TT := tt_i (i := 40) (by decide +kernel) rfl
theorem q_6 : Cond.initialized "KeyGraphModel" ∈ TT := tt_i (i := 41) (by decide +kernel) rfl
theorem q_7 : Cond.initialized "KeyGraph$Key" ∈ TT := tt_i (i := 42) (by decide +kernel) rfl
theorem q_8 : Cond.initialized "jdk/internal/util/ArraysSupport" ∈ TT := tt_i (i := 43) (by decide +kernel) rfl
theorem q_9 : Cond.initialized "java/lang/Math" ∈ TT := tt_i (i := 44) (by decide +kernel) rfl
theorem q_10 : Cond.initialized "java/util/Arrays" ∈ TT := tt_i (i := 45) (by decide +kernel) rfl
theorem q_11 : Cond.initialized "java/lang/System" ∈ TT := tt_i (i := 46) (by decide +kernel) rfl
theorem q_12 : Cond.initialized "KeyGraph$Function" ∈ TT := tt_i (i := 47) (by decide +kernel) rfl
theorem q_13 : Cond.initialized "KeyGraph$Sum" ∈ TT := tt_i (i := 48) (by decide +kernel) rfl
theorem q_14 : Cond.initialized "KeyGraph$First" ∈ TT := tt_i (i := 49) (by decide +kernel) rfl
theorem q_15 : Cond.initialized "KeyGraph$Choice" ∈ TT := tt_i (i := 50) (by decide +kernel) rfl
theorem q_16 : Cond.initialized "KeyGraph$Quotient" ∈ TT := tt_i (i := 51) (by decide +kernel) rfl
theorem q_17 : Cond.initialized "KeyGraph$Greatest" ∈ TT := tt_i (i := 52) (by decide +kernel) rfl
theorem q_18 : Cond.initialized "java/util/Objects" ∈ TT := tt_i (i := 53) (by decide +kernel) rfl
theorem q_19 : Cond.initialized "jdk/internal/util/Preconditions" ∈ TT := tt_i (i := 54) (by decide +kernel) rfl
theorem q_20 : Cond.initialized "java/lang/Throwable" ∈ TT := tt_i (i := 55) (by decide +kernel) rfl
theorem q_21 : Cond.initialized "java/lang/Exception" ∈ TT := tt_i (i := 56) (by decide +kernel) rfl
theorem q_22 : Cond.initialized "java/lang/RuntimeException" ∈ TT := tt_i (i := 57) (by decide +kernel) rfl
theorem q_23 : Cond.initialized "java/lang/IllegalArgumentException" ∈ TT := tt_i (i := 58) (by decide +kernel) rfl
theorem q_24 : Cond.initialized "java/lang/IllegalStateException" ∈ TT := tt_i (i := 59) (by decide +kernel) rfl
theorem q_25 : Cond.classLink "KeyGraphLaw" 8 "KeyGraph" ∈ TT := tt_i (i := 60) (by decide +kernel) rfl
theorem q_26 : Cond.instantiable "KeyGraph" 5 ∈ TT := tt_i (i := 61) (by decide +kernel) rfl
theorem q_27 : Cond.methodLink "KeyGraphLaw" 17 y_KG_init ∈ TT := tt_i (i := 62) (by decide +kernel) rfl
theorem q_28 : Cond.instanceMethod y_KG_init ∈ TT := tt_i (i := 63) (by decide +kernel) rfl
set_option maxRecDepth 20000 in
theorem q_29 : Cond.code y_KG_init prog_1_method_3_code 1 none ∈ TT := tt_i (i := 64) rfl rfl
theorem q_30 : Cond.methodLink "KeyGraph" 26 y_Obj_init ∈ TT := tt_i (i := 65) (by decide +kernel) rfl
theorem q_31 : Cond.instanceMethod y_Obj_init ∈ TT := tt_i (i := 66) (by decide +kernel) rfl
set_option maxRecDepth 20000 in
theorem q_32 : Cond.code y_Obj_init object_method_1_code 1 none ∈ TT := tt_i (i := 67) rfl rfl
theorem q_33 : Cond.classLink "KeyGraph" 29 "java/util/ArrayList" ∈ TT := tt_i (i := 68) (by decide +kernel) rfl
theorem q_34 : Cond.instantiable "java/util/ArrayList" 3 ∈ TT := tt_i (i := 69) (by decide +kernel) rfl
theorem q_35 : Cond.methodLink "KeyGraph" 31 y_AL_init ∈ TT := tt_i (i := 70) (by decide +kernel) rfl
theorem q_36 : Cond.instanceMethod y_AL_init ∈ TT := tt_i (i := 71) (by decide +kernel) rfl
set_option maxRecDepth 20000 in
theorem q_37 : Cond.code y_AL_init prog_24_method_2_code 1 none ∈ TT := tt_i (i := 72) rfl rfl
theorem q_38 : Cond.methodLink "java/util/ArrayList" 1 y_AbsL_init ∈ TT := tt_i (i := 73) (by decide +kernel) rfl
theorem q_39 : Cond.instanceMethod y_AbsL_init ∈ TT := tt_i (i := 74) (by decide +kernel) rfl
set_option maxRecDepth 20000 in
theorem q_40 : Cond.code y_AbsL_init prog_23_method_1_code 1 none ∈ TT := tt_i (i := 75) rfl rfl
theorem q_41 : Cond.methodLink "java/util/AbstractList" 1 y_AbsC_init ∈ TT := tt_i (i := 76) (by decide +kernel) rfl
theorem q_42 : Cond.instanceMethod y_AbsC_init ∈ TT := tt_i (i := 77) (by decide +kernel) rfl
set_option maxRecDepth 20000 in
theorem q_43 : Cond.code y_AbsC_init prog_22_method_1_code 1 none ∈ TT := tt_i (i := 78) rfl rfl
theorem q_44 : Cond.methodLink "java/util/AbstractCollection" 1 y_Obj_init ∈ TT := tt_i (i := 79) (by decide +kernel) rfl
theorem q_45 : Cond.fieldLink "java/util/ArrayList" 39 "java/util/ArrayList" "DEFAULTCAPACITY_EMPTY_ELEMENTDATA" "[Ljava/lang/Object;" ∈ TT := tt_i (i := 80) (by decide +kernel) rfl
theorem q_47 : Cond.fieldLink "java/util/ArrayList" 9 "java/util/ArrayList" "elementData" "[Ljava/lang/Object;" ∈ TT := tt_i (i := 82) (by decide +kernel) rfl
theorem q_48 : Cond.fieldLink "java/util/ArrayList" 48 "java/util/ArrayList" "size" "I" ∈ TT := tt_i (i := 83) (by decide +kernel) rfl
theorem q_49 : Cond.fieldLink "java/util/AbstractList" 7 "java/util/AbstractList" "modCount" "I" ∈ TT := tt_i (i := 84) (by decide +kernel) rfl
theorem q_50 : Cond.fieldLink "java/util/ArrayList" 63 "java/util/ArrayList" "modCount" "I" ∈ TT := tt_i (i := 85) (by decide +kernel) rfl
theorem q_51 : Cond.sameField "java/util/ArrayList" "java/util/AbstractList" "modCount" "I" ∈ TT := tt_i (i := 86) (by decide +kernel) rfl
theorem q_52 : Cond.lays "java/util/ArrayList" "java/util/ArrayList" "elementData" "[Ljava/lang/Object;" ∈ TT := tt_i (i := 87) (by decide +kernel) rfl
theorem q_54 : Cond.lays "java/util/ArrayList" "java/util/ArrayList" "size" "I" ∈ TT := tt_i (i := 89) (by decide +kernel) rfl
theorem q_56 : Cond.lays "java/util/ArrayList" "java/util/AbstractList" "modCount" "I" ∈ TT := tt_i (i := 91) (by decide +kernel) rfl
theorem q_59 : Cond.methodLink "KeyGraph" 36 y_KG_piles ∈ TT := tt_i (i := 94) (by decide +kernel) rfl
theorem q_60 : Cond.static y_KG_piles ∈ TT := tt_i (i := 95) (by decide +kernel) rfl
set_option maxRecDepth 20000 in
theorem q_61 : Cond.code y_KG_piles prog_1_method_2_code 2 (some (FieldType.array (FieldType.object "KeyGraph$Pile"))) ∈ TT := tt_i (i := 96) rfl rfl
theorem q_62 : Cond.classLink "KeyGraph" 23 "KeyGraph$Pile" ∈ TT := tt_i (i := 97) (by decide +kernel) rfl
theorem q_64 : Cond.instantiable "KeyGraph$Pile" 2 ∈ TT := tt_i (i := 99) (by decide +kernel) rfl
theorem q_66 : Cond.instanceMethod y_Pile_init ∈ TT := tt_i (i := 101) (by decide +kernel) rfl
set_option maxRecDepth 20000 in
theorem q_67 : Cond.code y_Pile_init prog_7_method_1_code 1 none ∈ TT := tt_i (i := 102) rfl rfl
theorem q_68 : Cond.methodLink "KeyGraph$Pile" 3 y_Obj_init ∈ TT := tt_i (i := 103) (by decide +kernel) rfl
theorem q_69 : Cond.classLink "KeyGraph$Pile" 9 "KeyGraph$Key" ∈ TT := tt_i (i := 104) (by decide +kernel) rfl
theorem q_71 : Cond.fieldLink "KeyGraph$Pile" 11 "KeyGraph$Pile" "keys" "[LKeyGraph$Key;" ∈ TT := tt_i (i := 106) (by decide +kernel) rfl
theorem q_73 : Cond.fieldLink "KeyGraph$Pile" 17 "KeyGraph$Pile" "size" "I" ∈ TT := tt_i (i := 108) (by decide +kernel) rfl
theorem q_75 : Cond.laysFinal "KeyGraph$Pile" "KeyGraph$Pile" "keys" "[LKeyGraph$Key;" ∈ TT := tt_i (i := 110) (by decide +kernel) rfl
theorem q_77 : Cond.lays "KeyGraph$Pile" "KeyGraph$Pile" "size" "I" ∈ TT := tt_i (i := 112) (by decide +kernel) rfl
theorem q_80 : Cond.fieldLink "KeyGraph" 32 "KeyGraph" "keys" "Ljava/util/ArrayList;" ∈ TT := tt_i (i := 115) (by decide +kernel) rfl
theorem q_81 : Cond.fieldLink "KeyGraph" 40 "KeyGraph" "piles" "[LKeyGraph$Pile;" ∈ TT := tt_i (i := 116) (by decide +kernel) rfl
theorem q_82 : Cond.fieldLink "KeyGraph" 43 "KeyGraph" "told" "Ljava/util/ArrayList;" ∈ TT := tt_i (i := 117) (by decide +kernel) rfl
theorem q_83 : Cond.fieldLink "KeyGraph" 75 "KeyGraph" "version" "I" ∈ TT := tt_i (i := 118) (by decide +kernel) rfl
theorem q_84 : Cond.fieldLink "KeyGraph" 46 "KeyGraph" "leads" "[Z" ∈ TT := tt_i (i := 119) (by decide +kernel) rfl
theorem q_85 : Cond.laysFinal "KeyGraph" "KeyGraph" "keys" "Ljava/util/ArrayList;" ∈ TT := tt_i (i := 120) (by decide +kernel) rfl
theorem q_87 : Cond.laysFinal "KeyGraph" "KeyGraph" "piles" "[LKeyGraph$Pile;" ∈ TT := tt_i (i := 122) (by decide +kernel) rfl
theorem q_89 : Cond.laysFinal "KeyGraph" "KeyGraph" "told" "Ljava/util/ArrayList;" ∈ TT := tt_i (i := 124) (by decide +kernel) rfl
theorem q_91 : Cond.lays "KeyGraph" "KeyGraph" "version" "I" ∈ TT := tt_i (i := 126) (by decide +kernel) rfl
theorem q_93 : Cond.laysFinal "KeyGraph" "KeyGraph" "leads" "[Z" ∈ TT := tt_i (i := 128) (by decide +kernel) rfl
theorem q_96 : Cond.arrayClass FieldType.boolean ∈ TT := tt_i (i := 131) (by decide +kernel) rfl
theorem q_97 : Cond.methodLink "KeyGraphLaw" 23 y_KG_leaf ∈ TT := tt_i (i := 132) (by decide +kernel) rfl
theorem q_98 : Cond.instanceMethod y_KG_leaf ∈ TT := tt_i (i := 133) (by decide +kernel) rfl
theorem q_99 : Cond.selects "KeyGraph" y_KG_leaf y_KG_leaf ∈ TT := tt_i (i := 134) (by decide +kernel) rfl
set_option maxRecDepth 20000 in
theorem q_100 : Cond.code y_KG_leaf prog_1_method_7_code 4 (some FieldType.int) ∈ TT := tt_i (i := 135) rfl rfl
theorem q_101 : Cond.methodLink "KeyGraph" 50 y_AL_size ∈ TT := tt_i (i := 136) (by decide +kernel) rfl
theorem q_102 : Cond.instanceMethod y_AL_size ∈ TT := tt_i (i := 137) (by decide +kernel) rfl
theorem q_103 : Cond.selects "java/util/ArrayList" y_AL_size y_AL_size ∈ TT := tt_i (i := 138) (by decide +kernel) rfl
set_option maxRecDepth 20000 in
theorem q_104 : Cond.code y_AL_size prog_24_method_8_code 1 (some FieldType.int) ∈ TT := tt_i (i := 139) rfl rfl
theorem q_105 : Cond.classLink "KeyGraph" 62 "KeyGraph$Key" ∈ TT := tt_i (i := 140) (by decide +kernel) rfl
theorem q_106 : Cond.instantiable "KeyGraph$Key" 18 ∈ TT := tt_i (i := 141) (by decide +kernel) rfl
theorem q_107 : Cond.methodLink "KeyGraph" 78 y_Key_init ∈ TT := tt_i (i := 142) (by decide +kernel) rfl
theorem q_108 : Cond.instanceMethod y_Key_init ∈ TT := tt_i (i := 143) (by decide +kernel) rfl
set_option maxRecDepth 20000 in
theorem q_109 : Cond.code y_Key_init prog_6_method_1_code 3 none ∈ TT := tt_i (i := 144) rfl rfl
theorem q_110 : Cond.methodLink "KeyGraph$Key" 3 y_Obj_init ∈ TT := tt_i (i := 145) (by decide +kernel) rfl
theorem q_111 : Cond.classLink "KeyGraph$Key" 9 "java/util/ArrayList" ∈ TT := tt_i (i := 146) (by decide +kernel) rfl
theorem q_112 : Cond.methodLink "KeyGraph$Key" 11 y_AL_init ∈ TT := tt_i (i := 147) (by decide +kernel) rfl
theorem q_113 : Cond.fieldLink "KeyGraph$Key" 32 "KeyGraph$Key" "number" "I" ∈ TT := tt_i (i := 148) (by decide +kernel) rfl
theorem q_115 : Cond.fieldLink "KeyGraph$Key" 35 "KeyGraph$Key" "function" "LKeyGraph$Function;" ∈ TT := tt_i (i := 150) (by decide +kernel) rfl
theorem q_117 : Cond.fieldLink "KeyGraph$Key" 12 "KeyGraph$Key" "row" "Ljava/util/ArrayList;" ∈ TT := tt_i (i := 152) (by decide +kernel) rfl
theorem q_122 : Cond.fieldLink "KeyGraph$Key" 18 "KeyGraph$Key" "sureIn" "I" ∈ TT := tt_i (i := 157) (by decide +kernel) rfl
theorem q_128 : Cond.fieldLink "KeyGraph$Key" 22 "KeyGraph$Key" "asked" "[I" ∈ TT := tt_i (i := 163) (by decide +kernel) rfl
theorem q_130 : Cond.fieldLink "KeyGraph$Key" 26 "KeyGraph$Key" "asking" "[I" ∈ TT := tt_i (i := 165) (by decide +kernel) rfl
theorem q_134 : Cond.fieldLink "KeyGraph$Key" 29 "KeyGraph$Key" "worker" "I" ∈ TT := tt_i (i := 169) (by decide +kernel) rfl
theorem q_138 : Cond.laysFinal "KeyGraph$Key" "KeyGraph$Key" "number" "I" ∈ TT := tt_i (i := 173) (by decide +kernel) rfl
theorem q_140 : Cond.laysFinal "KeyGraph$Key" "KeyGraph$Key" "function" "LKeyGraph$Function;" ∈ TT := tt_i (i := 175) (by decide +kernel) rfl
theorem q_142 : Cond.laysFinal "KeyGraph$Key" "KeyGraph$Key" "row" "Ljava/util/ArrayList;" ∈ TT := tt_i (i := 177) (by decide +kernel) rfl
theorem q_144 : Cond.lays "KeyGraph$Key" "KeyGraph$Key" "state" "I" ∈ TT := tt_i (i := 179) (by decide +kernel) rfl
theorem q_146 : Cond.lays "KeyGraph$Key" "KeyGraph$Key" "value" "J" ∈ TT := tt_i (i := 181) (by decide +kernel) rfl
theorem q_148 : Cond.lays "KeyGraph$Key" "KeyGraph$Key" "changed" "I" ∈ TT := tt_i (i := 183) (by decide +kernel) rfl
theorem q_150 : Cond.lays "KeyGraph$Key" "KeyGraph$Key" "sureIn" "I" ∈ TT := tt_i (i := 185) (by decide +kernel) rfl
theorem q_152 : Cond.lays "KeyGraph$Key" "KeyGraph$Key" "ownIn" "I" ∈ TT := tt_i (i := 187) (by decide +kernel) rfl
theorem q_154 : Cond.lays "KeyGraph$Key" "KeyGraph$Key" "worked" "I" ∈ TT := tt_i (i := 189) (by decide +kernel) rfl
theorem q_156 : Cond.lays "KeyGraph$Key" "KeyGraph$Key" "kept" "I" ∈ TT := tt_i (i := 191) (by decide +kernel) rfl
theorem q_158 : Cond.lays "KeyGraph$Key" "KeyGraph$Key" "spoilt" "Z" ∈ TT := tt_i (i := 193) (by decide +kernel) rfl
theorem q_160 : Cond.lays "KeyGraph$Key" "KeyGraph$Key" "asked" "[I" ∈ TT := tt_i (i := 195) (by decide +kernel) rfl
theorem q_162 : Cond.lays "KeyGraph$Key" "KeyGraph$Key" "asking" "[I" ∈ TT := tt_i (i := 197) (by decide +kernel) rfl
theorem q_164 : Cond.lays "KeyGraph$Key" "KeyGraph$Key" "askedCount" "I" ∈ TT := tt_i (i := 199) (by decide +kernel) rfl
theorem q_166 : Cond.lays "KeyGraph$Key" "KeyGraph$Key" "askingCount" "I" ∈ TT := tt_i (i := 201) (by decide +kernel) rfl
theorem q_168 : Cond.lays "KeyGraph$Key" "KeyGraph$Key" "worker" "I" ∈ TT := tt_i (i := 203) (by decide +kernel) rfl
theorem q_170 : Cond.lays "KeyGraph$Key" "KeyGraph$Key" "at" "I" ∈ TT := tt_i (i := 205) (by decide +kernel) rfl
theorem q_172 : Cond.lays "KeyGraph$Key" "KeyGraph$Key" "checks" "Z" ∈ TT := tt_i (i := 207) (by decide +kernel) rfl
theorem q_175 : Cond.arrayClass FieldType.int ∈ TT := tt_i (i := 210) (by decide +kernel) rfl
theorem q_176 : Cond.methodLink "KeyGraph" 88 y_AL_add1 ∈ TT := tt_i (i := 211) (by decide +kernel) rfl
theorem q_177 : Cond.instanceMethod y_AL_add1 ∈ TT := tt_i (i := 212) (by decide +kernel) rfl
theorem q_178 : Cond.selects "java/util/ArrayList" y_AL_add1 y_AL_add1 ∈ TT := tt_i (i := 213) (by decide +kernel) rfl
set_option maxRecDepth 20000 in
theorem q_179 : Cond.code y_AL_add1 prog_24_method_25_code 2 (some FieldType.boolean) ∈ TT := tt_i (i := 214) rfl rfl
theorem q_180 : Cond.methodLink "java/util/ArrayList" 131 y_AL_add3 ∈ TT := tt_i (i := 215) (by decide +kernel) rfl
theorem q_182 : Cond.instanceMethod y_AL_add3 ∈ TT := tt_i (i := 217) (by decide +kernel) rfl
set_option maxRecDepth 20000 in
theorem q_183 : Cond.code y_AL_add3 prog_24_method_24_code 4 none ∈ TT := tt_i (i := 218) rfl rfl
theorem q_184 : Cond.methodLink "java/util/ArrayList" 129 y_AL_grow0 ∈ TT := tt_i (i := 219) (by decide +kernel) rfl
theorem q_186 : Cond.instanceMethod y_AL_grow0 ∈ TT := tt_i (i := 221) (by decide +kernel) rfl
set_option maxRecDepth 20000 in
theorem q_187 : Cond.code y_AL_grow0 prog_24_method_7_code 1 (some (FieldType.array (FieldType.object "java/lang/Object"))) ∈ TT := tt_i (i := 222) rfl rfl
theorem q_188 : Cond.methodLink "java/util/ArrayList" 69 y_AL_grow1 ∈ TT := tt_i (i := 223) (by decide +kernel) rfl
theorem q_190 : Cond.instanceMethod y_AL_grow1 ∈ TT := tt_i (i := 225) (by decide +kernel) rfl
set_option maxRecDepth 20000 in
theorem q_191 : Cond.code y_AL_grow1 prog_24_method_6_code 4 (some (FieldType.array (FieldType.object "java/lang/Object"))) ∈ TT := tt_i (i := 226) rfl rfl
theorem q_192 : Cond.methodLink "java/util/ArrayList" 73 y_ASup_newLength ∈ TT := tt_i (i := 227) (by decide +kernel) rfl
theorem q_193 : Cond.static y_ASup_newLength ∈ TT := tt_i (i := 228) (by decide +kernel) rfl
set_option maxRecDepth 20000 in
theorem q_194 : Cond.code y_ASup_newLength prog_31_method_27_code 4 (some FieldType.int) ∈ TT := tt_i (i := 229) rfl rfl
theorem q_195 : Cond.methodLink "jdk/internal/util/ArraysSupport" 194 y_Math_max ∈ TT := tt_i (i := 230) (by decide +kernel) rfl
theorem q_196 : Cond.static y_Math_max ∈ TT := tt_i (i := 231) (by decide +kernel) rfl
set_option maxRecDepth 20000 in
theorem q_197 : Cond.code y_Math_max prog_18_method_65_code 2 (some FieldType.int) ∈ TT := tt_i (i := 232) rfl rfl
theorem q_198 : Cond.constant "jdk/internal/util/ArraysSupport" 200 (2147483639 : Int32) ∈ TT := tt_i (i := 233) (by decide +kernel) rfl
theorem q_199 : Cond.methodLink "jdk/internal/util/ArraysSupport" 201 y_ASup_hugeLength ∈ TT := tt_i (i := 234) (by decide +kernel) rfl
theorem q_200 : Cond.static y_ASup_hugeLength ∈ TT := tt_i (i := 235) (by decide +kernel) rfl
set_option maxRecDepth 20000 in
theorem q_201 : Cond.code y_ASup_hugeLength prog_31_method_28_code 3 (some FieldType.int) ∈ TT := tt_i (i := 236) rfl rfl
theorem q_202 : Cond.methodLink "java/util/ArrayList" 66 y_Arrs_copyOf2 ∈ TT := tt_i (i := 237) (by decide +kernel) rfl
theorem q_203 : Cond.static y_Arrs_copyOf2 ∈ TT := tt_i (i := 238) (by decide +kernel) rfl
set_option maxRecDepth 20000 in
theorem q_204 : Cond.code y_Arrs_copyOf2 prog_25_method_119_code 2 (some (FieldType.array (FieldType.object "java/lang/Object"))) ∈ TT := tt_i (i := 239) rfl rfl
theorem q_205 : Cond.methodLink "java/util/Arrays" 86 y_Obj_getClass ∈ TT := tt_i (i := 240) (by decide +kernel) rfl
theorem q_206 : Cond.instanceMethod y_Obj_getClass ∈ TT := tt_i (i := 241) (by decide +kernel) rfl
theorem q_207 : Cond.sameMethod "java/lang/Object" "java/lang/Object" "getClass" "()Ljava/lang/Class;" ∈ TT := tt_i (i := 242) (by decide +kernel) rfl
theorem q_208 : Cond.selects "KeyGraph" y_Obj_getClass y_Obj_getClass ∈ TT := tt_i (i := 243) (by decide +kernel) rfl
theorem q_209 : Cond.selects "KeyGraph$Choice" y_Obj_getClass y_Obj_getClass ∈ TT := tt_i (i := 244) (by decide +kernel) rfl
theorem q_210 : Cond.selects "KeyGraph$First" y_Obj_getClass y_Obj_getClass ∈ TT := tt_i (i := 245) (by decide +kernel) rfl
theorem q_211 : Cond.selects "KeyGraph$Greatest" y_Obj_getClass y_Obj_getClass ∈ TT := tt_i (i := 246) (by decide +kernel) rfl
theorem q_212 : Cond.selects "KeyGraph$Key" y_Obj_getClass y_Obj_getClass ∈ TT := tt_i (i := 247) (by decide +kernel) rfl
theorem q_213 : Cond.selects "KeyGraph$Pile" y_Obj_getClass y_Obj_getClass ∈ TT := tt_i (i := 248) (by decide +kernel) rfl
theorem q_214 : Cond.selects "KeyGraph$Quotient" y_Obj_getClass y_Obj_getClass ∈ TT := tt_i (i := 249) (by decide +kernel) rfl
theorem q_215 : Cond.selects "KeyGraph$Sum" y_Obj_getClass y_Obj_getClass ∈ TT := tt_i (i := 250) (by decide +kernel) rfl
theorem q_216 : Cond.selects "KeyGraphModel" y_Obj_getClass y_Obj_getClass ∈ TT := tt_i (i := 251) (by decide +kernel) rfl
theorem q_217 : Cond.selects "java/lang/IllegalArgumentException" y_Obj_getClass y_Obj_getClass ∈ TT := tt_i (i := 252) (by decide +kernel) rfl
theorem q_218 : Cond.selects "java/lang/IllegalStateException" y_Obj_getClass y_Obj_getClass ∈ TT := tt_i (i := 253) (by decide +kernel) rfl
theorem q_219 : Cond.selects "java/util/ArrayList" y_Obj_getClass y_Obj_getClass ∈ TT := tt_i (i := 254) (by decide +kernel) rfl
theorem q_220 : Cond.native y_Obj_getClass ∈ TT := tt_i (i := 255) (by decide +kernel) rfl
theorem q_221 : Cond.methodLink "java/util/Arrays" 300 y_Arrs_copyOf3 ∈ TT := tt_i (i := 256) (by decide +kernel) rfl
theorem q_222 : Cond.static y_Arrs_copyOf3 ∈ TT := tt_i (i := 257) (by decide +kernel) rfl
set_option maxRecDepth 20000 in
theorem q_223 : Cond.code y_Arrs_copyOf3 prog_25_method_120_code 4 (some (FieldType.array (FieldType.object "java/lang/Object"))) ∈ TT := tt_i (i := 258) rfl rfl
theorem q_224 : Cond.classLink "java/util/Arrays" 110 "[Ljava/lang/Object;" ∈ TT := tt_i (i := 259) (by decide +kernel) rfl
theorem q_226 : Cond.classLink "java/util/Arrays" 2 "java/lang/Object" ∈ TT := tt_i (i := 261) (by decide +kernel) rfl
theorem q_227 : Cond.methodLink "java/util/Arrays" 304 y_Math_min ∈ TT := tt_i (i := 262) (by decide +kernel) rfl
theorem q_228 : Cond.static y_Math_min ∈ TT := tt_i (i := 263) (by decide +kernel) rfl
set_option maxRecDepth 20000 in
theorem q_229 : Cond.code y_Math_min prog_18_method_69_code 2 (some FieldType.int) ∈ TT := tt_i (i := 264) rfl rfl
theorem q_230 : Cond.methodLink "java/util/Arrays" 150 y_Sys_arraycopy ∈ TT := tt_i (i := 265) (by decide +kernel) rfl
theorem q_231 : Cond.static y_Sys_arraycopy ∈ TT := tt_i (i := 266) (by decide +kernel) rfl
theorem q_232 : Cond.native y_Sys_arraycopy ∈ TT := tt_i (i := 267) (by decide +kernel) rfl
theorem q_233 : Cond.methodLink "java/util/ArrayList" 79 y_Math_max ∈ TT := tt_i (i := 268) (by decide +kernel) rfl
theorem q_234 : Cond.classLink "java/util/ArrayList" 7 "java/lang/Object" ∈ TT := tt_i (i := 269) (by decide +kernel) rfl
theorem q_235 : Cond.methodLink "KeyGraphLaw" 28 y_KG_key ∈ TT := tt_i (i := 270) (by decide +kernel) rfl
theorem q_236 : Cond.instanceMethod y_KG_key ∈ TT := tt_i (i := 271) (by decide +kernel) rfl
theorem q_237 : Cond.selects "KeyGraph" y_KG_key y_KG_key ∈ TT := tt_i (i := 272) (by decide +kernel) rfl
set_option maxRecDepth 20000 in
theorem q_238 : Cond.code y_KG_key prog_1_method_8_code 2 (some FieldType.int) ∈ TT := tt_i (i := 273) rfl rfl
theorem q_239 : Cond.methodLink "KeyGraph" 95 y_KG_made ∈ TT := tt_i (i := 274) (by decide +kernel) rfl
theorem q_240 : Cond.static y_KG_made ∈ TT := tt_i (i := 275) (by decide +kernel) rfl
set_option maxRecDepth 20000 in
theorem q_241 : Cond.code y_KG_made prog_1_method_1_code 1 (some (FieldType.object "KeyGraph$Function")) ∈ TT := tt_i (i := 276) rfl rfl
theorem q_242 : Cond.classLink "KeyGraph" 1 "KeyGraph$Sum" ∈ TT := tt_i (i := 277) (by decide +kernel) rfl
theorem q_243 : Cond.instantiable "KeyGraph$Sum" 5 ∈ TT := tt_i (i := 278) (by decide +kernel) rfl
theorem q_244 : Cond.methodLink "KeyGraph" 3 y_Sum_init ∈ TT := tt_i (i := 279) (by decide +kernel) rfl
theorem q_245 : Cond.instanceMethod y_Sum_init ∈ TT := tt_i (i := 280) (by decide +kernel) rfl
set_option maxRecDepth 20000 in
theorem q_246 : Cond.code y_Sum_init prog_9_method_1_code 2 none ∈ TT := tt_i (i := 281) rfl rfl
theorem q_248 : Cond.instanceMethod y_Fun_init ∈ TT := tt_i (i := 283) (by decide +kernel) rfl
set_option maxRecDepth 20000 in
theorem q_249 : Cond.code y_Fun_init prog_4_method_1_code 1 none ∈ TT := tt_i (i := 284) rfl rfl
theorem q_250 : Cond.methodLink "KeyGraph$Function" 3 y_Obj_init ∈ TT := tt_i (i := 285) (by decide +kernel) rfl
theorem q_251 : Cond.fieldLink "KeyGraph$Sum" 7 "KeyGraph$Sum" "parity" "Z" ∈ TT := tt_i (i := 286) (by decide +kernel) rfl
theorem q_252 : Cond.fieldLink "KeyGraph$Function" 9 "KeyGraph$Function" "many" "I" ∈ TT := tt_i (i := 287) (by decide +kernel) rfl
theorem q_253 : Cond.fieldLink "KeyGraph$First" 17 "KeyGraph$First" "many" "I" ∈ TT := tt_i (i := 288) (by decide +kernel) rfl
theorem q_254 : Cond.sameField "KeyGraph$First" "KeyGraph$Function" "many" "I" ∈ TT := tt_i (i := 289) (by decide +kernel) rfl
theorem q_255 : Cond.fieldLink "KeyGraph$Choice" 23 "KeyGraph$Choice" "many" "I" ∈ TT := tt_i (i := 290) (by decide +kernel) rfl
theorem q_256 : Cond.sameField "KeyGraph$Choice" "KeyGraph$Function" "many" "I" ∈ TT := tt_i (i := 291) (by decide +kernel) rfl
theorem q_257 : Cond.fieldLink "KeyGraph$Quotient" 7 "KeyGraph$Quotient" "place" "I" ∈ TT := tt_i (i := 292) (by decide +kernel) rfl
theorem q_258 : Cond.sameField "KeyGraph$Quotient" "KeyGraph$Function" "place" "I" ∈ TT := tt_i (i := 293) (by decide +kernel) rfl
theorem q_259 : Cond.fieldLink "KeyGraph$Function" 15 "KeyGraph$Function" "place" "I" ∈ TT := tt_i (i := 294) (by decide +kernel) rfl
theorem q_260 : Cond.fieldLink "KeyGraph$First" 13 "KeyGraph$First" "place" "I" ∈ TT := tt_i (i := 295) (by decide +kernel) rfl
theorem q_261 : Cond.sameField "KeyGraph$First" "KeyGraph$Function" "place" "I" ∈ TT := tt_i (i := 296) (by decide +kernel) rfl
theorem q_262 : Cond.fieldLink "KeyGraph$Greatest" 17 "KeyGraph$Greatest" "place" "I" ∈ TT := tt_i (i := 297) (by decide +kernel) rfl
theorem q_263 : Cond.sameField "KeyGraph$Greatest" "KeyGraph$Function" "place" "I" ∈ TT := tt_i (i := 298) (by decide +kernel) rfl
theorem q_264 : Cond.fieldLink "KeyGraph$Choice" 19 "KeyGraph$Choice" "place" "I" ∈ TT := tt_i (i := 299) (by decide +kernel) rfl
theorem q_265 : Cond.sameField "KeyGraph$Choice" "KeyGraph$Function" "place" "I" ∈ TT := tt_i (i := 300) (by decide +kernel) rfl
theorem q_266 : Cond.fieldLink "KeyGraph$First" 7 "KeyGraph$First" "v" "J" ∈ TT := tt_i (i := 301) (by decide +kernel) rfl
theorem q_267 : Cond.sameField "KeyGraph$First" "KeyGraph$Function" "v" "J" ∈ TT := tt_i (i := 302) (by decide +kernel) rfl
theorem q_268 : Cond.fieldLink "KeyGraph$Sum" 13 "KeyGraph$Sum" "v" "J" ∈ TT := tt_i (i := 303) (by decide +kernel) rfl
theorem q_269 : Cond.sameField "KeyGraph$Sum" "KeyGraph$Function" "v" "J" ∈ TT := tt_i (i := 304) (by decide +kernel) rfl
theorem q_270 : Cond.fieldLink "KeyGraph$Quotient" 13 "KeyGraph$Quotient" "v" "J" ∈ TT := tt_i (i := 305) (by decide +kernel) rfl
theorem q_271 : Cond.sameField "KeyGraph$Quotient" "KeyGraph$Function" "v" "J" ∈ TT := tt_i (i := 306) (by decide +kernel) rfl
theorem q_272 : Cond.fieldLink "KeyGraph$Function" 18 "KeyGraph$Function" "v" "J" ∈ TT := tt_i (i := 307) (by decide +kernel) rfl
theorem q_273 : Cond.fieldLink "KeyGraph$Greatest" 21 "KeyGraph$Greatest" "v" "J" ∈ TT := tt_i (i := 308) (by decide +kernel) rfl
theorem q_274 : Cond.sameField "KeyGraph$Greatest" "KeyGraph$Function" "v" "J" ∈ TT := tt_i (i := 309) (by decide +kernel) rfl
theorem q_275 : Cond.fieldLink "KeyGraph$Choice" 30 "KeyGraph$Choice" "v" "J" ∈ TT := tt_i (i := 310) (by decide +kernel) rfl
theorem q_276 : Cond.sameField "KeyGraph$Choice" "KeyGraph$Function" "v" "J" ∈ TT := tt_i (i := 311) (by decide +kernel) rfl
theorem q_277 : Cond.fieldLink "KeyGraph$Greatest" 11 "KeyGraph$Greatest" "failed" "Z" ∈ TT := tt_i (i := 312) (by decide +kernel) rfl
theorem q_278 : Cond.sameField "KeyGraph$Greatest" "KeyGraph$Function" "failed" "Z" ∈ TT := tt_i (i := 313) (by decide +kernel) rfl
theorem q_279 : Cond.fieldLink "KeyGraph$Function" 22 "KeyGraph$Function" "failed" "Z" ∈ TT := tt_i (i := 314) (by decide +kernel) rfl
theorem q_280 : Cond.fieldLink "KeyGraph$Quotient" 17 "KeyGraph$Quotient" "failed" "Z" ∈ TT := tt_i (i := 315) (by decide +kernel) rfl
theorem q_281 : Cond.sameField "KeyGraph$Quotient" "KeyGraph$Function" "failed" "Z" ∈ TT := tt_i (i := 316) (by decide +kernel) rfl
theorem q_282 : Cond.laysFinal "KeyGraph$Sum" "KeyGraph$Sum" "parity" "Z" ∈ TT := tt_i (i := 317) (by decide +kernel) rfl
theorem q_284 : Cond.lays "KeyGraph$Sum" "KeyGraph$Function" "many" "I" ∈ TT := tt_i (i := 319) (by decide +kernel) rfl
theorem q_286 : Cond.lays "KeyGraph$Sum" "KeyGraph$Function" "place" "I" ∈ TT := tt_i (i := 321) (by decide +kernel) rfl
theorem q_288 : Cond.lays "KeyGraph$Sum" "KeyGraph$Function" "v" "J" ∈ TT := tt_i (i := 323) (by decide +kernel) rfl
theorem q_290 : Cond.lays "KeyGraph$Sum" "KeyGraph$Function" "failed" "Z" ∈ TT := tt_i (i := 325) (by decide +kernel) rfl
theorem q_293 : Cond.classLink "KeyGraph" 7 "KeyGraph$First" ∈ TT := tt_i (i := 328) (by decide +kernel) rfl
theorem q_294 : Cond.instantiable "KeyGraph$First" 4 ∈ TT := tt_i (i := 329) (by decide +kernel) rfl
theorem q_296 : Cond.instanceMethod y_First_init ∈ TT := tt_i (i := 331) (by decide +kernel) rfl
set_option maxRecDepth 20000 in
theorem q_297 : Cond.code y_First_init prog_3_method_1_code 1 none ∈ TT := tt_i (i := 332) rfl rfl
theorem q_299 : Cond.lays "KeyGraph$First" "KeyGraph$Function" "many" "I" ∈ TT := tt_i (i := 334) (by decide +kernel) rfl
theorem q_300 : Cond.lays "KeyGraph$First" "KeyGraph$Function" "place" "I" ∈ TT := tt_i (i := 335) (by decide +kernel) rfl
theorem q_301 : Cond.lays "KeyGraph$First" "KeyGraph$Function" "v" "J" ∈ TT := tt_i (i := 336) (by decide +kernel) rfl
theorem q_302 : Cond.lays "KeyGraph$First" "KeyGraph$Function" "failed" "Z" ∈ TT := tt_i (i := 337) (by decide +kernel) rfl
theorem q_304 : Cond.classLink "KeyGraph" 12 "KeyGraph$Choice" ∈ TT := tt_i (i := 339) (by decide +kernel) rfl
theorem q_305 : Cond.instantiable "KeyGraph$Choice" 5 ∈ TT := tt_i (i := 340) (by decide +kernel) rfl
theorem q_307 : Cond.instanceMethod y_Choice_init ∈ TT := tt_i (i := 342) (by decide +kernel) rfl
set_option maxRecDepth 20000 in
theorem q_308 : Cond.code y_Choice_init prog_2_method_1_code 1 none ∈ TT := tt_i (i := 343) rfl rfl
theorem q_310 : Cond.fieldLink "KeyGraph$Choice" 13 "KeyGraph$Choice" "chosen" "Z" ∈ TT := tt_i (i := 345) (by decide +kernel) rfl
theorem q_311 : Cond.lays "KeyGraph$Choice" "KeyGraph$Choice" "chosen" "Z" ∈ TT := tt_i (i := 346) (by decide +kernel) rfl
theorem q_313 : Cond.lays "KeyGraph$Choice" "KeyGraph$Function" "many" "I" ∈ TT := tt_i (i := 348) (by decide +kernel) rfl
theorem q_314 : Cond.lays "KeyGraph$Choice" "KeyGraph$Function" "place" "I" ∈ TT := tt_i (i := 349) (by decide +kernel) rfl
theorem q_315 : Cond.lays "KeyGraph$Choice" "KeyGraph$Function" "v" "J" ∈ TT := tt_i (i := 350) (by decide +kernel) rfl
theorem q_316 : Cond.lays "KeyGraph$Choice" "KeyGraph$Function" "failed" "Z" ∈ TT := tt_i (i := 351) (by decide +kernel) rfl
theorem q_318 : Cond.classLink "KeyGraph" 15 "KeyGraph$Quotient" ∈ TT := tt_i (i := 353) (by decide +kernel) rfl
theorem q_319 : Cond.instantiable "KeyGraph$Quotient" 4 ∈ TT := tt_i (i := 354) (by decide +kernel) rfl
theorem q_321 : Cond.instanceMethod y_Quot_init ∈ TT := tt_i (i := 356) (by decide +kernel) rfl
set_option maxRecDepth 20000 in
theorem q_322 : Cond.code y_Quot_init prog_8_method_1_code 1 none ∈ TT := tt_i (i := 357) rfl rfl
theorem q_324 : Cond.lays "KeyGraph$Quotient" "KeyGraph$Function" "many" "I" ∈ TT := tt_i (i := 359) (by decide +kernel) rfl
theorem q_325 : Cond.lays "KeyGraph$Quotient" "KeyGraph$Function" "place" "I" ∈ TT := tt_i (i := 360) (by decide +kernel) rfl
theorem q_326 : Cond.lays "KeyGraph$Quotient" "KeyGraph$Function" "v" "J" ∈ TT := tt_i (i := 361) (by decide +kernel) rfl
theorem q_327 : Cond.lays "KeyGraph$Quotient" "KeyGraph$Function" "failed" "Z" ∈ TT := tt_i (i := 362) (by decide +kernel) rfl
theorem q_329 : Cond.classLink "KeyGraph" 18 "KeyGraph$Greatest" ∈ TT := tt_i (i := 364) (by decide +kernel) rfl
theorem q_330 : Cond.instantiable "KeyGraph$Greatest" 4 ∈ TT := tt_i (i := 365) (by decide +kernel) rfl
theorem q_332 : Cond.instanceMethod y_Great_init ∈ TT := tt_i (i := 367) (by decide +kernel) rfl
set_option maxRecDepth 20000 in
theorem q_333 : Cond.code y_Great_init prog_5_method_1_code 1 none ∈ TT := tt_i (i := 368) rfl rfl
theorem q_335 : Cond.lays "KeyGraph$Greatest" "KeyGraph$Function" "many" "I" ∈ TT := tt_i (i := 370) (by decide +kernel) rfl
theorem q_336 : Cond.lays "KeyGraph$Greatest" "KeyGraph$Function" "place" "I" ∈ TT := tt_i (i := 371) (by decide +kernel) rfl
theorem q_337 : Cond.lays "KeyGraph$Greatest" "KeyGraph$Function" "v" "J" ∈ TT := tt_i (i := 372) (by decide +kernel) rfl
theorem q_338 : Cond.lays "KeyGraph$Greatest" "KeyGraph$Function" "failed" "Z" ∈ TT := tt_i (i := 373) (by decide +kernel) rfl
theorem q_340 : Cond.methodLink "KeyGraphLaw" 33 y_KG_asks ∈ TT := tt_i (i := 375) (by decide +kernel) rfl
theorem q_341 : Cond.instanceMethod y_KG_asks ∈ TT := tt_i (i := 376) (by decide +kernel) rfl
theorem q_342 : Cond.selects "KeyGraph" y_KG_asks y_KG_asks ∈ TT := tt_i (i := 377) (by decide +kernel) rfl
set_option maxRecDepth 20000 in
theorem q_343 : Cond.code y_KG_asks prog_1_method_12_code 7 (some FieldType.int) ∈ TT := tt_i (i := 378) rfl rfl
theorem q_344 : Cond.methodLink "KeyGraph" 109 y_KG_isFunction ∈ TT := tt_i (i := 379) (by decide +kernel) rfl
theorem q_346 : Cond.instanceMethod y_KG_isFunction ∈ TT := tt_i (i := 381) (by decide +kernel) rfl
set_option maxRecDepth 20000 in
theorem q_347 : Cond.code y_KG_isFunction prog_1_method_5_code 2 (some FieldType.boolean) ∈ TT := tt_i (i := 382) rfl rfl
theorem q_348 : Cond.methodLink "KeyGraph" 54 y_KG_isKey ∈ TT := tt_i (i := 383) (by decide +kernel) rfl
theorem q_350 : Cond.instanceMethod y_KG_isKey ∈ TT := tt_i (i := 385) (by decide +kernel) rfl
set_option maxRecDepth 20000 in
theorem q_351 : Cond.code y_KG_isKey prog_1_method_4_code 2 (some FieldType.boolean) ∈ TT := tt_i (i := 386) rfl rfl
theorem q_352 : Cond.methodLink "KeyGraph" 58 y_AL_get ∈ TT := tt_i (i := 387) (by decide +kernel) rfl
theorem q_353 : Cond.instanceMethod y_AL_get ∈ TT := tt_i (i := 388) (by decide +kernel) rfl
theorem q_354 : Cond.selects "java/util/ArrayList" y_AL_get y_AL_get ∈ TT := tt_i (i := 389) (by decide +kernel) rfl
set_option maxRecDepth 20000 in
theorem q_355 : Cond.code y_AL_get prog_24_method_20_code 2 (some (FieldType.object "java/lang/Object")) ∈ TT := tt_i (i := 390) rfl rfl
theorem q_356 : Cond.methodLink "java/util/ArrayList" 118 y_Objs_checkIndex ∈ TT := tt_i (i := 391) (by decide +kernel) rfl
theorem q_357 : Cond.static y_Objs_checkIndex ∈ TT := tt_i (i := 392) (by decide +kernel) rfl
set_option maxRecDepth 20000 in
theorem q_358 : Cond.code y_Objs_checkIndex prog_28_method_17_code 2 (some FieldType.int) ∈ TT := tt_i (i := 393) rfl rfl
theorem q_359 : Cond.methodLink "java/util/Objects" 105 y_Prec_checkIndex ∈ TT := tt_i (i := 394) (by decide +kernel) rfl
theorem q_360 : Cond.static y_Prec_checkIndex ∈ TT := tt_i (i := 395) (by decide +kernel) rfl
set_option maxRecDepth 20000 in
theorem q_361 : Cond.code y_Prec_checkIndex prog_32_method_11_code 3 (some FieldType.int) ∈ TT := tt_i (i := 396) rfl rfl
theorem q_362 : Cond.methodLink "java/util/ArrayList" 123 y_AL_elementData ∈ TT := tt_i (i := 397) (by decide +kernel) rfl
theorem q_363 : Cond.instanceMethod y_AL_elementData ∈ TT := tt_i (i := 398) (by decide +kernel) rfl
theorem q_364 : Cond.selects "java/util/ArrayList" y_AL_elementData y_AL_elementData ∈ TT := tt_i (i := 399) (by decide +kernel) rfl
set_option maxRecDepth 20000 in
theorem q_365 : Cond.code y_AL_elementData prog_24_method_18_code 2 (some (FieldType.object "java/lang/Object")) ∈ TT := tt_i (i := 400) rfl rfl
theorem q_366 : Cond.methodLink "KeyGraph" 64 y_Key_isLeaf ∈ TT := tt_i (i := 401) (by decide +kernel) rfl
theorem q_367 : Cond.instanceMethod y_Key_isLeaf ∈ TT := tt_i (i := 402) (by decide +kernel) rfl
theorem q_368 : Cond.selects "KeyGraph$Key" y_Key_isLeaf y_Key_isLeaf ∈ TT := tt_i (i := 403) (by decide +kernel) rfl
set_option maxRecDepth 20000 in
theorem q_369 : Cond.code y_Key_isLeaf prog_6_method_2_code 1 (some FieldType.boolean) ∈ TT := tt_i (i := 404) rfl rfl
theorem q_370 : Cond.methodLink "KeyGraph" 112 y_KG_leadTo ∈ TT := tt_i (i := 405) (by decide +kernel) rfl
theorem q_372 : Cond.instanceMethod y_KG_leadTo ∈ TT := tt_i (i := 407) (by decide +kernel) rfl
set_option maxRecDepth 20000 in
theorem q_373 : Cond.code y_KG_leadTo prog_1_method_11_code 4 none ∈ TT := tt_i (i := 408) rfl rfl
theorem q_374 : Cond.methodLink "KeyGraph" 106 y_KG_asksOne ∈ TT := tt_i (i := 409) (by decide +kernel) rfl
theorem q_376 : Cond.instanceMethod y_KG_asksOne ∈ TT := tt_i (i := 411) (by decide +kernel) rfl
set_option maxRecDepth 20000 in
theorem q_377 : Cond.code y_KG_asksOne prog_1_method_10_code 4 (some FieldType.boolean) ∈ TT := tt_i (i := 412) rfl rfl
theorem q_378 : Cond.methodLink "KeyGraph" 102 y_KG_isLeading ∈ TT := tt_i (i := 413) (by decide +kernel) rfl
theorem q_380 : Cond.instanceMethod y_KG_isLeading ∈ TT := tt_i (i := 415) (by decide +kernel) rfl
set_option maxRecDepth 20000 in
theorem q_381 : Cond.code y_KG_isLeading prog_1_method_9_code 2 (some FieldType.boolean) ∈ TT := tt_i (i := 416) rfl rfl
theorem q_382 : Cond.methodLink "KeyGraph" 116 y_AL_clear ∈ TT := tt_i (i := 417) (by decide +kernel) rfl
theorem q_383 : Cond.instanceMethod y_AL_clear ∈ TT := tt_i (i := 418) (by decide +kernel) rfl
theorem q_384 : Cond.selects "java/util/ArrayList" y_AL_clear y_AL_clear ∈ TT := tt_i (i := 419) (by decide +kernel) rfl
set_option maxRecDepth 20000 in
theorem q_385 : Cond.code y_AL_clear prog_24_method_40_code 4 none ∈ TT := tt_i (i := 420) rfl rfl
theorem q_386 : Cond.methodLink "KeyGraph" 119 y_KG_raise ∈ TT := tt_i (i := 421) (by decide +kernel) rfl
theorem q_388 : Cond.instanceMethod y_KG_raise ∈ TT := tt_i (i := 423) (by decide +kernel) rfl
set_option maxRecDepth 20000 in
theorem q_389 : Cond.code y_KG_raise prog_1_method_14_code 1 none ∈ TT := tt_i (i := 424) rfl rfl
theorem q_390 : Cond.methodLink "KeyGraph" 125 y_KG_cancel ∈ TT := tt_i (i := 425) (by decide +kernel) rfl
theorem q_391 : Cond.instanceMethod y_KG_cancel ∈ TT := tt_i (i := 426) (by decide +kernel) rfl
theorem q_392 : Cond.selects "KeyGraph" y_KG_cancel y_KG_cancel ∈ TT := tt_i (i := 427) (by decide +kernel) rfl
set_option maxRecDepth 20000 in
theorem q_393 : Cond.code y_KG_cancel prog_1_method_21_code 4 (some FieldType.int) ∈ TT := tt_i (i := 428) rfl rfl
theorem q_394 : Cond.methodLink "KeyGraph" 169 y_Pile_top ∈ TT := tt_i (i := 429) (by decide +kernel) rfl
theorem q_395 : Cond.instanceMethod y_Pile_top ∈ TT := tt_i (i := 430) (by decide +kernel) rfl
theorem q_396 : Cond.selects "KeyGraph$Pile" y_Pile_top y_Pile_top ∈ TT := tt_i (i := 431) (by decide +kernel) rfl
set_option maxRecDepth 20000 in
theorem q_397 : Cond.code y_Pile_top prog_7_method_2_code 1 (some (FieldType.object "KeyGraph$Key")) ∈ TT := tt_i (i := 432) rfl rfl
theorem q_398 : Cond.methodLink "KeyGraphLaw" 38 y_KG_ring ∈ TT := tt_i (i := 433) (by decide +kernel) rfl
theorem q_399 : Cond.instanceMethod y_KG_ring ∈ TT := tt_i (i := 434) (by decide +kernel) rfl
theorem q_400 : Cond.selects "KeyGraph" y_KG_ring y_KG_ring ∈ TT := tt_i (i := 435) (by decide +kernel) rfl
set_option maxRecDepth 20000 in
theorem q_401 : Cond.code y_KG_ring prog_1_method_13_code 2 (some FieldType.int) ∈ TT := tt_i (i := 436) rfl rfl
theorem q_402 : Cond.methodLink "KeyGraphLaw" 42 y_KG_change ∈ TT := tt_i (i := 437) (by decide +kernel) rfl
theorem q_403 : Cond.instanceMethod y_KG_change ∈ TT := tt_i (i := 438) (by decide +kernel) rfl
theorem q_404 : Cond.selects "KeyGraph" y_KG_change y_KG_change ∈ TT := tt_i (i := 439) (by decide +kernel) rfl
set_option maxRecDepth 20000 in
theorem q_405 : Cond.code y_KG_change prog_1_method_15_code 5 (some FieldType.int) ∈ TT := tt_i (i := 440) rfl rfl
theorem q_406 : Cond.methodLink "KeyGraphLaw" 47 y_KG_spoil ∈ TT := tt_i (i := 441) (by decide +kernel) rfl
theorem q_407 : Cond.instanceMethod y_KG_spoil ∈ TT := tt_i (i := 442) (by decide +kernel) rfl
theorem q_408 : Cond.selects "KeyGraph" y_KG_spoil y_KG_spoil ∈ TT := tt_i (i := 443) (by decide +kernel) rfl
set_option maxRecDepth 20000 in
theorem q_409 : Cond.code y_KG_spoil prog_1_method_16_code 4 (some FieldType.int) ∈ TT := tt_i (i := 444) rfl rfl
theorem q_410 : Cond.methodLink "KeyGraphLaw" 103 y_KG_version ∈ TT := tt_i (i := 445) (by decide +kernel) rfl
theorem q_411 : Cond.instanceMethod y_KG_version ∈ TT := tt_i (i := 446) (by decide +kernel) rfl
theorem q_412 : Cond.selects "KeyGraph" y_KG_version y_KG_version ∈ TT := tt_i (i := 447) (by decide +kernel) rfl
set_option maxRecDepth 20000 in
theorem q_413 : Cond.code y_KG_version prog_1_method_17_code 1 (some FieldType.int) ∈ TT := tt_i (i := 448) rfl rfl
theorem q_414 : Cond.methodLink "KeyGraphLaw" 52 y_KG_begin ∈ TT := tt_i (i := 449) (by decide +kernel) rfl
theorem q_415 : Cond.instanceMethod y_KG_begin ∈ TT := tt_i (i := 450) (by decide +kernel) rfl
theorem q_416 : Cond.selects "KeyGraph" y_KG_begin y_KG_begin ∈ TT := tt_i (i := 451) (by decide +kernel) rfl
set_option maxRecDepth 20000 in
theorem q_417 : Cond.code y_KG_begin prog_1_method_20_code 4 (some FieldType.int) ∈ TT := tt_i (i := 452) rfl rfl
theorem q_418 : Cond.methodLink "KeyGraph" 159 y_KG_isWorker ∈ TT := tt_i (i := 453) (by decide +kernel) rfl
theorem q_419 : Cond.static y_KG_isWorker ∈ TT := tt_i (i := 454) (by decide +kernel) rfl
set_option maxRecDepth 20000 in
theorem q_420 : Cond.code y_KG_isWorker prog_1_method_18_code 1 (some FieldType.boolean) ∈ TT := tt_i (i := 455) rfl rfl
theorem q_421 : Cond.methodLink "KeyGraph" 162 y_KG_isSure ∈ TT := tt_i (i := 456) (by decide +kernel) rfl
theorem q_423 : Cond.instanceMethod y_KG_isSure ∈ TT := tt_i (i := 458) (by decide +kernel) rfl
set_option maxRecDepth 20000 in
theorem q_424 : Cond.code y_KG_isSure prog_1_method_6_code 2 (some FieldType.boolean) ∈ TT := tt_i (i := 459) rfl rfl
theorem q_425 : Cond.methodLink "KeyGraph" 165 y_KG_put ∈ TT := tt_i (i := 460) (by decide +kernel) rfl
theorem q_427 : Cond.instanceMethod y_KG_put ∈ TT := tt_i (i := 462) (by decide +kernel) rfl
set_option maxRecDepth 20000 in
theorem q_428 : Cond.code y_KG_put prog_1_method_19_code 4 none ∈ TT := tt_i (i := 463) rfl rfl
theorem q_429 : Cond.methodLink "KeyGraph" 153 y_Fun_begin ∈ TT := tt_i (i := 464) (by decide +kernel) rfl
theorem q_430 : Cond.instanceMethod y_Fun_begin ∈ TT := tt_i (i := 465) (by decide +kernel) rfl
theorem q_431 : Cond.sameMethod "KeyGraph$Function" "KeyGraph$Function" "begin" "(I)V" ∈ TT := tt_i (i := 466) (by decide +kernel) rfl
theorem q_432 : Cond.selects "KeyGraph$Choice" y_Fun_begin y_Choice_begin ∈ TT := tt_i (i := 467) (by decide +kernel) rfl
theorem q_433 : Cond.instanceMethod y_Choice_begin ∈ TT := tt_i (i := 468) (by decide +kernel) rfl
set_option maxRecDepth 20000 in
theorem q_434 : Cond.code y_Choice_begin prog_2_method_2_code 2 none ∈ TT := tt_i (i := 469) rfl rfl
theorem q_435 : Cond.methodLink "KeyGraph$Choice" 9 y_Fun_begin ∈ TT := tt_i (i := 470) (by decide +kernel) rfl
theorem q_436 : Cond.selects "KeyGraph$First" y_Fun_begin y_Fun_begin ∈ TT := tt_i (i := 471) (by decide +kernel) rfl
theorem q_437 : Cond.selects "KeyGraph$Greatest" y_Fun_begin y_Great_begin ∈ TT := tt_i (i := 472) (by decide +kernel) rfl
theorem q_438 : Cond.instanceMethod y_Great_begin ∈ TT := tt_i (i := 473) (by decide +kernel) rfl
set_option maxRecDepth 20000 in
theorem q_439 : Cond.code y_Great_begin prog_5_method_2_code 2 none ∈ TT := tt_i (i := 474) rfl rfl
theorem q_440 : Cond.methodLink "KeyGraph$Greatest" 7 y_Fun_begin ∈ TT := tt_i (i := 475) (by decide +kernel) rfl
theorem q_441 : Cond.selects "KeyGraph$Quotient" y_Fun_begin y_Fun_begin ∈ TT := tt_i (i := 476) (by decide +kernel) rfl
theorem q_442 : Cond.selects "KeyGraph$Sum" y_Fun_begin y_Fun_begin ∈ TT := tt_i (i := 477) (by decide +kernel) rfl
set_option maxRecDepth 20000 in
theorem q_443 : Cond.code y_Fun_begin prog_4_method_2_code 2 none ∈ TT := tt_i (i := 478) rfl rfl
theorem q_444 : Cond.methodLink "KeyGraphLaw" 60 y_KG_cancel ∈ TT := tt_i (i := 479) (by decide +kernel) rfl
theorem q_445 : Cond.methodLink "KeyGraphLaw" 56 y_KG_step ∈ TT := tt_i (i := 480) (by decide +kernel) rfl
theorem q_446 : Cond.instanceMethod y_KG_step ∈ TT := tt_i (i := 481) (by decide +kernel) rfl
theorem q_447 : Cond.selects "KeyGraph" y_KG_step y_KG_step ∈ TT := tt_i (i := 482) (by decide +kernel) rfl
set_option maxRecDepth 20000 in
theorem q_448 : Cond.code y_KG_step prog_1_method_27_code 2 (some FieldType.int) ∈ TT := tt_i (i := 483) rfl rfl
theorem q_449 : Cond.methodLink "KeyGraph" 219 y_KG_stepOf ∈ TT := tt_i (i := 484) (by decide +kernel) rfl
theorem q_451 : Cond.instanceMethod y_KG_stepOf ∈ TT := tt_i (i := 486) (by decide +kernel) rfl
set_option maxRecDepth 20000 in
theorem q_452 : Cond.code y_KG_stepOf prog_1_method_25_code 6 (some FieldType.int) ∈ TT := tt_i (i := 487) rfl rfl
theorem q_453 : Cond.methodLink "KeyGraph" 190 y_KG_check ∈ TT := tt_i (i := 488) (by decide +kernel) rfl
theorem q_455 : Cond.instanceMethod y_KG_check ∈ TT := tt_i (i := 490) (by decide +kernel) rfl
set_option maxRecDepth 20000 in
theorem q_456 : Cond.code y_KG_check prog_1_method_26_code 5 (some FieldType.int) ∈ TT := tt_i (i := 491) rfl rfl
theorem q_457 : Cond.methodLink "KeyGraph" 186 y_KG_found ∈ TT := tt_i (i := 492) (by decide +kernel) rfl
theorem q_459 : Cond.instanceMethod y_KG_found ∈ TT := tt_i (i := 494) (by decide +kernel) rfl
set_option maxRecDepth 20000 in
theorem q_460 : Cond.code y_KG_found prog_1_method_22_code 3 (some FieldType.int) ∈ TT := tt_i (i := 495) rfl rfl
theorem q_461 : Cond.methodLink "KeyGraph" 208 y_KG_goesDown ∈ TT := tt_i (i := 496) (by decide +kernel) rfl
theorem q_463 : Cond.instanceMethod y_KG_goesDown ∈ TT := tt_i (i := 498) (by decide +kernel) rfl
set_option maxRecDepth 20000 in
theorem q_464 : Cond.code y_KG_goesDown prog_1_method_24_code 3 (some FieldType.int) ∈ TT := tt_i (i := 499) rfl rfl
theorem q_465 : Cond.methodLink "KeyGraph" 194 y_KG_ends ∈ TT := tt_i (i := 500) (by decide +kernel) rfl
theorem q_467 : Cond.instanceMethod y_KG_ends ∈ TT := tt_i (i := 502) (by decide +kernel) rfl
set_option maxRecDepth 20000 in
theorem q_468 : Cond.code y_KG_ends prog_1_method_23_code 7 (some FieldType.int) ∈ TT := tt_i (i := 503) rfl rfl
theorem q_469 : Cond.methodLink "KeyGraph" 198 y_Fun_fails ∈ TT := tt_i (i := 504) (by decide +kernel) rfl
theorem q_470 : Cond.instanceMethod y_Fun_fails ∈ TT := tt_i (i := 505) (by decide +kernel) rfl
theorem q_471 : Cond.sameMethod "KeyGraph$Function" "KeyGraph$Function" "fails" "()Z" ∈ TT := tt_i (i := 506) (by decide +kernel) rfl
theorem q_472 : Cond.selects "KeyGraph$Choice" y_Fun_fails y_Fun_fails ∈ TT := tt_i (i := 507) (by decide +kernel) rfl
theorem q_473 : Cond.selects "KeyGraph$First" y_Fun_fails y_Fun_fails ∈ TT := tt_i (i := 508) (by decide +kernel) rfl
theorem q_474 : Cond.selects "KeyGraph$Greatest" y_Fun_fails y_Fun_fails ∈ TT := tt_i (i := 509) (by decide +kernel) rfl
theorem q_475 : Cond.selects "KeyGraph$Quotient" y_Fun_fails y_Fun_fails ∈ TT := tt_i (i := 510) (by decide +kernel) rfl
theorem q_476 : Cond.selects "KeyGraph$Sum" y_Fun_fails y_Fun_fails ∈ TT := tt_i (i := 511) (by decide +kernel) rfl
set_option maxRecDepth 20000 in
theorem q_477 : Cond.code y_Fun_fails prog_4_method_7_code 1 (some FieldType.boolean) ∈ TT := tt_i (i := 512) rfl rfl
theorem q_478 : Cond.methodLink "KeyGraph" 201 y_Fun_next ∈ TT := tt_i (i := 513) (by decide +kernel) rfl
theorem q_479 : Cond.instanceMethod y_Fun_next ∈ TT := tt_i (i := 514) (by decide +kernel) rfl
theorem q_480 : Cond.sameMethod "KeyGraph$Function" "KeyGraph$Function" "next" "()I" ∈ TT := tt_i (i := 515) (by decide +kernel) rfl
theorem q_481 : Cond.selects "KeyGraph$Choice" y_Fun_next y_Choice_next ∈ TT := tt_i (i := 516) (by decide +kernel) rfl
theorem q_482 : Cond.instanceMethod y_Choice_next ∈ TT := tt_i (i := 517) (by decide +kernel) rfl
set_option maxRecDepth 20000 in
theorem q_483 : Cond.code y_Choice_next prog_2_method_3_code 1 (some FieldType.int) ∈ TT := tt_i (i := 518) rfl rfl
theorem q_484 : Cond.selects "KeyGraph$First" y_Fun_next y_Fun_next ∈ TT := tt_i (i := 519) (by decide +kernel) rfl
theorem q_485 : Cond.selects "KeyGraph$Greatest" y_Fun_next y_Fun_next ∈ TT := tt_i (i := 520) (by decide +kernel) rfl
theorem q_486 : Cond.selects "KeyGraph$Quotient" y_Fun_next y_Fun_next ∈ TT := tt_i (i := 521) (by decide +kernel) rfl
theorem q_487 : Cond.selects "KeyGraph$Sum" y_Fun_next y_Fun_next ∈ TT := tt_i (i := 522) (by decide +kernel) rfl
set_option maxRecDepth 20000 in
theorem q_488 : Cond.code y_Fun_next prog_4_method_3_code 1 (some FieldType.int) ∈ TT := tt_i (i := 523) rfl rfl
theorem q_489 : Cond.methodLink "KeyGraph" 204 y_Fun_result ∈ TT := tt_i (i := 524) (by decide +kernel) rfl
theorem q_490 : Cond.instanceMethod y_Fun_result ∈ TT := tt_i (i := 525) (by decide +kernel) rfl
theorem q_491 : Cond.sameMethod "KeyGraph$Function" "KeyGraph$Function" "result" "()J" ∈ TT := tt_i (i := 526) (by decide +kernel) rfl
theorem q_492 : Cond.selects "KeyGraph$Choice" y_Fun_result y_Fun_result ∈ TT := tt_i (i := 527) (by decide +kernel) rfl
theorem q_493 : Cond.selects "KeyGraph$First" y_Fun_result y_Fun_result ∈ TT := tt_i (i := 528) (by decide +kernel) rfl
theorem q_494 : Cond.selects "KeyGraph$Greatest" y_Fun_result y_Fun_result ∈ TT := tt_i (i := 529) (by decide +kernel) rfl
theorem q_495 : Cond.selects "KeyGraph$Quotient" y_Fun_result y_Fun_result ∈ TT := tt_i (i := 530) (by decide +kernel) rfl
theorem q_496 : Cond.selects "KeyGraph$Sum" y_Fun_result y_Sum_result ∈ TT := tt_i (i := 531) (by decide +kernel) rfl
theorem q_497 : Cond.instanceMethod y_Sum_result ∈ TT := tt_i (i := 532) (by decide +kernel) rfl
set_option maxRecDepth 20000 in
theorem q_498 : Cond.code y_Sum_result prog_9_method_3_code 1 (some FieldType.long) ∈ TT := tt_i (i := 533) rfl rfl
set_option maxRecDepth 20000 in
theorem q_499 : Cond.code y_Fun_result prog_4_method_6_code 1 (some FieldType.long) ∈ TT := tt_i (i := 534) rfl rfl
theorem q_500 : Cond.methodLink "KeyGraph" 212 y_Fun_take ∈ TT := tt_i (i := 535) (by decide +kernel) rfl
theorem q_501 : Cond.instanceMethod y_Fun_take ∈ TT := tt_i (i := 536) (by decide +kernel) rfl
theorem q_502 : Cond.sameMethod "KeyGraph$Function" "KeyGraph$Function" "take" "(J)V" ∈ TT := tt_i (i := 537) (by decide +kernel) rfl
theorem q_503 : Cond.selects "KeyGraph$Choice" y_Fun_take y_Choice_take ∈ TT := tt_i (i := 538) (by decide +kernel) rfl
theorem q_504 : Cond.instanceMethod y_Choice_take ∈ TT := tt_i (i := 539) (by decide +kernel) rfl
set_option maxRecDepth 20000 in
theorem q_505 : Cond.code y_Choice_take prog_2_method_4_code 5 none ∈ TT := tt_i (i := 540) rfl rfl
theorem q_506 : Cond.methodLink "KeyGraph$Choice" 26 y_Choice_with ∈ TT := tt_i (i := 541) (by decide +kernel) rfl
theorem q_507 : Cond.instanceMethod y_Choice_with ∈ TT := tt_i (i := 542) (by decide +kernel) rfl
theorem q_508 : Cond.selects "KeyGraph$Choice" y_Choice_with y_Choice_with ∈ TT := tt_i (i := 543) (by decide +kernel) rfl
set_option maxRecDepth 20000 in
theorem q_509 : Cond.code y_Choice_with prog_2_method_5_code 3 none ∈ TT := tt_i (i := 544) rfl rfl
theorem q_510 : Cond.selects "KeyGraph$First" y_Fun_take y_Fun_take ∈ TT := tt_i (i := 545) (by decide +kernel) rfl
theorem q_511 : Cond.selects "KeyGraph$Greatest" y_Fun_take y_Fun_take ∈ TT := tt_i (i := 546) (by decide +kernel) rfl
theorem q_512 : Cond.selects "KeyGraph$Quotient" y_Fun_take y_Fun_take ∈ TT := tt_i (i := 547) (by decide +kernel) rfl
theorem q_513 : Cond.selects "KeyGraph$Sum" y_Fun_take y_Fun_take ∈ TT := tt_i (i := 548) (by decide +kernel) rfl
set_option maxRecDepth 20000 in
theorem q_514 : Cond.code y_Fun_take prog_4_method_4_code 3 none ∈ TT := tt_i (i := 549) rfl rfl
theorem q_515 : Cond.methodLink "KeyGraph$Function" 26 y_Fun_with ∈ TT := tt_i (i := 550) (by decide +kernel) rfl
theorem q_517 : Cond.sameMethod "KeyGraph$Function" "KeyGraph$Function" "with" "(J)V" ∈ TT := tt_i (i := 552) (by decide +kernel) rfl
theorem q_518 : Cond.selects "KeyGraph$Choice" y_Fun_with y_Choice_with ∈ TT := tt_i (i := 553) (by decide +kernel) rfl
theorem q_519 : Cond.selects "KeyGraph$First" y_Fun_with y_First_with ∈ TT := tt_i (i := 554) (by decide +kernel) rfl
theorem q_520 : Cond.instanceMethod y_First_with ∈ TT := tt_i (i := 555) (by decide +kernel) rfl
set_option maxRecDepth 20000 in
theorem q_521 : Cond.code y_First_with prog_3_method_2_code 3 none ∈ TT := tt_i (i := 556) rfl rfl
theorem q_522 : Cond.selects "KeyGraph$Greatest" y_Fun_with y_Great_with ∈ TT := tt_i (i := 557) (by decide +kernel) rfl
theorem q_523 : Cond.instanceMethod y_Great_with ∈ TT := tt_i (i := 558) (by decide +kernel) rfl
set_option maxRecDepth 20000 in
theorem q_524 : Cond.code y_Great_with prog_5_method_3_code 3 none ∈ TT := tt_i (i := 559) rfl rfl
theorem q_525 : Cond.selects "KeyGraph$Quotient" y_Fun_with y_Quot_with ∈ TT := tt_i (i := 560) (by decide +kernel) rfl
theorem q_526 : Cond.instanceMethod y_Quot_with ∈ TT := tt_i (i := 561) (by decide +kernel) rfl
set_option maxRecDepth 20000 in
theorem q_527 : Cond.code y_Quot_with prog_8_method_2_code 3 none ∈ TT := tt_i (i := 562) rfl rfl
theorem q_528 : Cond.constantLong "KeyGraph$Quotient" 21 (-1 : Int64) ∈ TT := tt_i (i := 563) (by decide +kernel) rfl
theorem q_529 : Cond.selects "KeyGraph$Sum" y_Fun_with y_Sum_with ∈ TT := tt_i (i := 564) (by decide +kernel) rfl
theorem q_530 : Cond.instanceMethod y_Sum_with ∈ TT := tt_i (i := 565) (by decide +kernel) rfl
set_option maxRecDepth 20000 in
theorem q_531 : Cond.code y_Sum_with prog_9_method_2_code 3 none ∈ TT := tt_i (i := 566) rfl rfl
theorem q_532 : Cond.methodLink "KeyGraphLaw" 65 y_KG_run ∈ TT := tt_i (i := 567) (by decide +kernel) rfl
theorem q_533 : Cond.instanceMethod y_KG_run ∈ TT := tt_i (i := 568) (by decide +kernel) rfl
theorem q_534 : Cond.selects "KeyGraph" y_KG_run y_KG_run ∈ TT := tt_i (i := 569) (by decide +kernel) rfl
set_option maxRecDepth 20000 in
theorem q_535 : Cond.code y_KG_run prog_1_method_28_code 5 (some FieldType.int) ∈ TT := tt_i (i := 570) rfl rfl
theorem q_536 : Cond.methodLink "KeyGraphLaw" 69 y_KG_state ∈ TT := tt_i (i := 571) (by decide +kernel) rfl
theorem q_537 : Cond.instanceMethod y_KG_state ∈ TT := tt_i (i := 572) (by decide +kernel) rfl
theorem q_538 : Cond.selects "KeyGraph" y_KG_state y_KG_state ∈ TT := tt_i (i := 573) (by decide +kernel) rfl
set_option maxRecDepth 20000 in
theorem q_539 : Cond.code y_KG_state prog_1_method_29_code 2 (some FieldType.int) ∈ TT := tt_i (i := 574) rfl rfl
theorem q_540 : Cond.methodLink "KeyGraphLaw" 82 y_KG_worked ∈ TT := tt_i (i := 575) (by decide +kernel) rfl
theorem q_541 : Cond.instanceMethod y_KG_worked ∈ TT := tt_i (i := 576) (by decide +kernel) rfl
theorem q_542 : Cond.selects "KeyGraph" y_KG_worked y_KG_worked ∈ TT := tt_i (i := 577) (by decide +kernel) rfl
set_option maxRecDepth 20000 in
theorem q_543 : Cond.code y_KG_worked prog_1_method_31_code 2 (some FieldType.int) ∈ TT := tt_i (i := 578) rfl rfl
theorem q_544 : Cond.methodLink "KeyGraphLaw" 86 y_KG_kept ∈ TT := tt_i (i := 579) (by decide +kernel) rfl
theorem q_545 : Cond.instanceMethod y_KG_kept ∈ TT := tt_i (i := 580) (by decide +kernel) rfl
theorem q_546 : Cond.selects "KeyGraph" y_KG_kept y_KG_kept ∈ TT := tt_i (i := 581) (by decide +kernel) rfl
set_option maxRecDepth 20000 in
theorem q_547 : Cond.code y_KG_kept prog_1_method_32_code 2 (some FieldType.int) ∈ TT := tt_i (i := 582) rfl rfl
theorem q_548 : Cond.methodLink "KeyGraphLaw" 90 y_KG_changed ∈ TT := tt_i (i := 583) (by decide +kernel) rfl
theorem q_549 : Cond.instanceMethod y_KG_changed ∈ TT := tt_i (i := 584) (by decide +kernel) rfl
theorem q_550 : Cond.selects "KeyGraph" y_KG_changed y_KG_changed ∈ TT := tt_i (i := 585) (by decide +kernel) rfl
set_option maxRecDepth 20000 in
theorem q_551 : Cond.code y_KG_changed prog_1_method_33_code 2 (some FieldType.int) ∈ TT := tt_i (i := 586) rfl rfl
theorem q_552 : Cond.methodLink "KeyGraphLaw" 94 y_KG_asked ∈ TT := tt_i (i := 587) (by decide +kernel) rfl
theorem q_553 : Cond.instanceMethod y_KG_asked ∈ TT := tt_i (i := 588) (by decide +kernel) rfl
theorem q_554 : Cond.selects "KeyGraph" y_KG_asked y_KG_asked ∈ TT := tt_i (i := 589) (by decide +kernel) rfl
set_option maxRecDepth 20000 in
theorem q_555 : Cond.code y_KG_asked prog_1_method_34_code 3 (some FieldType.int) ∈ TT := tt_i (i := 590) rfl rfl
theorem q_556 : Cond.methodLink "KeyGraphLaw" 98 y_KG_drop ∈ TT := tt_i (i := 591) (by decide +kernel) rfl
theorem q_557 : Cond.instanceMethod y_KG_drop ∈ TT := tt_i (i := 592) (by decide +kernel) rfl
theorem q_558 : Cond.selects "KeyGraph" y_KG_drop y_KG_drop ∈ TT := tt_i (i := 593) (by decide +kernel) rfl
set_option maxRecDepth 20000 in
theorem q_559 : Cond.code y_KG_drop prog_1_method_35_code 2 (some FieldType.boolean) ∈ TT := tt_i (i := 594) rfl rfl
theorem q_560 : Cond.methodLink "KeyGraphLaw" 73 y_Law_value ∈ TT := tt_i (i := 595) (by decide +kernel) rfl
theorem q_561 : Cond.static y_Law_value ∈ TT := tt_i (i := 596) (by decide +kernel) rfl
set_option maxRecDepth 20000 in
theorem q_562 : Cond.codeWith y_Law_value method_3_code 4 (some FieldType.int) [(0, 8, 11, 13), (0, 8, 14, 15)] ∈ TT := tt_i (i := 597) rfl rfl
theorem q_563 : Cond.classLink "KeyGraphLaw" 13 "java/lang/IllegalArgumentException" ∈ TT := tt_i (i := 598) (by decide +kernel) rfl
theorem q_564 : Cond.classLink "KeyGraphLaw" 15 "java/lang/IllegalStateException" ∈ TT := tt_i (i := 599) (by decide +kernel) rfl
theorem q_565 : Cond.methodLink "KeyGraphLaw" 7 y_KG_value ∈ TT := tt_i (i := 600) (by decide +kernel) rfl
theorem q_566 : Cond.instanceMethod y_KG_value ∈ TT := tt_i (i := 601) (by decide +kernel) rfl
theorem q_567 : Cond.selects "KeyGraph" y_KG_value y_KG_value ∈ TT := tt_i (i := 602) (by decide +kernel) rfl
set_option maxRecDepth 20000 in
theorem q_568 : Cond.code y_KG_value prog_1_method_30_code 2 (some FieldType.long) ∈ TT := tt_i (i := 603) rfl rfl
theorem q_569 : Cond.classLink "KeyGraph" 223 "java/lang/IllegalArgumentException" ∈ TT := tt_i (i := 604) (by decide +kernel) rfl
theorem q_570 : Cond.instantiable "java/lang/IllegalArgumentException" 6 ∈ TT := tt_i (i := 605) (by decide +kernel) rfl
theorem q_578 : Cond.selects "java/lang/IllegalArgumentException" y_Thr_fillInStackTracex y_Thr_fillInStackTracex ∈ TT := tt_i (i := 613) (by decide +kernel) rfl
theorem q_579 : Cond.selects "java/lang/IllegalArgumentException" y_Thr_fillInStackTrace y_Thr_fillInStackTrace ∈ TT := tt_i (i := 614) (by decide +kernel) rfl
theorem q_580 : Cond.lays "java/lang/IllegalArgumentException" "java/lang/Throwable" "cause" "Ljava/lang/Throwable;" ∈ TT := tt_i (i := 615) (by decide +kernel) rfl
theorem q_581 : Cond.lays "java/lang/Throwable" "java/lang/Throwable" "cause" "Ljava/lang/Throwable;" ∈ TT := tt_i (i := 616) (by decide +kernel) rfl
theorem q_582 : Cond.lays "java/lang/IllegalArgumentException" "java/lang/Throwable" "stackTrace" "[Ljava/lang/StackTraceElement;" ∈ TT := tt_i (i := 617) (by decide +kernel) rfl
theorem q_583 : Cond.lays "java/lang/Throwable" "java/lang/Throwable" "stackTrace" "[Ljava/lang/StackTraceElement;" ∈ TT := tt_i (i := 618) (by decide +kernel) rfl
theorem q_584 : Cond.lays "java/lang/IllegalArgumentException" "java/lang/Throwable" "suppressedExceptions" "Ljava/util/List;" ∈ TT := tt_i (i := 619) (by decide +kernel) rfl
theorem q_585 : Cond.lays "java/lang/Throwable" "java/lang/Throwable" "suppressedExceptions" "Ljava/util/List;" ∈ TT := tt_i (i := 620) (by decide +kernel) rfl
theorem q_586 : Cond.lays "java/lang/IllegalArgumentException" "java/lang/Throwable" "detailMessage" "Ljava/lang/String;" ∈ TT := tt_i (i := 621) (by decide +kernel) rfl
theorem q_587 : Cond.lays "java/lang/Throwable" "java/lang/Throwable" "detailMessage" "Ljava/lang/String;" ∈ TT := tt_i (i := 622) (by decide +kernel) rfl
theorem q_588 : Cond.lays "java/lang/IllegalArgumentException" "java/lang/Throwable" "backtrace" "Ljava/lang/Object;" ∈ TT := tt_i (i := 623) (by decide +kernel) rfl
theorem q_589 : Cond.lays "java/lang/Throwable" "java/lang/Throwable" "backtrace" "Ljava/lang/Object;" ∈ TT := tt_i (i := 624) (by decide +kernel) rfl
theorem q_590 : Cond.fieldLink "java/lang/Throwable" 198 "java/lang/Throwable" "backtrace" "Ljava/lang/Object;" ∈ TT := tt_i (i := 625) (by decide +kernel) rfl
theorem q_592 : Cond.instanceMethod y_Thr_init ∈ TT := tt_i (i := 627) (by decide +kernel) rfl
set_option maxRecDepth 20000 in
theorem q_593 : Cond.code y_Thr_init prog_21_method_1_code 1 none ∈ TT := tt_i (i := 628) rfl rfl
theorem q_594 : Cond.methodLink "java/lang/Throwable" 1 y_Obj_init ∈ TT := tt_i (i := 629) (by decide +kernel) rfl
theorem q_595 : Cond.fieldLink "java/lang/Throwable" 13 "java/lang/Throwable" "UNASSIGNED_STACK" "[Ljava/lang/StackTraceElement;" ∈ TT := tt_i (i := 630) (by decide +kernel) rfl
theorem q_597 : Cond.fieldLink "java/lang/Throwable" 20 "java/lang/Throwable" "SUPPRESSED_SENTINEL" "Ljava/util/List;" ∈ TT := tt_i (i := 632) (by decide +kernel) rfl
theorem q_599 : Cond.methodLink "java/lang/Throwable" 27 y_Thr_fillInStackTrace ∈ TT := tt_i (i := 634) (by decide +kernel) rfl
theorem q_600 : Cond.instanceMethod y_Thr_fillInStackTrace ∈ TT := tt_i (i := 635) (by decide +kernel) rfl
theorem q_601 : Cond.sameMethod "java/lang/Throwable" "java/lang/Throwable" "fillInStackTrace" "()Ljava/lang/Throwable;" ∈ TT := tt_i (i := 636) (by decide +kernel) rfl
theorem q_602 : Cond.selects "java/lang/IllegalStateException" y_Thr_fillInStackTrace y_Thr_fillInStackTrace ∈ TT := tt_i (i := 637) (by decide +kernel) rfl
set_option maxRecDepth 20000 in
theorem q_603 : Cond.codeSync y_Thr_fillInStackTrace prog_21_method_18_code 1 (some (FieldType.object "java/lang/Throwable")) ∈ TT := tt_i (i := 638) rfl rfl
theorem q_604 : Cond.methodLink "java/lang/Throwable" 202 y_Thr_fillInStackTracex ∈ TT := tt_i (i := 639) (by decide +kernel) rfl
theorem q_606 : Cond.instanceMethod y_Thr_fillInStackTracex ∈ TT := tt_i (i := 641) (by decide +kernel) rfl
theorem q_607 : Cond.instantiable "java/lang/Throwable" 6 ∈ TT := tt_i (i := 642) (by decide +kernel) rfl
theorem q_608 : Cond.native y_Thr_fillInStackTracex ∈ TT := tt_i (i := 643) (by decide +kernel) rfl
theorem q_609 : Cond.methodLink "KeyGraph" 225 y_IAE_init ∈ TT := tt_i (i := 644) (by decide +kernel) rfl
theorem q_610 : Cond.instanceMethod y_IAE_init ∈ TT := tt_i (i := 645) (by decide +kernel) rfl
set_option maxRecDepth 20000 in
theorem q_611 : Cond.code y_IAE_init prog_15_method_1_code 1 none ∈ TT := tt_i (i := 646) rfl rfl
theorem q_612 : Cond.methodLink "java/lang/IllegalArgumentException" 1 y_RTE_init ∈ TT := tt_i (i := 647) (by decide +kernel) rfl
theorem q_613 : Cond.instanceMethod y_RTE_init ∈ TT := tt_i (i := 648) (by decide +kernel) rfl
set_option maxRecDepth 20000 in
theorem q_614 : Cond.code y_RTE_init prog_19_method_1_code 1 none ∈ TT := tt_i (i := 649) rfl rfl
theorem q_615 : Cond.methodLink "java/lang/RuntimeException" 1 y_Exc_init ∈ TT := tt_i (i := 650) (by decide +kernel) rfl
theorem q_616 : Cond.instanceMethod y_Exc_init ∈ TT := tt_i (i := 651) (by decide +kernel) rfl
set_option maxRecDepth 20000 in
theorem q_617 : Cond.code y_Exc_init prog_14_method_1_code 1 none ∈ TT := tt_i (i := 652) rfl rfl
theorem q_618 : Cond.methodLink "java/lang/Exception" 1 y_Thr_init ∈ TT := tt_i (i := 653) (by decide +kernel) rfl
theorem q_619 : Cond.fieldLink "java/lang/Throwable" 198 "java/lang/Throwable" "backtrace" "Ljava/lang/Object;" ∈ TT := tt_i (i := 654) (by decide +kernel) rfl
theorem q_620 : Cond.fieldLink "java/lang/Throwable" 7 "java/lang/Throwable" "cause" "Ljava/lang/Throwable;" ∈ TT := tt_i (i := 655) (by decide +kernel) rfl
theorem q_621 : Cond.fieldLink "java/lang/Throwable" 17 "java/lang/Throwable" "stackTrace" "[Ljava/lang/StackTraceElement;" ∈ TT := tt_i (i := 656) (by decide +kernel) rfl
theorem q_622 : Cond.fieldLink "java/lang/Throwable" 24 "java/lang/Throwable" "suppressedExceptions" "Ljava/util/List;" ∈ TT := tt_i (i := 657) (by decide +kernel) rfl
theorem q_627 : Cond.lays "java/lang/IllegalArgumentException" "java/lang/Throwable" "depth" "I" ∈ TT := tt_i (i := 662) (by decide +kernel) rfl
theorem q_631 : Cond.methodLink "KeyGraph" 226 y_KG_state ∈ TT := tt_i (i := 666) (by decide +kernel) rfl
theorem q_632 : Cond.classLink "KeyGraph" 228 "java/lang/IllegalStateException" ∈ TT := tt_i (i := 667) (by decide +kernel) rfl
theorem q_633 : Cond.instantiable "java/lang/IllegalStateException" 6 ∈ TT := tt_i (i := 668) (by decide +kernel) rfl
theorem q_635 : Cond.selects "java/lang/IllegalStateException" y_Thr_fillInStackTracex y_Thr_fillInStackTracex ∈ TT := tt_i (i := 670) (by decide +kernel) rfl
theorem q_636 : Cond.lays "java/lang/IllegalStateException" "java/lang/Throwable" "cause" "Ljava/lang/Throwable;" ∈ TT := tt_i (i := 671) (by decide +kernel) rfl
theorem q_637 : Cond.lays "java/lang/IllegalStateException" "java/lang/Throwable" "stackTrace" "[Ljava/lang/StackTraceElement;" ∈ TT := tt_i (i := 672) (by decide +kernel) rfl
theorem q_638 : Cond.lays "java/lang/IllegalStateException" "java/lang/Throwable" "suppressedExceptions" "Ljava/util/List;" ∈ TT := tt_i (i := 673) (by decide +kernel) rfl
theorem q_639 : Cond.lays "java/lang/IllegalStateException" "java/lang/Throwable" "detailMessage" "Ljava/lang/String;" ∈ TT := tt_i (i := 674) (by decide +kernel) rfl
theorem q_640 : Cond.lays "java/lang/IllegalStateException" "java/lang/Throwable" "backtrace" "Ljava/lang/Object;" ∈ TT := tt_i (i := 675) (by decide +kernel) rfl
theorem q_641 : Cond.methodLink "KeyGraph" 230 y_ISE_init ∈ TT := tt_i (i := 676) (by decide +kernel) rfl
theorem q_642 : Cond.instanceMethod y_ISE_init ∈ TT := tt_i (i := 677) (by decide +kernel) rfl
set_option maxRecDepth 20000 in
theorem q_643 : Cond.code y_ISE_init prog_16_method_1_code 1 none ∈ TT := tt_i (i := 678) rfl rfl
theorem q_644 : Cond.methodLink "java/lang/IllegalStateException" 1 y_RTE_init ∈ TT := tt_i (i := 679) (by decide +kernel) rfl
theorem q_645 : Cond.lays "java/lang/IllegalStateException" "java/lang/Throwable" "depth" "I" ∈ TT := tt_i (i := 680) (by decide +kernel) rfl
theorem q_647 : Cond.classLink "KeyGraphLaw" 18 "KeyGraphModel" ∈ TT := tt_i (i := 682) (by decide +kernel) rfl
theorem q_648 : Cond.instantiable "KeyGraphModel" 25 ∈ TT := tt_i (i := 683) (by decide +kernel) rfl
theorem q_649 : Cond.methodLink "KeyGraphLaw" 20 y_Mod_init ∈ TT := tt_i (i := 684) (by decide +kernel) rfl
theorem q_650 : Cond.instanceMethod y_Mod_init ∈ TT := tt_i (i := 685) (by decide +kernel) rfl
set_option maxRecDepth 20000 in
theorem q_651 : Cond.code y_Mod_init prog_11_method_1_code 1 none ∈ TT := tt_i (i := 686) rfl rfl
theorem q_652 : Cond.methodLink "KeyGraphModel" 1 y_Obj_init ∈ TT := tt_i (i := 687) (by decide +kernel) rfl
theorem q_653 : Cond.fieldLink "KeyGraphModel" 75 "KeyGraphModel" "code" "I" ∈ TT := tt_i (i := 688) (by decide +kernel) rfl
theorem q_654 : Cond.fieldLink "KeyGraphModel" 86 "KeyGraphModel" "version" "I" ∈ TT := tt_i (i := 689) (by decide +kernel) rfl
theorem q_655 : Cond.fieldLink "KeyGraphModel" 79 "KeyGraphModel" "keys" "I" ∈ TT := tt_i (i := 690) (by decide +kernel) rfl
theorem q_656 : Cond.fieldLink "KeyGraphModel" 7 "KeyGraphModel" "function" "[I" ∈ TT := tt_i (i := 691) (by decide +kernel) rfl
theorem q_657 : Cond.fieldLink "KeyGraphModel" 13 "KeyGraphModel" "rowMany" "[I" ∈ TT := tt_i (i := 692) (by decide +kernel) rfl
theorem q_658 : Cond.fieldLink "KeyGraphModel" 16 "KeyGraphModel" "row" "[I" ∈ TT := tt_i (i := 693) (by decide +kernel) rfl
theorem q_659 : Cond.fieldLink "KeyGraphModel" 19 "KeyGraphModel" "state" "[I" ∈ TT := tt_i (i := 694) (by decide +kernel) rfl
theorem q_660 : Cond.fieldLink "KeyGraphModel" 22 "KeyGraphModel" "sureAt" "[I" ∈ TT := tt_i (i := 695) (by decide +kernel) rfl
theorem q_661 : Cond.fieldLink "KeyGraphModel" 25 "KeyGraphModel" "changedAt" "[I" ∈ TT := tt_i (i := 696) (by decide +kernel) rfl
theorem q_662 : Cond.fieldLink "KeyGraphModel" 28 "KeyGraphModel" "ownAt" "[I" ∈ TT := tt_i (i := 697) (by decide +kernel) rfl
theorem q_663 : Cond.fieldLink "KeyGraphModel" 31 "KeyGraphModel" "askedMany" "[I" ∈ TT := tt_i (i := 698) (by decide +kernel) rfl
theorem q_664 : Cond.fieldLink "KeyGraphModel" 34 "KeyGraphModel" "asked" "[I" ∈ TT := tt_i (i := 699) (by decide +kernel) rfl
theorem q_665 : Cond.fieldLink "KeyGraphModel" 37 "KeyGraphModel" "worked" "[I" ∈ TT := tt_i (i := 700) (by decide +kernel) rfl
theorem q_666 : Cond.fieldLink "KeyGraphModel" 40 "KeyGraphModel" "checked" "[I" ∈ TT := tt_i (i := 701) (by decide +kernel) rfl
theorem q_667 : Cond.fieldLink "KeyGraphModel" 43 "KeyGraphModel" "value" "[J" ∈ TT := tt_i (i := 702) (by decide +kernel) rfl
theorem q_668 : Cond.fieldLink "KeyGraphModel" 47 "KeyGraphModel" "spoilt" "[Z" ∈ TT := tt_i (i := 703) (by decide +kernel) rfl
theorem q_669 : Cond.fieldLink "KeyGraphModel" 51 "KeyGraphModel" "isKept" "[Z" ∈ TT := tt_i (i := 704) (by decide +kernel) rfl
theorem q_670 : Cond.fieldLink "KeyGraphModel" 54 "KeyGraphModel" "high" "[I" ∈ TT := tt_i (i := 705) (by decide +kernel) rfl
theorem q_671 : Cond.fieldLink "KeyGraphModel" 57 "KeyGraphModel" "on" "[I" ∈ TT := tt_i (i := 706) (by decide +kernel) rfl
theorem q_672 : Cond.fieldLink "KeyGraphModel" 60 "KeyGraphModel" "far" "[I" ∈ TT := tt_i (i := 707) (by decide +kernel) rfl
theorem q_673 : Cond.fieldLink "KeyGraphModel" 63 "KeyGraphModel" "took" "[I" ∈ TT := tt_i (i := 708) (by decide +kernel) rfl
theorem q_674 : Cond.fieldLink "KeyGraphModel" 66 "KeyGraphModel" "works" "[Z" ∈ TT := tt_i (i := 709) (by decide +kernel) rfl
theorem q_675 : Cond.fieldLink "KeyGraphModel" 69 "KeyGraphModel" "ring" "[I" ∈ TT := tt_i (i := 710) (by decide +kernel) rfl
theorem q_676 : Cond.fieldLink "KeyGraphModel" 108 "KeyGraphModel" "ringMany" "I" ∈ TT := tt_i (i := 711) (by decide +kernel) rfl
theorem q_677 : Cond.fieldLink "KeyGraphModel" 72 "KeyGraphModel" "leads" "[Z" ∈ TT := tt_i (i := 712) (by decide +kernel) rfl
theorem q_678 : Cond.lays "KeyGraphModel" "KeyGraphModel" "code" "I" ∈ TT := tt_i (i := 713) (by decide +kernel) rfl
theorem q_680 : Cond.lays "KeyGraphModel" "KeyGraphModel" "version" "I" ∈ TT := tt_i (i := 715) (by decide +kernel) rfl
theorem q_682 : Cond.lays "KeyGraphModel" "KeyGraphModel" "keys" "I" ∈ TT := tt_i (i := 717) (by decide +kernel) rfl
theorem q_684 : Cond.laysFinal "KeyGraphModel" "KeyGraphModel" "function" "[I" ∈ TT := tt_i (i := 719) (by decide +kernel) rfl
theorem q_686 : Cond.laysFinal "KeyGraphModel" "KeyGraphModel" "rowMany" "[I" ∈ TT := tt_i (i := 721) (by decide +kernel) rfl
theorem q_688 : Cond.laysFinal "KeyGraphModel" "KeyGraphModel" "row" "[I" ∈ TT := tt_i (i := 723) (by decide +kernel) rfl
theorem q_690 : Cond.laysFinal "KeyGraphModel" "KeyGraphModel" "state" "[I" ∈ TT := tt_i (i := 725) (by decide +kernel) rfl
theorem q_692 : Cond.laysFinal "KeyGraphModel" "KeyGraphModel" "sureAt" "[I" ∈ TT := tt_i (i := 727) (by decide +kernel) rfl
theorem q_694 : Cond.laysFinal "KeyGraphModel" "KeyGraphModel" "changedAt" "[I" ∈ TT := tt_i (i := 729) (by decide +kernel) rfl
theorem q_696 : Cond.laysFinal "KeyGraphModel" "KeyGraphModel" "ownAt" "[I" ∈ TT := tt_i (i := 731) (by decide +kernel) rfl
theorem q_698 : Cond.laysFinal "KeyGraphModel" "KeyGraphModel" "askedMany" "[I" ∈ TT := tt_i (i := 733) (by decide +kernel) rfl
theorem q_700 : Cond.laysFinal "KeyGraphModel" "KeyGraphModel" "asked" "[I" ∈ TT := tt_i (i := 735) (by decide +kernel) rfl
theorem q_702 : Cond.laysFinal "KeyGraphModel" "KeyGraphModel" "worked" "[I" ∈ TT := tt_i (i := 737) (by decide +kernel) rfl
theorem q_704 : Cond.laysFinal "KeyGraphModel" "KeyGraphModel" "checked" "[I" ∈ TT := tt_i (i := 739) (by decide +kernel) rfl
theorem q_706 : Cond.laysFinal "KeyGraphModel" "KeyGraphModel" "value" "[J" ∈ TT := tt_i (i := 741) (by decide +kernel) rfl
theorem q_708 : Cond.laysFinal "KeyGraphModel" "KeyGraphModel" "spoilt" "[Z" ∈ TT := tt_i (i := 743) (by decide +kernel) rfl
theorem q_710 : Cond.laysFinal "KeyGraphModel" "KeyGraphModel" "isKept" "[Z" ∈ TT := tt_i (i := 745) (by decide +kernel) rfl
theorem q_712 : Cond.laysFinal "KeyGraphModel" "KeyGraphModel" "high" "[I" ∈ TT := tt_i (i := 747) (by decide +kernel) rfl
theorem q_714 : Cond.laysFinal "KeyGraphModel" "KeyGraphModel" "on" "[I" ∈ TT := tt_i (i := 749) (by decide +kernel) rfl
theorem q_716 : Cond.laysFinal "KeyGraphModel" "KeyGraphModel" "far" "[I" ∈ TT := tt_i (i := 751) (by decide +kernel) rfl
theorem q_718 : Cond.laysFinal "KeyGraphModel" "KeyGraphModel" "took" "[I" ∈ TT := tt_i (i := 753) (by decide +kernel) rfl
theorem q_720 : Cond.laysFinal "KeyGraphModel" "KeyGraphModel" "works" "[Z" ∈ TT := tt_i (i := 755) (by decide +kernel) rfl
theorem q_722 : Cond.laysFinal "KeyGraphModel" "KeyGraphModel" "ring" "[I" ∈ TT := tt_i (i := 757) (by decide +kernel) rfl
theorem q_724 : Cond.lays "KeyGraphModel" "KeyGraphModel" "ringMany" "I" ∈ TT := tt_i (i := 759) (by decide +kernel) rfl
theorem q_726 : Cond.laysFinal "KeyGraphModel" "KeyGraphModel" "leads" "[Z" ∈ TT := tt_i (i := 761) (by decide +kernel) rfl
theorem q_729 : Cond.arrayClass FieldType.long ∈ TT := tt_i (i := 764) (by decide +kernel) rfl
theorem q_730 : Cond.methodLink "KeyGraphLaw" 79 y_Mod_thrown ∈ TT := tt_i (i := 765) (by decide +kernel) rfl
theorem q_731 : Cond.instanceMethod y_Mod_thrown ∈ TT := tt_i (i := 766) (by decide +kernel) rfl
theorem q_732 : Cond.selects "KeyGraphModel" y_Mod_thrown y_Mod_thrown ∈ TT := tt_i (i := 767) (by decide +kernel) rfl
set_option maxRecDepth 20000 in
theorem q_733 : Cond.code y_Mod_thrown prog_11_method_2_code 1 (some FieldType.int) ∈ TT := tt_i (i := 768) rfl rfl
theorem q_734 : Cond.methodLink "KeyGraphLaw" 27 y_Mod_leaf ∈ TT := tt_i (i := 769) (by decide +kernel) rfl
theorem q_735 : Cond.instanceMethod y_Mod_leaf ∈ TT := tt_i (i := 770) (by decide +kernel) rfl
theorem q_736 : Cond.selects "KeyGraphModel" y_Mod_leaf y_Mod_leaf ∈ TT := tt_i (i := 771) (by decide +kernel) rfl
set_option maxRecDepth 20000 in
theorem q_737 : Cond.code y_Mod_leaf prog_11_method_6_code 3 (some FieldType.int) ∈ TT := tt_i (i := 772) rfl rfl
theorem q_738 : Cond.methodLink "KeyGraphModel" 89 y_Mod_make ∈ TT := tt_i (i := 773) (by decide +kernel) rfl
theorem q_740 : Cond.instanceMethod y_Mod_make ∈ TT := tt_i (i := 775) (by decide +kernel) rfl
set_option maxRecDepth 20000 in
theorem q_741 : Cond.code y_Mod_make prog_11_method_5_code 2 (some FieldType.int) ∈ TT := tt_i (i := 776) rfl rfl
theorem q_742 : Cond.methodLink "KeyGraphLaw" 32 y_Mod_key ∈ TT := tt_i (i := 777) (by decide +kernel) rfl
theorem q_743 : Cond.instanceMethod y_Mod_key ∈ TT := tt_i (i := 778) (by decide +kernel) rfl
theorem q_744 : Cond.selects "KeyGraphModel" y_Mod_key y_Mod_key ∈ TT := tt_i (i := 779) (by decide +kernel) rfl
set_option maxRecDepth 20000 in
theorem q_745 : Cond.code y_Mod_key prog_11_method_7_code 2 (some FieldType.int) ∈ TT := tt_i (i := 780) rfl rfl
theorem q_746 : Cond.methodLink "KeyGraphLaw" 37 y_Mod_asks ∈ TT := tt_i (i := 781) (by decide +kernel) rfl
theorem q_747 : Cond.instanceMethod y_Mod_asks ∈ TT := tt_i (i := 782) (by decide +kernel) rfl
theorem q_748 : Cond.selects "KeyGraphModel" y_Mod_asks y_Mod_asks ∈ TT := tt_i (i := 783) (by decide +kernel) rfl
set_option maxRecDepth 20000 in
theorem q_749 : Cond.code y_Mod_asks prog_11_method_12_code 4 (some FieldType.int) ∈ TT := tt_i (i := 784) rfl rfl
theorem q_750 : Cond.methodLink "KeyGraphModel" 82 y_Mod_isKey ∈ TT := tt_i (i := 785) (by decide +kernel) rfl
theorem q_752 : Cond.instanceMethod y_Mod_isKey ∈ TT := tt_i (i := 787) (by decide +kernel) rfl
set_option maxRecDepth 20000 in
theorem q_753 : Cond.code y_Mod_isKey prog_11_method_3_code 2 (some FieldType.boolean) ∈ TT := tt_i (i := 788) rfl rfl
theorem q_754 : Cond.methodLink "KeyGraphModel" 101 y_Mod_isLeaf ∈ TT := tt_i (i := 789) (by decide +kernel) rfl
theorem q_756 : Cond.instanceMethod y_Mod_isLeaf ∈ TT := tt_i (i := 791) (by decide +kernel) rfl
set_option maxRecDepth 20000 in
theorem q_757 : Cond.code y_Mod_isLeaf prog_11_method_4_code 2 (some FieldType.boolean) ∈ TT := tt_i (i := 792) rfl rfl
theorem q_758 : Cond.methodLink "KeyGraphModel" 104 y_Mod_fillLeads ∈ TT := tt_i (i := 793) (by decide +kernel) rfl
theorem q_760 : Cond.instanceMethod y_Mod_fillLeads ∈ TT := tt_i (i := 795) (by decide +kernel) rfl
set_option maxRecDepth 20000 in
theorem q_761 : Cond.code y_Mod_fillLeads prog_11_method_11_code 5 none ∈ TT := tt_i (i := 796) rfl rfl
theorem q_762 : Cond.methodLink "KeyGraphModel" 97 y_Mod_rowKey ∈ TT := tt_i (i := 797) (by decide +kernel) rfl
theorem q_764 : Cond.instanceMethod y_Mod_rowKey ∈ TT := tt_i (i := 799) (by decide +kernel) rfl
set_option maxRecDepth 20000 in
theorem q_765 : Cond.code y_Mod_rowKey prog_11_method_10_code 3 (some FieldType.int) ∈ TT := tt_i (i := 800) rfl rfl
theorem q_766 : Cond.methodLink "KeyGraphModel" 111 y_Mod_firstBack ∈ TT := tt_i (i := 801) (by decide +kernel) rfl
theorem q_768 : Cond.instanceMethod y_Mod_firstBack ∈ TT := tt_i (i := 803) (by decide +kernel) rfl
set_option maxRecDepth 20000 in
theorem q_769 : Cond.code y_Mod_firstBack prog_11_method_13_code 3 (some FieldType.int) ∈ TT := tt_i (i := 804) rfl rfl
theorem q_770 : Cond.methodLink "KeyGraphModel" 114 y_Mod_next ∈ TT := tt_i (i := 805) (by decide +kernel) rfl
theorem q_772 : Cond.instanceMethod y_Mod_next ∈ TT := tt_i (i := 807) (by decide +kernel) rfl
set_option maxRecDepth 20000 in
theorem q_773 : Cond.code y_Mod_next prog_11_method_9_code 1 (some FieldType.int) ∈ TT := tt_i (i := 808) rfl rfl
theorem q_774 : Cond.methodLink "KeyGraphModel" 93 y_Mod_empty ∈ TT := tt_i (i := 809) (by decide +kernel) rfl
theorem q_776 : Cond.instanceMethod y_Mod_empty ∈ TT := tt_i (i := 811) (by decide +kernel) rfl
set_option maxRecDepth 20000 in
theorem q_777 : Cond.code y_Mod_empty prog_11_method_8_code 3 (some FieldType.int) ∈ TT := tt_i (i := 812) rfl rfl
theorem q_778 : Cond.methodLink "KeyGraphLaw" 41 y_Mod_ring ∈ TT := tt_i (i := 813) (by decide +kernel) rfl
theorem q_779 : Cond.instanceMethod y_Mod_ring ∈ TT := tt_i (i := 814) (by decide +kernel) rfl
theorem q_780 : Cond.selects "KeyGraphModel" y_Mod_ring y_Mod_ring ∈ TT := tt_i (i := 815) (by decide +kernel) rfl
set_option maxRecDepth 20000 in
theorem q_781 : Cond.code y_Mod_ring prog_11_method_14_code 2 (some FieldType.int) ∈ TT := tt_i (i := 816) rfl rfl
theorem q_782 : Cond.methodLink "KeyGraphLaw" 46 y_Mod_change ∈ TT := tt_i (i := 817) (by decide +kernel) rfl
theorem q_783 : Cond.instanceMethod y_Mod_change ∈ TT := tt_i (i := 818) (by decide +kernel) rfl
theorem q_784 : Cond.selects "KeyGraphModel" y_Mod_change y_Mod_change ∈ TT := tt_i (i := 819) (by decide +kernel) rfl
set_option maxRecDepth 20000 in
theorem q_785 : Cond.code y_Mod_change prog_11_method_15_code 4 (some FieldType.int) ∈ TT := tt_i (i := 820) rfl rfl
theorem q_786 : Cond.methodLink "KeyGraphLaw" 51 y_Mod_spoil ∈ TT := tt_i (i := 821) (by decide +kernel) rfl
theorem q_787 : Cond.instanceMethod y_Mod_spoil ∈ TT := tt_i (i := 822) (by decide +kernel) rfl
theorem q_788 : Cond.selects "KeyGraphModel" y_Mod_spoil y_Mod_spoil ∈ TT := tt_i (i := 823) (by decide +kernel) rfl
set_option maxRecDepth 20000 in
theorem q_789 : Cond.code y_Mod_spoil prog_11_method_16_code 3 (some FieldType.int) ∈ TT := tt_i (i := 824) rfl rfl
theorem q_790 : Cond.methodLink "KeyGraphLaw" 55 y_Mod_begin ∈ TT := tt_i (i := 825) (by decide +kernel) rfl
theorem q_791 : Cond.instanceMethod y_Mod_begin ∈ TT := tt_i (i := 826) (by decide +kernel) rfl
theorem q_792 : Cond.selects "KeyGraphModel" y_Mod_begin y_Mod_begin ∈ TT := tt_i (i := 827) (by decide +kernel) rfl
set_option maxRecDepth 20000 in
theorem q_793 : Cond.code y_Mod_begin prog_11_method_21_code 3 (some FieldType.int) ∈ TT := tt_i (i := 828) rfl rfl
theorem q_794 : Cond.methodLink "KeyGraphModel" 117 y_Mod_isWorker ∈ TT := tt_i (i := 829) (by decide +kernel) rfl
theorem q_795 : Cond.static y_Mod_isWorker ∈ TT := tt_i (i := 830) (by decide +kernel) rfl
set_option maxRecDepth 20000 in
theorem q_796 : Cond.code y_Mod_isWorker prog_11_method_20_code 1 (some FieldType.boolean) ∈ TT := tt_i (i := 831) rfl rfl
theorem q_797 : Cond.methodLink "KeyGraphModel" 120 y_Mod_pileOf ∈ TT := tt_i (i := 832) (by decide +kernel) rfl
theorem q_799 : Cond.instanceMethod y_Mod_pileOf ∈ TT := tt_i (i := 834) (by decide +kernel) rfl
set_option maxRecDepth 20000 in
theorem q_800 : Cond.code y_Mod_pileOf prog_11_method_18_code 5 (some FieldType.int) ∈ TT := tt_i (i := 835) rfl rfl
theorem q_801 : Cond.methodLink "KeyGraphModel" 123 y_Mod_isSure ∈ TT := tt_i (i := 836) (by decide +kernel) rfl
theorem q_803 : Cond.instanceMethod y_Mod_isSure ∈ TT := tt_i (i := 838) (by decide +kernel) rfl
set_option maxRecDepth 20000 in
theorem q_804 : Cond.code y_Mod_isSure prog_11_method_17_code 2 (some FieldType.boolean) ∈ TT := tt_i (i := 839) rfl rfl
theorem q_805 : Cond.methodLink "KeyGraphModel" 126 y_Mod_lay ∈ TT := tt_i (i := 840) (by decide +kernel) rfl
theorem q_807 : Cond.instanceMethod y_Mod_lay ∈ TT := tt_i (i := 842) (by decide +kernel) rfl
set_option maxRecDepth 20000 in
theorem q_808 : Cond.code y_Mod_lay prog_11_method_19_code 4 none ∈ TT := tt_i (i := 843) rfl rfl
theorem q_809 : Cond.methodLink "KeyGraphLaw" 64 y_Mod_cancel ∈ TT := tt_i (i := 844) (by decide +kernel) rfl
theorem q_810 : Cond.instanceMethod y_Mod_cancel ∈ TT := tt_i (i := 845) (by decide +kernel) rfl
theorem q_811 : Cond.selects "KeyGraphModel" y_Mod_cancel y_Mod_cancel ∈ TT := tt_i (i := 846) (by decide +kernel) rfl
set_option maxRecDepth 20000 in
theorem q_812 : Cond.code y_Mod_cancel prog_11_method_22_code 1 (some FieldType.int) ∈ TT := tt_i (i := 847) rfl rfl
theorem q_813 : Cond.methodLink "KeyGraphLaw" 59 y_Mod_step ∈ TT := tt_i (i := 848) (by decide +kernel) rfl
theorem q_814 : Cond.instanceMethod y_Mod_step ∈ TT := tt_i (i := 849) (by decide +kernel) rfl
theorem q_815 : Cond.selects "KeyGraphModel" y_Mod_step y_Mod_step ∈ TT := tt_i (i := 850) (by decide +kernel) rfl
set_option maxRecDepth 20000 in
theorem q_816 : Cond.code y_Mod_step prog_11_method_31_code 2 (some FieldType.int) ∈ TT := tt_i (i := 851) rfl rfl
theorem q_817 : Cond.methodLink "KeyGraphModel" 157 y_Mod_go ∈ TT := tt_i (i := 852) (by decide +kernel) rfl
theorem q_819 : Cond.instanceMethod y_Mod_go ∈ TT := tt_i (i := 854) (by decide +kernel) rfl
set_option maxRecDepth 20000 in
theorem q_820 : Cond.code y_Mod_go prog_11_method_30_code 5 (some FieldType.int) ∈ TT := tt_i (i := 855) rfl rfl
theorem q_821 : Cond.methodLink "KeyGraphModel" 143 y_Mod_check ∈ TT := tt_i (i := 856) (by decide +kernel) rfl
theorem q_823 : Cond.instanceMethod y_Mod_check ∈ TT := tt_i (i := 858) (by decide +kernel) rfl
set_option maxRecDepth 20000 in
theorem q_824 : Cond.code y_Mod_check prog_11_method_29_code 5 (some FieldType.int) ∈ TT := tt_i (i := 859) rfl rfl
theorem q_825 : Cond.methodLink "KeyGraphModel" 140 y_Mod_await ∈ TT := tt_i (i := 860) (by decide +kernel) rfl
theorem q_827 : Cond.instanceMethod y_Mod_await ∈ TT := tt_i (i := 862) (by decide +kernel) rfl
set_option maxRecDepth 20000 in
theorem q_828 : Cond.code y_Mod_await prog_11_method_28_code 3 (some FieldType.int) ∈ TT := tt_i (i := 863) rfl rfl
theorem q_829 : Cond.methodLink "KeyGraphModel" 146 y_Mod_comes ∈ TT := tt_i (i := 864) (by decide +kernel) rfl
theorem q_831 : Cond.instanceMethod y_Mod_comes ∈ TT := tt_i (i := 866) (by decide +kernel) rfl
set_option maxRecDepth 20000 in
theorem q_832 : Cond.code y_Mod_comes prog_11_method_24_code 5 (some FieldType.int) ∈ TT := tt_i (i := 867) rfl rfl
theorem q_833 : Cond.methodLink "KeyGraphModel" 130 y_Mod_taken ∈ TT := tt_i (i := 868) (by decide +kernel) rfl
theorem q_835 : Cond.instanceMethod y_Mod_taken ∈ TT := tt_i (i := 870) (by decide +kernel) rfl
set_option maxRecDepth 20000 in
theorem q_836 : Cond.code y_Mod_taken prog_11_method_23_code 3 (some FieldType.long) ∈ TT := tt_i (i := 871) rfl rfl
theorem q_837 : Cond.methodLink "KeyGraphModel" 134 y_Mod_remainder ∈ TT := tt_i (i := 872) (by decide +kernel) rfl
theorem q_838 : Cond.static y_Mod_remainder ∈ TT := tt_i (i := 873) (by decide +kernel) rfl
set_option maxRecDepth 20000 in
theorem q_839 : Cond.code y_Mod_remainder prog_11_method_25_code 4 (some FieldType.int) ∈ TT := tt_i (i := 874) rfl rfl
theorem q_840 : Cond.methodLink "KeyGraphModel" 149 y_Mod_end ∈ TT := tt_i (i := 875) (by decide +kernel) rfl
theorem q_842 : Cond.instanceMethod y_Mod_end ∈ TT := tt_i (i := 877) (by decide +kernel) rfl
set_option maxRecDepth 20000 in
theorem q_843 : Cond.code y_Mod_end prog_11_method_27_code 9 (some FieldType.int) ∈ TT := tt_i (i := 878) rfl rfl
theorem q_844 : Cond.methodLink "KeyGraphModel" 153 y_Mod_outcome ∈ TT := tt_i (i := 879) (by decide +kernel) rfl
theorem q_846 : Cond.instanceMethod y_Mod_outcome ∈ TT := tt_i (i := 881) (by decide +kernel) rfl
set_option maxRecDepth 20000 in
theorem q_847 : Cond.code y_Mod_outcome prog_11_method_26_code 9 (some FieldType.long) ∈ TT := tt_i (i := 882) rfl rfl
theorem q_848 : Cond.constantLong "KeyGraphModel" 138 (-1 : Int64) ∈ TT := tt_i (i := 883) (by decide +kernel) rfl
theorem q_849 : Cond.methodLink "KeyGraphLaw" 68 y_Mod_run ∈ TT := tt_i (i := 884) (by decide +kernel) rfl
theorem q_850 : Cond.instanceMethod y_Mod_run ∈ TT := tt_i (i := 885) (by decide +kernel) rfl
theorem q_851 : Cond.selects "KeyGraphModel" y_Mod_run y_Mod_run ∈ TT := tt_i (i := 886) (by decide +kernel) rfl
set_option maxRecDepth 20000 in
theorem q_852 : Cond.code y_Mod_run prog_11_method_32_code 3 (some FieldType.int) ∈ TT := tt_i (i := 887) rfl rfl
theorem q_853 : Cond.methodLink "KeyGraphLaw" 72 y_Mod_state ∈ TT := tt_i (i := 888) (by decide +kernel) rfl
theorem q_854 : Cond.instanceMethod y_Mod_state ∈ TT := tt_i (i := 889) (by decide +kernel) rfl
theorem q_855 : Cond.selects "KeyGraphModel" y_Mod_state y_Mod_state ∈ TT := tt_i (i := 890) (by decide +kernel) rfl
set_option maxRecDepth 20000 in
theorem q_856 : Cond.code y_Mod_state prog_11_method_33_code 2 (some FieldType.int) ∈ TT := tt_i (i := 891) rfl rfl
theorem q_857 : Cond.methodLink "KeyGraphLaw" 78 y_Mod_value ∈ TT := tt_i (i := 892) (by decide +kernel) rfl
theorem q_858 : Cond.instanceMethod y_Mod_value ∈ TT := tt_i (i := 893) (by decide +kernel) rfl
theorem q_859 : Cond.selects "KeyGraphModel" y_Mod_value y_Mod_value ∈ TT := tt_i (i := 894) (by decide +kernel) rfl
set_option maxRecDepth 20000 in
theorem q_860 : Cond.code y_Mod_value prog_11_method_34_code 2 (some FieldType.long) ∈ TT := tt_i (i := 895) rfl rfl
theorem q_861 : Cond.methodLink "KeyGraphLaw" 85 y_Mod_worked ∈ TT := tt_i (i := 896) (by decide +kernel) rfl
theorem q_862 : Cond.instanceMethod y_Mod_worked ∈ TT := tt_i (i := 897) (by decide +kernel) rfl
theorem q_863 : Cond.selects "KeyGraphModel" y_Mod_worked y_Mod_worked ∈ TT := tt_i (i := 898) (by decide +kernel) rfl
set_option maxRecDepth 20000 in
theorem q_864 : Cond.code y_Mod_worked prog_11_method_35_code 2 (some FieldType.int) ∈ TT := tt_i (i := 899) rfl rfl
theorem q_865 : Cond.methodLink "KeyGraphLaw" 89 y_Mod_kept ∈ TT := tt_i (i := 900) (by decide +kernel) rfl
theorem q_866 : Cond.instanceMethod y_Mod_kept ∈ TT := tt_i (i := 901) (by decide +kernel) rfl
theorem q_867 : Cond.selects "KeyGraphModel" y_Mod_kept y_Mod_kept ∈ TT := tt_i (i := 902) (by decide +kernel) rfl
set_option maxRecDepth 20000 in
theorem q_868 : Cond.code y_Mod_kept prog_11_method_36_code 2 (some FieldType.int) ∈ TT := tt_i (i := 903) rfl rfl
theorem q_869 : Cond.methodLink "KeyGraphLaw" 93 y_Mod_changed ∈ TT := tt_i (i := 904) (by decide +kernel) rfl
theorem q_870 : Cond.instanceMethod y_Mod_changed ∈ TT := tt_i (i := 905) (by decide +kernel) rfl
theorem q_871 : Cond.selects "KeyGraphModel" y_Mod_changed y_Mod_changed ∈ TT := tt_i (i := 906) (by decide +kernel) rfl
set_option maxRecDepth 20000 in
theorem q_872 : Cond.code y_Mod_changed prog_11_method_37_code 2 (some FieldType.int) ∈ TT := tt_i (i := 907) rfl rfl
theorem q_873 : Cond.methodLink "KeyGraphLaw" 97 y_Mod_asked ∈ TT := tt_i (i := 908) (by decide +kernel) rfl
theorem q_874 : Cond.instanceMethod y_Mod_asked ∈ TT := tt_i (i := 909) (by decide +kernel) rfl
theorem q_875 : Cond.selects "KeyGraphModel" y_Mod_asked y_Mod_asked ∈ TT := tt_i (i := 910) (by decide +kernel) rfl
set_option maxRecDepth 20000 in
theorem q_876 : Cond.code y_Mod_asked prog_11_method_38_code 3 (some FieldType.int) ∈ TT := tt_i (i := 911) rfl rfl
theorem q_877 : Cond.methodLink "KeyGraphLaw" 102 y_Mod_drop ∈ TT := tt_i (i := 912) (by decide +kernel) rfl
theorem q_878 : Cond.instanceMethod y_Mod_drop ∈ TT := tt_i (i := 913) (by decide +kernel) rfl
theorem q_879 : Cond.selects "KeyGraphModel" y_Mod_drop y_Mod_drop ∈ TT := tt_i (i := 914) (by decide +kernel) rfl
set_option maxRecDepth 20000 in
theorem q_880 : Cond.code y_Mod_drop prog_11_method_39_code 2 (some FieldType.boolean) ∈ TT := tt_i (i := 915) rfl rfl
theorem q_881 : Cond.methodLink "KeyGraphLaw" 106 y_Mod_version ∈ TT := tt_i (i := 916) (by decide +kernel) rfl
theorem q_882 : Cond.instanceMethod y_Mod_version ∈ TT := tt_i (i := 917) (by decide +kernel) rfl
theorem q_883 : Cond.selects "KeyGraphModel" y_Mod_version y_Mod_version ∈ TT := tt_i (i := 918) (by decide +kernel) rfl
set_option maxRecDepth 20000 in
theorem q_884 : Cond.code y_Mod_version prog_11_method_40_code 1 (some FieldType.int) ∈ TT := tt_i (i := 919) rfl rfl
theorem q_885 : Cond.constantLong "KeyGraphLaw" 21 (4294967295 : Int64) ∈ TT := tt_i (i := 920) (by decide +kernel) rfl
theorem q_886 : Cond.sameMethod "java/lang/Throwable" "java/lang/Throwable" "fillInStackTrace" "(I)Ljava/lang/Throwable;" ∈ TT := tt_i (i := 921) (by decide +kernel) rfl
theorem q_888 : Cond.sameMethod "[Ljava/lang/Object;" "java/lang/Object" "getClass" "()Ljava/lang/Class;" ∈ TT := tt_i (i := 923) (by decide +kernel) rfl
theorem q_889 : Cond.selects "[Ljava/lang/Object;" y_Obj_getClass y_Obj_getClass ∈ TT := tt_i (i := 924) (by decide +kernel) rfl
theorem qp_0 : Cond.selects "java/util/ArrayList" y_AL_add3 y_AL_add3 ∈ TT := tt_i (i := 0) (by decide +kernel) rfl
theorem qp_1 : Cond.selects "java/util/ArrayList" y_AL_grow0 y_AL_grow0 ∈ TT := tt_i (i := 1) (by decide +kernel) rfl
theorem qp_2 : Cond.selects "java/util/ArrayList" y_AL_grow1 y_AL_grow1 ∈ TT := tt_i (i := 2) (by decide +kernel) rfl
theorem qp_3 : Cond.selects "KeyGraph" y_KG_isFunction y_KG_isFunction ∈ TT := tt_i (i := 3) (by decide +kernel) rfl
theorem qp_4 : Cond.selects "KeyGraph" y_KG_isKey y_KG_isKey ∈ TT := tt_i (i := 4) (by decide +kernel) rfl
theorem qp_5 : Cond.selects "KeyGraph" y_KG_leadTo y_KG_leadTo ∈ TT := tt_i (i := 5) (by decide +kernel) rfl
theorem qp_6 : Cond.selects "KeyGraph" y_KG_asksOne y_KG_asksOne ∈ TT := tt_i (i := 6) (by decide +kernel) rfl
theorem qp_7 : Cond.selects "KeyGraph" y_KG_isLeading y_KG_isLeading ∈ TT := tt_i (i := 7) (by decide +kernel) rfl
theorem qp_8 : Cond.selects "KeyGraph" y_KG_raise y_KG_raise ∈ TT := tt_i (i := 8) (by decide +kernel) rfl
theorem qp_9 : Cond.selects "KeyGraph" y_KG_isSure y_KG_isSure ∈ TT := tt_i (i := 9) (by decide +kernel) rfl
theorem qp_10 : Cond.selects "KeyGraph" y_KG_put y_KG_put ∈ TT := tt_i (i := 10) (by decide +kernel) rfl
theorem qp_11 : Cond.selects "KeyGraph" y_KG_stepOf y_KG_stepOf ∈ TT := tt_i (i := 11) (by decide +kernel) rfl
theorem qp_12 : Cond.selects "KeyGraph" y_KG_check y_KG_check ∈ TT := tt_i (i := 12) (by decide +kernel) rfl
theorem qp_13 : Cond.selects "KeyGraph" y_KG_found y_KG_found ∈ TT := tt_i (i := 13) (by decide +kernel) rfl
theorem qp_14 : Cond.selects "KeyGraph" y_KG_goesDown y_KG_goesDown ∈ TT := tt_i (i := 14) (by decide +kernel) rfl
theorem qp_15 : Cond.selects "KeyGraph" y_KG_ends y_KG_ends ∈ TT := tt_i (i := 15) (by decide +kernel) rfl
theorem qp_16 : Cond.selects "java/lang/Throwable" y_Thr_fillInStackTracex y_Thr_fillInStackTracex ∈ TT := tt_i (i := 16) (by decide +kernel) rfl
theorem qp_17 : Cond.selects "KeyGraphModel" y_Mod_make y_Mod_make ∈ TT := tt_i (i := 17) (by decide +kernel) rfl
theorem qp_18 : Cond.selects "KeyGraphModel" y_Mod_isKey y_Mod_isKey ∈ TT := tt_i (i := 18) (by decide +kernel) rfl
theorem qp_19 : Cond.selects "KeyGraphModel" y_Mod_isLeaf y_Mod_isLeaf ∈ TT := tt_i (i := 19) (by decide +kernel) rfl
theorem qp_20 : Cond.selects "KeyGraphModel" y_Mod_fillLeads y_Mod_fillLeads ∈ TT := tt_i (i := 20) (by decide +kernel) rfl
theorem qp_21 : Cond.selects "KeyGraphModel" y_Mod_rowKey y_Mod_rowKey ∈ TT := tt_i (i := 21) (by decide +kernel) rfl
theorem qp_22 : Cond.selects "KeyGraphModel" y_Mod_firstBack y_Mod_firstBack ∈ TT := tt_i (i := 22) (by decide +kernel) rfl
theorem qp_23 : Cond.selects "KeyGraphModel" y_Mod_next y_Mod_next ∈ TT := tt_i (i := 23) (by decide +kernel) rfl
theorem qp_24 : Cond.selects "KeyGraphModel" y_Mod_empty y_Mod_empty ∈ TT := tt_i (i := 24) (by decide +kernel) rfl
theorem qp_25 : Cond.selects "KeyGraphModel" y_Mod_pileOf y_Mod_pileOf ∈ TT := tt_i (i := 25) (by decide +kernel) rfl
theorem qp_26 : Cond.selects "KeyGraphModel" y_Mod_isSure y_Mod_isSure ∈ TT := tt_i (i := 26) (by decide +kernel) rfl
theorem qp_27 : Cond.selects "KeyGraphModel" y_Mod_lay y_Mod_lay ∈ TT := tt_i (i := 27) (by decide +kernel) rfl
theorem qp_28 : Cond.selects "KeyGraphModel" y_Mod_go y_Mod_go ∈ TT := tt_i (i := 28) (by decide +kernel) rfl
theorem qp_29 : Cond.selects "KeyGraphModel" y_Mod_check y_Mod_check ∈ TT := tt_i (i := 29) (by decide +kernel) rfl
theorem qp_30 : Cond.selects "KeyGraphModel" y_Mod_await y_Mod_await ∈ TT := tt_i (i := 30) (by decide +kernel) rfl
theorem qp_31 : Cond.selects "KeyGraphModel" y_Mod_comes y_Mod_comes ∈ TT := tt_i (i := 31) (by decide +kernel) rfl
theorem qp_32 : Cond.selects "KeyGraphModel" y_Mod_taken y_Mod_taken ∈ TT := tt_i (i := 32) (by decide +kernel) rfl
theorem qp_33 : Cond.selects "KeyGraphModel" y_Mod_end y_Mod_end ∈ TT := tt_i (i := 33) (by decide +kernel) rfl
theorem qp_34 : Cond.selects "KeyGraphModel" y_Mod_outcome y_Mod_outcome ∈ TT := tt_i (i := 34) (by decide +kernel) rfl
def F_KG : u_T := fun k => match k with
  | 0 => ("KeyGraph", "keys", "Ljava/util/ArrayList;", true)
  | 1 => ("KeyGraph", "piles", "[LKeyGraph$Pile;", true)
  | 2 => ("KeyGraph", "told", "Ljava/util/ArrayList;", true)
  | 3 => ("KeyGraph", "version", "I", false)
  | _ => ("KeyGraph", "leads", "[Z", true)
def t_KG : Nat → FieldType := fun k => match k with
  | 0 => .object "java/util/ArrayList"
  | 1 => .array (.object "KeyGraph$Pile")
  | 2 => .object "java/util/ArrayList"
  | 3 => .int
  | _ => .array .boolean
theorem n_KG : ∀ a, a < 5 → ∀ b, b < 5 → a ≠ b → (F_KG a).2.1 ≠ (F_KG b).2.1 := by decide +kernel
theorem t_KG_ok : ∀ k, k < 5 → parseFieldDescriptor (F_KG k).2.2.1 = some (t_KG k) := by decide +kernel
theorem i_KG : ∀ w ∈ u_ws "KeyGraph" F_KG 5, w ∈ TT := by
  intro w hw
  obtain ⟨k, hk, rfl⟩ := List.mem_map.mp hw
  have hk := List.mem_range.mp hk
  match k, hk with
  | 0, _ => exact q_85
  | 1, _ => exact q_87
  | 2, _ => exact q_89
  | 3, _ => exact q_91
  | 4, _ => exact q_93
  | (k + 5), hk => exact absurd hk (by omega)
def F_Key : u_T := fun k => match k with
  | 0 => ("KeyGraph$Key", "number", "I", true)
  | 1 => ("KeyGraph$Key", "function", "LKeyGraph$Function;", true)
  | 2 => ("KeyGraph$Key", "row", "Ljava/util/ArrayList;", true)
  | 3 => ("KeyGraph$Key", "state", "I", false)
  | 4 => ("KeyGraph$Key", "value", "J", false)
  | 5 => ("KeyGraph$Key", "changed", "I", false)
  | 6 => ("KeyGraph$Key", "sureIn", "I", false)
  | 7 => ("KeyGraph$Key", "ownIn", "I", false)
  | 8 => ("KeyGraph$Key", "worked", "I", false)
  | 9 => ("KeyGraph$Key", "kept", "I", false)
  | 10 => ("KeyGraph$Key", "spoilt", "Z", false)
  | 11 => ("KeyGraph$Key", "asked", "[I", false)
  | 12 => ("KeyGraph$Key", "asking", "[I", false)
  | 13 => ("KeyGraph$Key", "askedCount", "I", false)
  | 14 => ("KeyGraph$Key", "askingCount", "I", false)
  | 15 => ("KeyGraph$Key", "worker", "I", false)
  | 16 => ("KeyGraph$Key", "at", "I", false)
  | _ => ("KeyGraph$Key", "checks", "Z", false)
def t_Key : Nat → FieldType := fun k => match k with
  | 0 => .int
  | 1 => .object "KeyGraph$Function"
  | 2 => .object "java/util/ArrayList"
  | 3 => .int
  | 4 => .long
  | 5 => .int
  | 6 => .int
  | 7 => .int
  | 8 => .int
  | 9 => .int
  | 10 => .boolean
  | 11 => .array .int
  | 12 => .array .int
  | 13 => .int
  | 14 => .int
  | 15 => .int
  | 16 => .int
  | _ => .boolean
theorem n_Key : ∀ a, a < 18 → ∀ b, b < 18 → a ≠ b → (F_Key a).2.1 ≠ (F_Key b).2.1 := by decide +kernel
theorem t_Key_ok : ∀ k, k < 18 → parseFieldDescriptor (F_Key k).2.2.1 = some (t_Key k) := by decide +kernel
theorem i_Key : ∀ w ∈ u_ws "KeyGraph$Key" F_Key 18, w ∈ TT := by
  intro w hw
  obtain ⟨k, hk, rfl⟩ := List.mem_map.mp hw
  have hk := List.mem_range.mp hk
  match k, hk with
  | 0, _ => exact q_138
  | 1, _ => exact q_140
  | 2, _ => exact q_142
  | 3, _ => exact q_144
  | 4, _ => exact q_146
  | 5, _ => exact q_148
  | 6, _ => exact q_150
  | 7, _ => exact q_152
  | 8, _ => exact q_154
  | 9, _ => exact q_156
  | 10, _ => exact q_158
  | 11, _ => exact q_160
  | 12, _ => exact q_162
  | 13, _ => exact q_164
  | 14, _ => exact q_166
  | 15, _ => exact q_168
  | 16, _ => exact q_170
  | 17, _ => exact q_172
  | (k + 18), hk => exact absurd hk (by omega)
def F_Sum : u_T := fun k => match k with
  | 0 => ("KeyGraph$Function", "many", "I", false)
  | 1 => ("KeyGraph$Function", "place", "I", false)
  | 2 => ("KeyGraph$Function", "v", "J", false)
  | 3 => ("KeyGraph$Function", "failed", "Z", false)
  | _ => ("KeyGraph$Sum", "parity", "Z", true)
def t_Sum : Nat → FieldType := fun k => match k with
  | 0 => .int
  | 1 => .int
  | 2 => .long
  | 3 => .boolean
  | _ => .boolean
theorem n_Sum : ∀ a, a < 5 → ∀ b, b < 5 → a ≠ b → (F_Sum a).2.1 ≠ (F_Sum b).2.1 := by decide +kernel
theorem t_Sum_ok : ∀ k, k < 5 → parseFieldDescriptor (F_Sum k).2.2.1 = some (t_Sum k) := by decide +kernel
theorem i_Sum : ∀ w ∈ u_ws "KeyGraph$Sum" F_Sum 5, w ∈ TT := by
  intro w hw
  obtain ⟨k, hk, rfl⟩ := List.mem_map.mp hw
  have hk := List.mem_range.mp hk
  match k, hk with
  | 0, _ => exact q_284
  | 1, _ => exact q_286
  | 2, _ => exact q_288
  | 3, _ => exact q_290
  | 4, _ => exact q_282
  | (k + 5), hk => exact absurd hk (by omega)
def F_First : u_T := fun k => match k with
  | 0 => ("KeyGraph$Function", "many", "I", false)
  | 1 => ("KeyGraph$Function", "place", "I", false)
  | 2 => ("KeyGraph$Function", "v", "J", false)
  | _ => ("KeyGraph$Function", "failed", "Z", false)
def t_First : Nat → FieldType := fun k => match k with
  | 0 => .int
  | 1 => .int
  | 2 => .long
  | _ => .boolean
theorem n_First : ∀ a, a < 4 → ∀ b, b < 4 → a ≠ b → (F_First a).2.1 ≠ (F_First b).2.1 := by decide +kernel
theorem t_First_ok : ∀ k, k < 4 → parseFieldDescriptor (F_First k).2.2.1 = some (t_First k) := by decide +kernel
theorem i_First : ∀ w ∈ u_ws "KeyGraph$First" F_First 4, w ∈ TT := by
  intro w hw
  obtain ⟨k, hk, rfl⟩ := List.mem_map.mp hw
  have hk := List.mem_range.mp hk
  match k, hk with
  | 0, _ => exact q_299
  | 1, _ => exact q_300
  | 2, _ => exact q_301
  | 3, _ => exact q_302
  | (k + 4), hk => exact absurd hk (by omega)
def F_Choice : u_T := fun k => match k with
  | 0 => ("KeyGraph$Function", "many", "I", false)
  | 1 => ("KeyGraph$Function", "place", "I", false)
  | 2 => ("KeyGraph$Function", "v", "J", false)
  | 3 => ("KeyGraph$Function", "failed", "Z", false)
  | _ => ("KeyGraph$Choice", "chosen", "Z", false)
def t_Choice : Nat → FieldType := fun k => match k with
  | 0 => .int
  | 1 => .int
  | 2 => .long
  | 3 => .boolean
  | _ => .boolean
theorem n_Choice : ∀ a, a < 5 → ∀ b, b < 5 → a ≠ b → (F_Choice a).2.1 ≠ (F_Choice b).2.1 := by decide +kernel
theorem t_Choice_ok : ∀ k, k < 5 → parseFieldDescriptor (F_Choice k).2.2.1 = some (t_Choice k) := by decide +kernel
theorem i_Choice : ∀ w ∈ u_ws "KeyGraph$Choice" F_Choice 5, w ∈ TT := by
  intro w hw
  obtain ⟨k, hk, rfl⟩ := List.mem_map.mp hw
  have hk := List.mem_range.mp hk
  match k, hk with
  | 0, _ => exact q_313
  | 1, _ => exact q_314
  | 2, _ => exact q_315
  | 3, _ => exact q_316
  | 4, _ => exact q_311
  | (k + 5), hk => exact absurd hk (by omega)
def F_Quot : u_T := fun k => match k with
  | 0 => ("KeyGraph$Function", "many", "I", false)
  | 1 => ("KeyGraph$Function", "place", "I", false)
  | 2 => ("KeyGraph$Function", "v", "J", false)
  | _ => ("KeyGraph$Function", "failed", "Z", false)
def t_Quot : Nat → FieldType := fun k => match k with
  | 0 => .int
  | 1 => .int
  | 2 => .long
  | _ => .boolean
theorem n_Quot : ∀ a, a < 4 → ∀ b, b < 4 → a ≠ b → (F_Quot a).2.1 ≠ (F_Quot b).2.1 := by decide +kernel
theorem t_Quot_ok : ∀ k, k < 4 → parseFieldDescriptor (F_Quot k).2.2.1 = some (t_Quot k) := by decide +kernel
theorem i_Quot : ∀ w ∈ u_ws "KeyGraph$Quotient" F_Quot 4, w ∈ TT := by
  intro w hw
  obtain ⟨k, hk, rfl⟩ := List.mem_map.mp hw
  have hk := List.mem_range.mp hk
  match k, hk with
  | 0, _ => exact q_324
  | 1, _ => exact q_325
  | 2, _ => exact q_326
  | 3, _ => exact q_327
  | (k + 4), hk => exact absurd hk (by omega)
def F_Great : u_T := fun k => match k with
  | 0 => ("KeyGraph$Function", "many", "I", false)
  | 1 => ("KeyGraph$Function", "place", "I", false)
  | 2 => ("KeyGraph$Function", "v", "J", false)
  | _ => ("KeyGraph$Function", "failed", "Z", false)
def t_Great : Nat → FieldType := fun k => match k with
  | 0 => .int
  | 1 => .int
  | 2 => .long
  | _ => .boolean
theorem n_Great : ∀ a, a < 4 → ∀ b, b < 4 → a ≠ b → (F_Great a).2.1 ≠ (F_Great b).2.1 := by decide +kernel
theorem t_Great_ok : ∀ k, k < 4 → parseFieldDescriptor (F_Great k).2.2.1 = some (t_Great k) := by decide +kernel
theorem i_Great : ∀ w ∈ u_ws "KeyGraph$Greatest" F_Great 4, w ∈ TT := by
  intro w hw
  obtain ⟨k, hk, rfl⟩ := List.mem_map.mp hw
  have hk := List.mem_range.mp hk
  match k, hk with
  | 0, _ => exact q_335
  | 1, _ => exact q_336
  | 2, _ => exact q_337
  | 3, _ => exact q_338
  | (k + 4), hk => exact absurd hk (by omega)
def F_Pile : u_T := fun k => match k with
  | 0 => ("KeyGraph$Pile", "keys", "[LKeyGraph$Key;", true)
  | _ => ("KeyGraph$Pile", "size", "I", false)
def t_Pile : Nat → FieldType := fun k => match k with
  | 0 => .array (.object "KeyGraph$Key")
  | _ => .int
theorem n_Pile : ∀ a, a < 2 → ∀ b, b < 2 → a ≠ b → (F_Pile a).2.1 ≠ (F_Pile b).2.1 := by decide +kernel
theorem t_Pile_ok : ∀ k, k < 2 → parseFieldDescriptor (F_Pile k).2.2.1 = some (t_Pile k) := by decide +kernel
theorem i_Pile : ∀ w ∈ u_ws "KeyGraph$Pile" F_Pile 2, w ∈ TT := by
  intro w hw
  obtain ⟨k, hk, rfl⟩ := List.mem_map.mp hw
  have hk := List.mem_range.mp hk
  match k, hk with
  | 0, _ => exact q_75
  | 1, _ => exact q_77
  | (k + 2), hk => exact absurd hk (by omega)
def F_AL : u_T := fun k => match k with
  | 0 => ("java/util/AbstractList", "modCount", "I", false)
  | 1 => ("java/util/ArrayList", "elementData", "[Ljava/lang/Object;", false)
  | _ => ("java/util/ArrayList", "size", "I", false)
def t_AL : Nat → FieldType := fun k => match k with
  | 0 => .int
  | 1 => .array (.object "java/lang/Object")
  | _ => .int
theorem n_AL : ∀ a, a < 3 → ∀ b, b < 3 → a ≠ b → (F_AL a).2.1 ≠ (F_AL b).2.1 := by decide +kernel
theorem t_AL_ok : ∀ k, k < 3 → parseFieldDescriptor (F_AL k).2.2.1 = some (t_AL k) := by decide +kernel
theorem i_AL : ∀ w ∈ u_ws "java/util/ArrayList" F_AL 3, w ∈ TT := by
  intro w hw
  obtain ⟨k, hk, rfl⟩ := List.mem_map.mp hw
  have hk := List.mem_range.mp hk
  match k, hk with
  | 0, _ => exact q_56
  | 1, _ => exact q_52
  | 2, _ => exact q_54
  | (k + 3), hk => exact absurd hk (by omega)
def F_Mod : u_T := fun k => match k with
  | 0 => ("KeyGraphModel", "code", "I", false)
  | 1 => ("KeyGraphModel", "version", "I", false)
  | 2 => ("KeyGraphModel", "keys", "I", false)
  | 3 => ("KeyGraphModel", "function", "[I", true)
  | 4 => ("KeyGraphModel", "rowMany", "[I", true)
  | 5 => ("KeyGraphModel", "row", "[I", true)
  | 6 => ("KeyGraphModel", "state", "[I", true)
  | 7 => ("KeyGraphModel", "sureAt", "[I", true)
  | 8 => ("KeyGraphModel", "changedAt", "[I", true)
  | 9 => ("KeyGraphModel", "ownAt", "[I", true)
  | 10 => ("KeyGraphModel", "askedMany", "[I", true)
  | 11 => ("KeyGraphModel", "asked", "[I", true)
  | 12 => ("KeyGraphModel", "worked", "[I", true)
  | 13 => ("KeyGraphModel", "checked", "[I", true)
  | 14 => ("KeyGraphModel", "value", "[J", true)
  | 15 => ("KeyGraphModel", "spoilt", "[Z", true)
  | 16 => ("KeyGraphModel", "isKept", "[Z", true)
  | 17 => ("KeyGraphModel", "high", "[I", true)
  | 18 => ("KeyGraphModel", "on", "[I", true)
  | 19 => ("KeyGraphModel", "far", "[I", true)
  | 20 => ("KeyGraphModel", "took", "[I", true)
  | 21 => ("KeyGraphModel", "works", "[Z", true)
  | 22 => ("KeyGraphModel", "ring", "[I", true)
  | 23 => ("KeyGraphModel", "ringMany", "I", false)
  | _ => ("KeyGraphModel", "leads", "[Z", true)
def t_Mod : Nat → FieldType := fun k => match k with
  | 0 => .int
  | 1 => .int
  | 2 => .int
  | 3 => .array .int
  | 4 => .array .int
  | 5 => .array .int
  | 6 => .array .int
  | 7 => .array .int
  | 8 => .array .int
  | 9 => .array .int
  | 10 => .array .int
  | 11 => .array .int
  | 12 => .array .int
  | 13 => .array .int
  | 14 => .array .long
  | 15 => .array .boolean
  | 16 => .array .boolean
  | 17 => .array .int
  | 18 => .array .int
  | 19 => .array .int
  | 20 => .array .int
  | 21 => .array .boolean
  | 22 => .array .int
  | 23 => .int
  | _ => .array .boolean
theorem n_Mod : ∀ a, a < 25 → ∀ b, b < 25 → a ≠ b → (F_Mod a).2.1 ≠ (F_Mod b).2.1 := by decide +kernel
theorem t_Mod_ok : ∀ k, k < 25 → parseFieldDescriptor (F_Mod k).2.2.1 = some (t_Mod k) := by decide +kernel
theorem i_Mod : ∀ w ∈ u_ws "KeyGraphModel" F_Mod 25, w ∈ TT := by
  intro w hw
  obtain ⟨k, hk, rfl⟩ := List.mem_map.mp hw
  have hk := List.mem_range.mp hk
  match k, hk with
  | 0, _ => exact q_678
  | 1, _ => exact q_680
  | 2, _ => exact q_682
  | 3, _ => exact q_684
  | 4, _ => exact q_686
  | 5, _ => exact q_688
  | 6, _ => exact q_690
  | 7, _ => exact q_692
  | 8, _ => exact q_694
  | 9, _ => exact q_696
  | 10, _ => exact q_698
  | 11, _ => exact q_700
  | 12, _ => exact q_702
  | 13, _ => exact q_704
  | 14, _ => exact q_706
  | 15, _ => exact q_708
  | 16, _ => exact q_710
  | 17, _ => exact q_712
  | 18, _ => exact q_714
  | 19, _ => exact q_716
  | 20, _ => exact q_718
  | 21, _ => exact q_720
  | 22, _ => exact q_722
  | 23, _ => exact q_724
  | 24, _ => exact q_726
  | (k + 25), hk => exact absurd hk (by omega)
def F_IAE : u_T := fun k => match k with
  | 0 => ("java/lang/Throwable", "cause", "Ljava/lang/Throwable;", false)
  | 1 => ("java/lang/Throwable", "stackTrace", "[Ljava/lang/StackTraceElement;", false)
  | 2 => ("java/lang/Throwable", "suppressedExceptions", "Ljava/util/List;", false)
  | 3 => ("java/lang/Throwable", "detailMessage", "Ljava/lang/String;", false)
  | 4 => ("java/lang/Throwable", "backtrace", "Ljava/lang/Object;", false)
  | _ => ("java/lang/Throwable", "depth", "I", false)
def t_IAE : Nat → FieldType := fun k => match k with
  | 0 => .object "java/lang/Throwable"
  | 1 => .array (.object "java/lang/StackTraceElement")
  | 2 => .object "java/util/List"
  | 3 => .object "java/lang/String"
  | 4 => .object "java/lang/Object"
  | _ => .int
theorem n_IAE : ∀ a, a < 6 → ∀ b, b < 6 → a ≠ b → (F_IAE a).2.1 ≠ (F_IAE b).2.1 := by decide +kernel
theorem t_IAE_ok : ∀ k, k < 6 → parseFieldDescriptor (F_IAE k).2.2.1 = some (t_IAE k) := by decide +kernel
theorem i_IAE : ∀ w ∈ u_ws "java/lang/IllegalArgumentException" F_IAE 6, w ∈ TT := by
  intro w hw
  obtain ⟨k, hk, rfl⟩ := List.mem_map.mp hw
  have hk := List.mem_range.mp hk
  match k, hk with
  | 0, _ => exact q_580
  | 1, _ => exact q_582
  | 2, _ => exact q_584
  | 3, _ => exact q_586
  | 4, _ => exact q_588
  | 5, _ => exact q_627
  | (k + 6), hk => exact absurd hk (by omega)
def F_ISE : u_T := fun k => match k with
  | 0 => ("java/lang/Throwable", "cause", "Ljava/lang/Throwable;", false)
  | 1 => ("java/lang/Throwable", "stackTrace", "[Ljava/lang/StackTraceElement;", false)
  | 2 => ("java/lang/Throwable", "suppressedExceptions", "Ljava/util/List;", false)
  | 3 => ("java/lang/Throwable", "detailMessage", "Ljava/lang/String;", false)
  | 4 => ("java/lang/Throwable", "backtrace", "Ljava/lang/Object;", false)
  | _ => ("java/lang/Throwable", "depth", "I", false)
def t_ISE : Nat → FieldType := fun k => match k with
  | 0 => .object "java/lang/Throwable"
  | 1 => .array (.object "java/lang/StackTraceElement")
  | 2 => .object "java/util/List"
  | 3 => .object "java/lang/String"
  | 4 => .object "java/lang/Object"
  | _ => .int
theorem n_ISE : ∀ a, a < 6 → ∀ b, b < 6 → a ≠ b → (F_ISE a).2.1 ≠ (F_ISE b).2.1 := by decide +kernel
theorem t_ISE_ok : ∀ k, k < 6 → parseFieldDescriptor (F_ISE k).2.2.1 = some (t_ISE k) := by decide +kernel
theorem i_ISE : ∀ w ∈ u_ws "java/lang/IllegalStateException" F_ISE 6, w ∈ TT := by
  intro w hw
  obtain ⟨k, hk, rfl⟩ := List.mem_map.mp hw
  have hk := List.mem_range.mp hk
  match k, hk with
  | 0, _ => exact q_636
  | 1, _ => exact q_637
  | 2, _ => exact q_638
  | 3, _ => exact q_639
  | 4, _ => exact q_640
  | 5, _ => exact q_645
  | (k + 6), hk => exact absurd hk (by omega)
abbrev cls : List vw_C := [("KeyGraph", F_KG, 5), ("KeyGraph$Key", F_Key, 18), ("KeyGraph$Sum", F_Sum, 5), ("KeyGraph$First", F_First, 4), ("KeyGraph$Choice", F_Choice, 5), ("KeyGraph$Quotient", F_Quot, 4), ("KeyGraph$Greatest", F_Great, 4), ("KeyGraph$Pile", F_Pile, 2), ("java/util/ArrayList", F_AL, 3), ("KeyGraphModel", F_Mod, 25), ("java/lang/IllegalArgumentException", F_IAE, 6), ("java/lang/IllegalStateException", F_ISE, 6)]
def NW : List Cond := [Cond.methodLinkNest "KeyGraph" 25 y_Pile_init "KeyGraph", Cond.fieldLinkNest "KeyGraph" 132 "KeyGraph$Pile" "keys" "[LKeyGraph$Key;" "KeyGraph", Cond.fieldLinkNest "KeyGraph" 135 "KeyGraph$Pile" "size" "I" "KeyGraph", Cond.fieldLinkNest "KeyGraph" 92 "KeyGraph$Key" "number" "I" "KeyGraph", Cond.fieldLinkNest "KeyGraph" 149 "KeyGraph$Key" "function" "LKeyGraph$Function;" "KeyGraph", Cond.fieldLinkNest "KeyGraph" 99 "KeyGraph$Key" "row" "Ljava/util/ArrayList;" "KeyGraph", Cond.fieldLinkNest "KeyGraph" 68 "KeyGraph$Key" "state" "I" "KeyGraph", Cond.fieldLinkNest "KeyGraph" 81 "KeyGraph$Key" "value" "J" "KeyGraph", Cond.fieldLinkNest "KeyGraph" 85 "KeyGraph$Key" "changed" "I" "KeyGraph", Cond.fieldLinkNest "KeyGraph" 72 "KeyGraph$Key" "sureIn" "I" "KeyGraph", Cond.fieldLinkNest "KeyGraph" 122 "KeyGraph$Key" "ownIn" "I" "KeyGraph", Cond.fieldLinkNest "KeyGraph" 183 "KeyGraph$Key" "worked" "I" "KeyGraph", Cond.fieldLinkNest "KeyGraph" 216 "KeyGraph$Key" "kept" "I" "KeyGraph", Cond.fieldLinkNest "KeyGraph" 128 "KeyGraph$Key" "spoilt" "Z" "KeyGraph", Cond.fieldLinkNest "KeyGraph" 173 "KeyGraph$Key" "asked" "[I" "KeyGraph", Cond.fieldLinkNest "KeyGraph" 177 "KeyGraph$Key" "asking" "[I" "KeyGraph", Cond.fieldLinkNest "KeyGraph" 180 "KeyGraph$Key" "askedCount" "I" "KeyGraph", Cond.fieldLinkNest "KeyGraph" 146 "KeyGraph$Key" "askingCount" "I" "KeyGraph", Cond.fieldLinkNest "KeyGraph" 137 "KeyGraph$Key" "worker" "I" "KeyGraph", Cond.fieldLinkNest "KeyGraph" 140 "KeyGraph$Key" "at" "I" "KeyGraph", Cond.fieldLinkNest "KeyGraph" 143 "KeyGraph$Key" "checks" "Z" "KeyGraph", Cond.methodLinkNest "KeyGraph$Sum" 1 y_Fun_init "KeyGraph", Cond.methodLinkNest "KeyGraph" 9 y_First_init "KeyGraph", Cond.methodLinkNest "KeyGraph$First" 1 y_Fun_init "KeyGraph", Cond.methodLinkNest "KeyGraph" 14 y_Choice_init "KeyGraph", Cond.methodLinkNest "KeyGraph$Choice" 3 y_Fun_init "KeyGraph", Cond.methodLinkNest "KeyGraph" 17 y_Quot_init "KeyGraph", Cond.methodLinkNest "KeyGraph$Quotient" 1 y_Fun_init "KeyGraph", Cond.methodLinkNest "KeyGraph" 20 y_Great_init "KeyGraph", Cond.methodLinkNest "KeyGraph$Greatest" 1 y_Fun_init "KeyGraph", Cond.declares y_Fun_with, Cond.castable "java/lang/IllegalArgumentException" "java/lang/IllegalArgumentException", Cond.declares y_RTE_init, Cond.declares y_RTE_initx, Cond.declares y_Exc_init, Cond.declares y_Exc_initx, Cond.declares y_Thr_init, Cond.declares y_Thr_initx, Cond.castable "java/lang/IllegalStateException" "java/lang/IllegalStateException", Cond.castable "KeyGraph$Key" "KeyGraph$Key", Cond.declares y_Obj_getClass, Cond.castable "KeyGraph" "java/lang/Object", Cond.castable "KeyGraph$Pile" "java/lang/Object", Cond.castable "KeyGraphModel" "java/lang/Object", Cond.castable "KeyGraph$Key" "java/lang/Object", Cond.castable "KeyGraph$Sum" "java/lang/Object", Cond.castable "KeyGraph$First" "java/lang/Object", Cond.castable "KeyGraph$Choice" "java/lang/Object", Cond.castable "KeyGraph$Quotient" "java/lang/Object", Cond.castable "KeyGraph$Greatest" "java/lang/Object"]
theorem z_65 : Cond.methodLinkNest "KeyGraph" 25 y_Pile_init "KeyGraph" ∈ NW := List.mem_of_getElem? (i := 0) rfl
theorem z_72 : Cond.fieldLinkNest "KeyGraph" 132 "KeyGraph$Pile" "keys" "[LKeyGraph$Key;" "KeyGraph" ∈ NW := List.mem_of_getElem? (i := 1) rfl
theorem z_74 : Cond.fieldLinkNest "KeyGraph" 135 "KeyGraph$Pile" "size" "I" "KeyGraph" ∈ NW := List.mem_of_getElem? (i := 2) rfl
theorem z_114 : Cond.fieldLinkNest "KeyGraph" 92 "KeyGraph$Key" "number" "I" "KeyGraph" ∈ NW := List.mem_of_getElem? (i := 3) rfl
theorem z_116 : Cond.fieldLinkNest "KeyGraph" 149 "KeyGraph$Key" "function" "LKeyGraph$Function;" "KeyGraph" ∈ NW := List.mem_of_getElem? (i := 4) rfl
theorem z_118 : Cond.fieldLinkNest "KeyGraph" 99 "KeyGraph$Key" "row" "Ljava/util/ArrayList;" "KeyGraph" ∈ NW := List.mem_of_getElem? (i := 5) rfl
theorem z_119 : Cond.fieldLinkNest "KeyGraph" 68 "KeyGraph$Key" "state" "I" "KeyGraph" ∈ NW := List.mem_of_getElem? (i := 6) rfl
theorem z_120 : Cond.fieldLinkNest "KeyGraph" 81 "KeyGraph$Key" "value" "J" "KeyGraph" ∈ NW := List.mem_of_getElem? (i := 7) rfl
theorem z_121 : Cond.fieldLinkNest "KeyGraph" 85 "KeyGraph$Key" "changed" "I" "KeyGraph" ∈ NW := List.mem_of_getElem? (i := 8) rfl
theorem z_123 : Cond.fieldLinkNest "KeyGraph" 72 "KeyGraph$Key" "sureIn" "I" "KeyGraph" ∈ NW := List.mem_of_getElem? (i := 9) rfl
theorem z_124 : Cond.fieldLinkNest "KeyGraph" 122 "KeyGraph$Key" "ownIn" "I" "KeyGraph" ∈ NW := List.mem_of_getElem? (i := 10) rfl
theorem z_125 : Cond.fieldLinkNest "KeyGraph" 183 "KeyGraph$Key" "worked" "I" "KeyGraph" ∈ NW := List.mem_of_getElem? (i := 11) rfl
theorem z_126 : Cond.fieldLinkNest "KeyGraph" 216 "KeyGraph$Key" "kept" "I" "KeyGraph" ∈ NW := List.mem_of_getElem? (i := 12) rfl
theorem z_127 : Cond.fieldLinkNest "KeyGraph" 128 "KeyGraph$Key" "spoilt" "Z" "KeyGraph" ∈ NW := List.mem_of_getElem? (i := 13) rfl
theorem z_129 : Cond.fieldLinkNest "KeyGraph" 173 "KeyGraph$Key" "asked" "[I" "KeyGraph" ∈ NW := List.mem_of_getElem? (i := 14) rfl
theorem z_131 : Cond.fieldLinkNest "KeyGraph" 177 "KeyGraph$Key" "asking" "[I" "KeyGraph" ∈ NW := List.mem_of_getElem? (i := 15) rfl
theorem z_132 : Cond.fieldLinkNest "KeyGraph" 180 "KeyGraph$Key" "askedCount" "I" "KeyGraph" ∈ NW := List.mem_of_getElem? (i := 16) rfl
theorem z_133 : Cond.fieldLinkNest "KeyGraph" 146 "KeyGraph$Key" "askingCount" "I" "KeyGraph" ∈ NW := List.mem_of_getElem? (i := 17) rfl
theorem z_135 : Cond.fieldLinkNest "KeyGraph" 137 "KeyGraph$Key" "worker" "I" "KeyGraph" ∈ NW := List.mem_of_getElem? (i := 18) rfl
theorem z_136 : Cond.fieldLinkNest "KeyGraph" 140 "KeyGraph$Key" "at" "I" "KeyGraph" ∈ NW := List.mem_of_getElem? (i := 19) rfl
theorem z_137 : Cond.fieldLinkNest "KeyGraph" 143 "KeyGraph$Key" "checks" "Z" "KeyGraph" ∈ NW := List.mem_of_getElem? (i := 20) rfl
theorem z_247 : Cond.methodLinkNest "KeyGraph$Sum" 1 y_Fun_init "KeyGraph" ∈ NW := List.mem_of_getElem? (i := 21) rfl
theorem z_295 : Cond.methodLinkNest "KeyGraph" 9 y_First_init "KeyGraph" ∈ NW := List.mem_of_getElem? (i := 22) rfl
theorem z_298 : Cond.methodLinkNest "KeyGraph$First" 1 y_Fun_init "KeyGraph" ∈ NW := List.mem_of_getElem? (i := 23) rfl
theorem z_306 : Cond.methodLinkNest "KeyGraph" 14 y_Choice_init "KeyGraph" ∈ NW := List.mem_of_getElem? (i := 24) rfl
theorem z_309 : Cond.methodLinkNest "KeyGraph$Choice" 3 y_Fun_init "KeyGraph" ∈ NW := List.mem_of_getElem? (i := 25) rfl
theorem z_320 : Cond.methodLinkNest "KeyGraph" 17 y_Quot_init "KeyGraph" ∈ NW := List.mem_of_getElem? (i := 26) rfl
theorem z_323 : Cond.methodLinkNest "KeyGraph$Quotient" 1 y_Fun_init "KeyGraph" ∈ NW := List.mem_of_getElem? (i := 27) rfl
theorem z_331 : Cond.methodLinkNest "KeyGraph" 20 y_Great_init "KeyGraph" ∈ NW := List.mem_of_getElem? (i := 28) rfl
theorem z_334 : Cond.methodLinkNest "KeyGraph$Greatest" 1 y_Fun_init "KeyGraph" ∈ NW := List.mem_of_getElem? (i := 29) rfl
theorem z_516 : Cond.declares y_Fun_with ∈ NW := List.mem_of_getElem? (i := 30) rfl
theorem z_571 : Cond.castable "java/lang/IllegalArgumentException" "java/lang/IllegalArgumentException" ∈ NW := List.mem_of_getElem? (i := 31) rfl
theorem z_572 : Cond.declares y_RTE_init ∈ NW := List.mem_of_getElem? (i := 32) rfl
theorem z_573 : Cond.declares y_RTE_initx ∈ NW := List.mem_of_getElem? (i := 33) rfl
theorem z_574 : Cond.declares y_Exc_init ∈ NW := List.mem_of_getElem? (i := 34) rfl
theorem z_575 : Cond.declares y_Exc_initx ∈ NW := List.mem_of_getElem? (i := 35) rfl
theorem z_576 : Cond.declares y_Thr_init ∈ NW := List.mem_of_getElem? (i := 36) rfl
theorem z_577 : Cond.declares y_Thr_initx ∈ NW := List.mem_of_getElem? (i := 37) rfl
theorem z_634 : Cond.castable "java/lang/IllegalStateException" "java/lang/IllegalStateException" ∈ NW := List.mem_of_getElem? (i := 38) rfl
theorem z_887 : Cond.castable "KeyGraph$Key" "KeyGraph$Key" ∈ NW := List.mem_of_getElem? (i := 39) rfl
theorem z_890 : Cond.declares y_Obj_getClass ∈ NW := List.mem_of_getElem? (i := 40) rfl
theorem z_891 : Cond.castable "KeyGraph" "java/lang/Object" ∈ NW := List.mem_of_getElem? (i := 41) rfl
theorem z_892 : Cond.castable "KeyGraph$Pile" "java/lang/Object" ∈ NW := List.mem_of_getElem? (i := 42) rfl
theorem z_893 : Cond.castable "KeyGraphModel" "java/lang/Object" ∈ NW := List.mem_of_getElem? (i := 43) rfl
theorem z_894 : Cond.castable "KeyGraph$Key" "java/lang/Object" ∈ NW := List.mem_of_getElem? (i := 44) rfl
theorem z_895 : Cond.castable "KeyGraph$Sum" "java/lang/Object" ∈ NW := List.mem_of_getElem? (i := 45) rfl
theorem z_896 : Cond.castable "KeyGraph$First" "java/lang/Object" ∈ NW := List.mem_of_getElem? (i := 46) rfl
theorem z_897 : Cond.castable "KeyGraph$Choice" "java/lang/Object" ∈ NW := List.mem_of_getElem? (i := 47) rfl
theorem z_898 : Cond.castable "KeyGraph$Quotient" "java/lang/Object" ∈ NW := List.mem_of_getElem? (i := 48) rfl
theorem z_899 : Cond.castable "KeyGraph$Greatest" "java/lang/Object" ∈ NW := List.mem_of_getElem? (i := 49) rfl
theorem nw_in : ∀ w ∈ NW, w ∈ lw_tbl := by
  intro w hw
  obtain ⟨k, hk⟩ := List.getElem?_of_mem hw
  have hl : k < 50 := (List.getElem?_eq_some_iff.mp hk).1
  match k, hl, hk with
  | 0, _, hk => cases hk; exact List.mem_of_getElem? (i := 100) (by decide +kernel)
  | 1, _, hk => cases hk; exact List.mem_of_getElem? (i := 107) (by decide +kernel)
  | 2, _, hk => cases hk; exact List.mem_of_getElem? (i := 109) (by decide +kernel)
  | 3, _, hk => cases hk; exact List.mem_of_getElem? (i := 149) (by decide +kernel)
  | 4, _, hk => cases hk; exact List.mem_of_getElem? (i := 151) (by decide +kernel)
  | 5, _, hk => cases hk; exact List.mem_of_getElem? (i := 153) (by decide +kernel)
  | 6, _, hk => cases hk; exact List.mem_of_getElem? (i := 154) (by decide +kernel)
  | 7, _, hk => cases hk; exact List.mem_of_getElem? (i := 155) (by decide +kernel)
  | 8, _, hk => cases hk; exact List.mem_of_getElem? (i := 156) (by decide +kernel)
  | 9, _, hk => cases hk; exact List.mem_of_getElem? (i := 158) (by decide +kernel)
  | 10, _, hk => cases hk; exact List.mem_of_getElem? (i := 159) (by decide +kernel)
  | 11, _, hk => cases hk; exact List.mem_of_getElem? (i := 160) (by decide +kernel)
  | 12, _, hk => cases hk; exact List.mem_of_getElem? (i := 161) (by decide +kernel)
  | 13, _, hk => cases hk; exact List.mem_of_getElem? (i := 162) (by decide +kernel)
  | 14, _, hk => cases hk; exact List.mem_of_getElem? (i := 164) (by decide +kernel)
  | 15, _, hk => cases hk; exact List.mem_of_getElem? (i := 166) (by decide +kernel)
  | 16, _, hk => cases hk; exact List.mem_of_getElem? (i := 167) (by decide +kernel)
  | 17, _, hk => cases hk; exact List.mem_of_getElem? (i := 168) (by decide +kernel)
  | 18, _, hk => cases hk; exact List.mem_of_getElem? (i := 170) (by decide +kernel)
  | 19, _, hk => cases hk; exact List.mem_of_getElem? (i := 171) (by decide +kernel)
  | 20, _, hk => cases hk; exact List.mem_of_getElem? (i := 172) (by decide +kernel)
  | 21, _, hk => cases hk; exact List.mem_of_getElem? (i := 282) (by decide +kernel)
  | 22, _, hk => cases hk; exact List.mem_of_getElem? (i := 330) (by decide +kernel)
  | 23, _, hk => cases hk; exact List.mem_of_getElem? (i := 333) (by decide +kernel)
  | 24, _, hk => cases hk; exact List.mem_of_getElem? (i := 341) (by decide +kernel)
  | 25, _, hk => cases hk; exact List.mem_of_getElem? (i := 344) (by decide +kernel)
  | 26, _, hk => cases hk; exact List.mem_of_getElem? (i := 355) (by decide +kernel)
  | 27, _, hk => cases hk; exact List.mem_of_getElem? (i := 358) (by decide +kernel)
  | 28, _, hk => cases hk; exact List.mem_of_getElem? (i := 366) (by decide +kernel)
  | 29, _, hk => cases hk; exact List.mem_of_getElem? (i := 369) (by decide +kernel)
  | 30, _, hk => cases hk; exact List.mem_of_getElem? (i := 551) (by decide +kernel)
  | 31, _, hk => cases hk; exact List.mem_of_getElem? (i := 606) (by decide +kernel)
  | 32, _, hk => cases hk; exact List.mem_of_getElem? (i := 607) (by decide +kernel)
  | 33, _, hk => cases hk; exact List.mem_of_getElem? (i := 608) (by decide +kernel)
  | 34, _, hk => cases hk; exact List.mem_of_getElem? (i := 609) (by decide +kernel)
  | 35, _, hk => cases hk; exact List.mem_of_getElem? (i := 610) (by decide +kernel)
  | 36, _, hk => cases hk; exact List.mem_of_getElem? (i := 611) (by decide +kernel)
  | 37, _, hk => cases hk; exact List.mem_of_getElem? (i := 612) (by decide +kernel)
  | 38, _, hk => cases hk; exact List.mem_of_getElem? (i := 669) (by decide +kernel)
  | 39, _, hk => cases hk; exact List.mem_of_getElem? (i := 922) (by decide +kernel)
  | 40, _, hk => cases hk; exact List.mem_of_getElem? (i := 925) (by decide +kernel)
  | 41, _, hk => cases hk; exact List.mem_of_getElem? (i := 926) (by decide +kernel)
  | 42, _, hk => cases hk; exact List.mem_of_getElem? (i := 927) (by decide +kernel)
  | 43, _, hk => cases hk; exact List.mem_of_getElem? (i := 928) (by decide +kernel)
  | 44, _, hk => cases hk; exact List.mem_of_getElem? (i := 929) (by decide +kernel)
  | 45, _, hk => cases hk; exact List.mem_of_getElem? (i := 930) (by decide +kernel)
  | 46, _, hk => cases hk; exact List.mem_of_getElem? (i := 931) (by decide +kernel)
  | 47, _, hk => cases hk; exact List.mem_of_getElem? (i := 932) (by decide +kernel)
  | 48, _, hk => cases hk; exact List.mem_of_getElem? (i := 933) (by decide +kernel)
  | 49, _, hk => cases hk; exact List.mem_of_getElem? (i := 934) (by decide +kernel)
end
section
/-! the pure state: tables of ints, of longs, of naturals, of contents -/
abbrev Zt : Type := (Nat → Nat → Int32) × (Nat → Nat → Int64) × (Nat → Nat → Nat) × (Nat → Nat → Nat → Nat)
def xi (Z : Zt) (t i : Nat) : Int32 := Z.1 t i
def xl (Z : Zt) (t i : Nat) : Int64 := Z.2.1 t i
def xn (Z : Zt) (t i : Nat) : Nat := Z.2.2.1 t i
def xc (Z : Zt) (c i j : Nat) : Nat := Z.2.2.2 c i j
def si (Z : Zt) (t i : Nat) (v : Int32) : Zt := (fun a b => if a = t ∧ b = i then v else Z.1 a b, Z.2)
def sl (Z : Zt) (t i : Nat) (v : Int64) : Zt := (Z.1, fun a b => if a = t ∧ b = i then v else Z.2.1 a b, Z.2.2)
def sn (Z : Zt) (t i : Nat) (v : Nat) : Zt := (Z.1, Z.2.1, fun a b => if a = t ∧ b = i then v else Z.2.2.1 a b, Z.2.2.2)
def sc (Z : Zt) (c i j : Nat) (v : Nat) : Zt := (Z.1, Z.2.1, Z.2.2.1, fun a b d => if a = c ∧ b = i ∧ d = j then v else Z.2.2.2 a b d)
section
variable (Z : Zt) (t i a b j d : Nat) (vi : Int32) (vl : Int64) (vn : Nat)
theorem xi_si : xi (si Z t i vi) a b = if a = t ∧ b = i then vi else xi Z a b := rfl
theorem xi_sl : xi (sl Z t i vl) a b = xi Z a b := rfl
theorem xi_sn : xi (sn Z t i vn) a b = xi Z a b := rfl
theorem xi_sc : xi (sc Z t i j vn) a b = xi Z a b := rfl
theorem xl_si : xl (si Z t i vi) a b = xl Z a b := rfl
theorem xl_sl : xl (sl Z t i vl) a b = if a = t ∧ b = i then vl else xl Z a b := rfl
theorem xl_sn : xl (sn Z t i vn) a b = xl Z a b := rfl
theorem xl_sc : xl (sc Z t i j vn) a b = xl Z a b := rfl
theorem xn_si : xn (si Z t i vi) a b = xn Z a b := rfl
theorem xn_sl : xn (sl Z t i vl) a b = xn Z a b := rfl
theorem xn_sn : xn (sn Z t i vn) a b = if a = t ∧ b = i then vn else xn Z a b := rfl
theorem xn_sc : xn (sc Z t i j vn) a b = xn Z a b := rfl
theorem xc_si : xc (si Z t i vi) a b d = xc Z a b d := rfl
theorem xc_sl : xc (sl Z t i vl) a b d = xc Z a b d := rfl
theorem xc_sn : xc (sn Z t i vn) a b d = xc Z a b d := rfl
theorem xc_sc : xc (sc Z t i j vn) a b d = if a = t ∧ b = i ∧ d = j then vn else xc Z a b d := rfl
end
/-! what is given once: class numbers, the heap's size at the law's entry, ArrayList's empty array, the mirror of Object[] -/
abbrev Gt : Type := va_G × (ClassId × ClassId × ClassId × ClassId × ClassId × ClassId) × (Nat × Nat × Nat)
abbrev gD (G : Gt) : va_G := G.1
abbrev gI (G : Gt) : ClassId := G.2.1.1
abbrev gL (G : Gt) : ClassId := G.2.1.2.1
abbrev gZ (G : Gt) : ClassId := G.2.1.2.2.1
abbrev gO (G : Gt) : ClassId := G.2.1.2.2.2.1
abbrev gP (G : Gt) : ClassId := G.2.1.2.2.2.2.1
abbrev gK (G : Gt) : ClassId := G.2.1.2.2.2.2.2
abbrev gb (G : Gt) : Nat := G.2.2.1
abbrev ge (G : Gt) : Nat := G.2.2.2.1
abbrev gm (G : Gt) : Nat := G.2.2.2.2
abbrev tys (G : Gt) : List (ClassId × FieldType) := [(gI G, .int), (gL G, .long), (gZ G, .boolean), (gO G, .object "java/lang/Object"), (gP G, .object "KeyGraph$Pile"), (gK G, .object "KeyGraph$Key")]
def zA (G : Gt) : Nat → Prop := fun q => gb G ≤ q
abbrev inA (cA : ClassId) (n : Nat) (f : Nat → Int32) : va_E := .inl (cA, n, .inl f)
abbrev lnA (cA : ClassId) (n : Nat) (f : Nat → Int64) : va_E := .inl (cA, n, .inr (.inl f))
abbrev rfA (cA : ClassId) (n : Nat) (f : Nat → Option Nat) : va_E := .inl (cA, n, .inr (.inr (.inr (.inr f))))
/-! the entities: kind o, index i -/
abbrev kgF (ad : Nat → Nat → Nat) (Z : Zt) : List Value := [.ref (ad 3 0), .ref (ad 8 0), .ref (ad 3 1), .int (xi Z 14 0), .ref (ad 9 0)]
abbrev keyF (ad : Nat → Nat → Nat) (Z : Zt) (k : Nat) : List Value := [.int (nI k), va_rf (if xn Z 1 k = 6 then none else some (ad 2 k)), .ref (ad 3 (k + 2)), .int (xi Z 1 k), .long (xl Z 1 k), .int (xi Z 2 k), .int (xi Z 3 k), .int (xi Z 4 k), .int (xi Z 5 k), .int (xi Z 6 k), .int (xi Z 7 k), .ref (ad 5 (xn Z 7 k)), .ref (ad 5 (xn Z 8 k)), .int (nI (xn Z 4 k)), .int (nI (xn Z 5 k)), .int (xi Z 8 k), .int (nI (xn Z 6 k)), .int (xi Z 9 k)]
abbrev fnF (Z : Zt) (k : Nat) : List Value := [.int (xi Z 10 k), .int (xi Z 11 k), .long (xl Z 2 k), .int (xi Z 12 k)]
def fnE (Z : Zt) (k : Nat) : Option va_E := match xn Z 1 k with
  | 0 => some (.inr (2, fnF Z k ++ [.int 0]))
  | 1 => some (.inr (3, fnF Z k))
  | 2 => some (.inr (4, fnF Z k ++ [.int (xi Z 13 k)]))
  | 3 => some (.inr (5, fnF Z k))
  | 4 => some (.inr (2, fnF Z k ++ [.int 1]))
  | 5 => some (.inr (6, fnF Z k))
  | _ => none
abbrev listF (G : Gt) (ad : Nat → Nat → Nat) (Z : Zt) (i : Nat) : List Value := [.int (xi Z 16 i), .ref (if xn Z 3 i = 0 then ge G else ad 4 i), .int (nI (xn Z 2 i))]
abbrev elemF (ad : Nat → Nat → Nat) (Z : Zt) (i : Nat) : Nat → Option Nat := fun j => if xc Z 4 i j = 0 then none else some (ad 1 (xc Z 4 i j - 1))
abbrev pileA (ad : Nat → Nat → Nat) (Z : Zt) (p : Nat) : Nat → Option Nat := fun j => if xc Z 7 p j = 0 then none else some (ad 1 (xc Z 7 p j - 1))
abbrev modF (ad : Nat → Nat → Nat) (Z : Zt) : List Value := [.int (xi Z 20 0), .int (xi Z 21 0), .int (nI (xn Z 20 0)), .ref (ad 11 3), .ref (ad 11 4), .ref (ad 11 5), .ref (ad 11 6), .ref (ad 11 7), .ref (ad 11 8), .ref (ad 11 9), .ref (ad 11 10), .ref (ad 11 11), .ref (ad 11 12), .ref (ad 11 13), .ref (ad 11 14), .ref (ad 11 15), .ref (ad 11 16), .ref (ad 11 17), .ref (ad 11 18), .ref (ad 11 19), .ref (ad 11 20), .ref (ad 11 21), .ref (ad 11 22), .int (nI (xn Z 21 0)), .ref (ad 11 24)]
def modE (G : Gt) (Z : Zt) (f : Nat) : Option va_E := match f with
  | 3 => some (inA (gI G) 40 (xi Z 503))
  | 4 => some (inA (gI G) 40 (fun j => nI (xn Z 504 j)))
  | 5 => some (inA (gI G) 320 (fun j => nI (xn Z 505 j)))
  | 6 => some (inA (gI G) 40 (xi Z 506))
  | 7 => some (inA (gI G) 40 (xi Z 507))
  | 8 => some (inA (gI G) 40 (xi Z 508))
  | 9 => some (inA (gI G) 40 (xi Z 509))
  | 10 => some (inA (gI G) 40 (fun j => nI (xn Z 510 j)))
  | 11 => some (inA (gI G) 320 (fun j => nI (xn Z 511 j)))
  | 12 => some (inA (gI G) 40 (xi Z 512))
  | 13 => some (inA (gI G) 40 (xi Z 513))
  | 14 => some (lnA (gL G) 40 (xl Z 514))
  | 15 => some (inA (gZ G) 40 (xi Z 515))
  | 16 => some (inA (gZ G) 40 (xi Z 516))
  | 17 => some (inA (gI G) 5 (fun j => nI (xn Z 517 j)))
  | 18 => some (inA (gI G) 200 (fun j => nI (xn Z 518 j)))
  | 19 => some (inA (gI G) 200 (fun j => nI (xn Z 519 j)))
  | 20 => some (inA (gI G) 1600 (fun j => nI (xn Z 520 j)))
  | 21 => some (inA (gZ G) 200 (xi Z 521))
  | 22 => some (inA (gI G) 40 (fun j => nI (xn Z 522 j)))
  | 24 => some (inA (gZ G) 40 (xi Z 524))
  | _ => none
def ent (G : Gt) (ad : Nat → Nat → Nat) (Z : Zt) (o i : Nat) : Option va_E := if i < xn Z 0 o then (match o with
  | 0 => if i = 0 then some (.inr (0, kgF ad Z)) else none
  | 1 => some (.inr (1, keyF ad Z i))
  | 2 => fnE Z i
  | 3 => some (.inr (8, listF G ad Z i))
  | 4 => if xn Z 3 i = 0 then none else some (rfA (gO G) (xn Z 3 i) (elemF ad Z i))
  | 5 => some (inA (gI G) 8 (fun j => nI (xc Z 5 i j)))
  | 6 => some (.inr (7, [.ref (ad 7 i), .int (nI (xn Z 9 i))]))
  | 7 => some (rfA (gK G) 40 (pileA ad Z i))
  | 8 => if i = 0 then some (rfA (gP G) 5 (fun j => some (ad 6 j))) else none
  | 9 => if i = 0 then some (inA (gZ G) 40 (xi Z 15)) else none
  | 10 => if i = 0 then some (.inr (9, modF ad Z)) else none
  | 11 => modE G Z i
  | 12 => if i = 0 then some (lnA (gL G) 1 (xl Z 3)) else none
  | _ => none) else none
/-- the heap holds the pure state -/
def HP (G : Gt) (ad : Nat → Nat → Nat) (ow : Nat → Nat × Nat) (Z : Zt) (H : Heap) : Prop := ∀ (o i : Nat) (e : va_E), ent G ad Z o i = some e → va_at (gD G) cls (ad o i, e) H ∧ gb G ≤ ad o i ∧ ow (ad o i) = (o, i)
/-- what of the surroundings a method takes as given -/
def EV (G : Gt) (U : State) : Prop := va_K (gD G) cls (tys G) U ∧ (∀ w ∈ NW, va_Nw w U) ∧ (va_AO "java/lang/Object" U ∧ va_AO "KeyGraph$Pile" U ∧ va_AO "KeyGraph$Key" U) ∧
  va_Z "java/util/ArrayList" "DEFAULTCAPACITY_EMPTY_ELEMENTDATA" "[Ljava/lang/Object;" (.ref (ge G)) (zA G) U U.heap ∧ va_T (.object "java/lang/Object") (ge G) 0 (fun _ => .null) (zA G) U U.heap ∧
  va_Zq "java/lang/Throwable" "UNASSIGNED_STACK" "[Ljava/lang/StackTraceElement;" (zA G) U U.heap ∧ va_Zq "java/lang/Throwable" "SUPPRESSED_SENTINEL" "Ljava/util/List;" (zA G) U U.heap ∧
  va_Mi "[Ljava/lang/Object;" (gm G) U ∧ gb G ≤ U.heap.size
def Dy (G : Gt) (ad : Nat → Nat → Nat) (ow : Nat → Nat × Nat) (Z : Zt) (s : State) (H : Heap) (locs : List Loc) : Prop := HP G ad ow Z H ∧ va_S (zA G) s.heap H locs ∧ gb G ≤ s.heap.size
def Cx (G : Gt) (p : Program) (c : Code) (m : MethodId) (s : State) (args : Array Value) (own : String) (cc : ByteArray) (nL : Nat) : Prop := p.tables.exec = Jvm.exec ∧ c.code = cc ∧ c.maxLocals = nL ∧ s.vm.findClass own = some m.cls ∧ (∀ w ∈ TT, w.before args s = true) ∧ EV G s
/-- the state Z' is Z but for one entity -/
def Up (G : Gt) (ad : Nat → Nat → Nat) (Z Z' : Zt) (o i : Nat) (e : va_E) : Prop := ent G ad Z' o i = some e ∧ ∀ o' i', ¬ (o' = o ∧ i' = i) → ent G ad Z' o' i' = ent G ad Z o' i'
def nwK : Cond → Bool
  | .methodLinkNest .. => true
  | .fieldLinkNest .. => true
  | .declares _ => true
  | .castable .. => true
  | _ => false
theorem nwK_all : NW.all nwK = true := rfl
theorem nwT_all : NW.all Cond.onTables = true := rfl
theorem nw_warm {s U : State} (hW : s.WarmedH U.vm) (h : ∀ w ∈ NW, va_Nw w s) : ∀ w ∈ NW, va_Nw w U := by
  intro w hw
  have h0 := h w hw
  have hk : nwK w = true := List.all_eq_true.mp nwK_all w hw
  cases w <;> first | (cases hk; done) | exact va_Nw.warmM hW h0 | exact va_Nw.warmF hW h0 | exact va_Nw.warmD hW h0 | exact va_Nw.warmC hW h0
theorem nw_same {u U : State} (hv : u.vm = U.vm) (h : ∀ w ∈ NW, va_Nw w u) : ∀ w ∈ NW, va_Nw w U := by
  intro w hw
  have h0 := h w hw
  have hk : w.onTables = true := List.all_eq_true.mp nwT_all w hw
  exact va_Nw.same hk hv h0
theorem EV.calling {G : Gt} {U : State} (h : EV G U) (g : JFrame) (mk : MethodId) (a : Array Value) : EV G (U.calling g mk a) := by
  obtain ⟨h1, h2, ⟨h3, h3a, h3b⟩, h4, h5, h6, h7, h8, h9⟩ := h
  have al : U.vm.Alike (U.calling g mk a).vm := Vm.Alike.refl U.vm
  exact ⟨va_K.moved (u := U) (U := U.calling g mk a) al h1, nw_same (u := U) (U := U.calling g mk a) rfl h2, ⟨va_AO.moved (u := U) (U := U.calling g mk a) al h3, va_AO.moved (u := U) (U := U.calling g mk a) al h3a, va_AO.moved (u := U) (U := U.calling g mk a) al h3b⟩, va_Z.moved (u := U) (U := U.calling g mk a) al h4, va_T.moved (u := U) (U := U.calling g mk a) al h5, va_Zq.moved (u := U) (U := U.calling g mk a) al h6, va_Zq.moved (u := U) (U := U.calling g mk a) al h7, va_Mi.moved (u := U) (U := U.calling g mk a) al h8, h9⟩
theorem EV.warm {G : Gt} {s U : State} {H : Heap} {locs : List Loc} (h : EV G s) (hS : va_S (zA G) s.heap H locs) (hU : U.heap = H) (hW : s.WarmedH U.vm) : EV G U := by
  obtain ⟨h1, h2, ⟨h3, h3a, h3b⟩, h4, h5, h6, h7, h8, h9⟩ := h
  have al := hW.alike
  have hq : ∀ a : Nat, a < s.heap.size → ¬ zA G a → U.heap[a]? = s.heap[a]? := fun a ha hn => by rw [hU]; exact hS.2.1 a ha hn
  exact ⟨va_K.moved al h1, nw_warm hW h2, ⟨va_AO.moved al h3, va_AO.moved al h3a, va_AO.moved al h3b⟩, (va_Z.moved al h4).kept hq, (va_T.moved al h5).kept hq, (va_Zq.moved al h6).kept hq, (va_Zq.moved al h7).kept hq, va_Mi.moved al h8, by rw [hU]; exact Nat.le_trans h9 hS.1⟩
theorem HP.set {G : Gt} {ad : Nat → Nat → Nat} {ow : Nat → Nat × Nat} {Z Z' : Zt} {H H1 : Heap} {o i : Nat} {e0 e1 : va_E} (h : HP G ad ow Z H) (he : ent G ad Z o i = some e0) (hU : Up G ad Z Z' o i e1) (ha : va_at (gD G) cls (ad o i, e1) H1) (oq : ∀ q : Nat, q ≠ ad o i → H1[q]? = H[q]?) : HP G ad ow Z' H1 := by
  have h0 := h o i e0 he
  intro o' i' e' he'
  by_cases hc : o' = o ∧ i' = i
  · obtain ⟨rfl, rfl⟩ := hc
    cases hU.1.symm.trans he'
    exact ⟨ha, h0.2⟩
  · rw [hU.2 o' i' hc] at he'
    have h1 := h o' i' e' he'
    refine ⟨h1.1.kept (oq _ fun z => hc ?_), h1.2⟩
    have z1 := h1.2.2
    have z2 := h0.2.2
    have z3 : ad o' i' = ad o i := z
    rw [z3, z2] at z1
    cases z1
    exact ⟨rfl, rfl⟩
theorem Dy.set {G : Gt} {ad : Nat → Nat → Nat} {ow : Nat → Nat × Nat} {Z Z' : Zt} {s : State} {H H1 : Heap} {locs : List Loc} {o i k : Nat} {e0 e1 : va_E} (h : Dy G ad ow Z s H locs) (he : ent G ad Z o i = some e0) (hU : Up G ad Z Z' o i e1) (hz : H1.size = H.size) (ha : va_at (gD G) cls (ad o i, e1) H1) (oq : ∀ q : Nat, q ≠ ad o i → H1[q]? = H[q]?) : Dy G ad ow Z' s H1 (locs ++ [⟨ad o i, k⟩]) :=
  ⟨h.1.set he hU ha oq, h.2.1.put hz oq (h.1 o i e0 he).2.1, h.2.2⟩
theorem HP.kept {G : Gt} {ad : Nat → Nat → Nat} {ow : Nat → Nat × Nat} {Z : Zt} {H H1 : Heap} (h : HP G ad ow Z H) (oq : ∀ q : Nat, q < H.size → H1[q]? = H[q]?) : HP G ad ow Z H1 := fun o i e he => ⟨(h o i e he).1.kept (oq _ (h o i e he).1.lt), (h o i e he).2⟩
theorem HP.one {G : Gt} {ad : Nat → Nat → Nat} {ow : Nat → Nat × Nat} {Z : Zt} {H : Heap} (h : HP G ad ow Z H) {o i : Nat} {e : va_E} (he : ent G ad Z o i = some e) : va_P (gD G) cls [(ad o i, e)] H := by
  intro k q hk
  match k, hk with
  | 0, hk => cases hk; exact (h o i e he).1
  | k + 1, hk => simp at hk

section
variable {G : Gt} {ad : Nat → Nat → Nat} {Z : Zt}
theorem e_kg (h : 0 < xn Z 0 0) : ent G ad Z 0 0 = some (.inr (0, kgF ad Z)) := (if_pos h).trans (if_pos rfl)
theorem e_key {k : Nat} (h : k < xn Z 0 1) : ent G ad Z 1 k = some (.inr (1, keyF ad Z k)) := if_pos h
theorem e_fn {k : Nat} (h : k < xn Z 0 2) : ent G ad Z 2 k = fnE Z k := if_pos h
theorem e_list {k : Nat} (h : k < xn Z 0 3) : ent G ad Z 3 k = some (.inr (8, listF G ad Z k)) := if_pos h
theorem e_elem {k : Nat} (h : k < xn Z 0 4) (hc : xn Z 3 k ≠ 0) : ent G ad Z 4 k = some (rfA (gO G) (xn Z 3 k) (elemF ad Z k)) := (if_pos h).trans (if_neg hc)
theorem e_arr {k : Nat} (h : k < xn Z 0 5) : ent G ad Z 5 k = some (inA (gI G) 8 (fun j => nI (xc Z 5 k j))) := if_pos h
theorem e_pile {k : Nat} (h : k < xn Z 0 6) : ent G ad Z 6 k = some (.inr (7, [.ref (ad 7 k), .int (nI (xn Z 9 k))])) := if_pos h
theorem e_pka {k : Nat} (h : k < xn Z 0 7) : ent G ad Z 7 k = some (rfA (gK G) 40 (pileA ad Z k)) := if_pos h
theorem e_piles (h : 0 < xn Z 0 8) : ent G ad Z 8 0 = some (rfA (gP G) 5 (fun j => some (ad 6 j))) := (if_pos h).trans (if_pos rfl)
theorem e_leads (h : 0 < xn Z 0 9) : ent G ad Z 9 0 = some (inA (gZ G) 40 (xi Z 15)) := (if_pos h).trans (if_pos rfl)
theorem e_mod (h : 0 < xn Z 0 10) : ent G ad Z 10 0 = some (.inr (9, modF ad Z)) := (if_pos h).trans (if_pos rfl)
theorem e_out (h : 0 < xn Z 0 12) : ent G ad Z 12 0 = some (lnA (gL G) 1 (xl Z 3)) := (if_pos h).trans (if_pos rfl)
theorem e_m3 (h : 25 ≤ xn Z 0 11) : ent G ad Z 11 3 = some (inA (gI G) 40 (xi Z 503)) := if_pos (Nat.lt_of_lt_of_le (by decide) h)
theorem e_m4 (h : 25 ≤ xn Z 0 11) : ent G ad Z 11 4 = some (inA (gI G) 40 (fun j => nI (xn Z 504 j))) := if_pos (Nat.lt_of_lt_of_le (by decide) h)
theorem e_m5 (h : 25 ≤ xn Z 0 11) : ent G ad Z 11 5 = some (inA (gI G) 320 (fun j => nI (xn Z 505 j))) := if_pos (Nat.lt_of_lt_of_le (by decide) h)
theorem e_m6 (h : 25 ≤ xn Z 0 11) : ent G ad Z 11 6 = some (inA (gI G) 40 (xi Z 506)) := if_pos (Nat.lt_of_lt_of_le (by decide) h)
theorem e_m7 (h : 25 ≤ xn Z 0 11) : ent G ad Z 11 7 = some (inA (gI G) 40 (xi Z 507)) := if_pos (Nat.lt_of_lt_of_le (by decide) h)
theorem e_m8 (h : 25 ≤ xn Z 0 11) : ent G ad Z 11 8 = some (inA (gI G) 40 (xi Z 508)) := if_pos (Nat.lt_of_lt_of_le (by decide) h)
theorem e_m9 (h : 25 ≤ xn Z 0 11) : ent G ad Z 11 9 = some (inA (gI G) 40 (xi Z 509)) := if_pos (Nat.lt_of_lt_of_le (by decide) h)
theorem e_m10 (h : 25 ≤ xn Z 0 11) : ent G ad Z 11 10 = some (inA (gI G) 40 (fun j => nI (xn Z 510 j))) := if_pos (Nat.lt_of_lt_of_le (by decide) h)
theorem e_m11 (h : 25 ≤ xn Z 0 11) : ent G ad Z 11 11 = some (inA (gI G) 320 (fun j => nI (xn Z 511 j))) := if_pos (Nat.lt_of_lt_of_le (by decide) h)
theorem e_m12 (h : 25 ≤ xn Z 0 11) : ent G ad Z 11 12 = some (inA (gI G) 40 (xi Z 512)) := if_pos (Nat.lt_of_lt_of_le (by decide) h)
theorem e_m13 (h : 25 ≤ xn Z 0 11) : ent G ad Z 11 13 = some (inA (gI G) 40 (xi Z 513)) := if_pos (Nat.lt_of_lt_of_le (by decide) h)
theorem e_m14 (h : 25 ≤ xn Z 0 11) : ent G ad Z 11 14 = some (lnA (gL G) 40 (xl Z 514)) := if_pos (Nat.lt_of_lt_of_le (by decide) h)
theorem e_m15 (h : 25 ≤ xn Z 0 11) : ent G ad Z 11 15 = some (inA (gZ G) 40 (xi Z 515)) := if_pos (Nat.lt_of_lt_of_le (by decide) h)
theorem e_m16 (h : 25 ≤ xn Z 0 11) : ent G ad Z 11 16 = some (inA (gZ G) 40 (xi Z 516)) := if_pos (Nat.lt_of_lt_of_le (by decide) h)
theorem e_m17 (h : 25 ≤ xn Z 0 11) : ent G ad Z 11 17 = some (inA (gI G) 5 (fun j => nI (xn Z 517 j))) := if_pos (Nat.lt_of_lt_of_le (by decide) h)
theorem e_m18 (h : 25 ≤ xn Z 0 11) : ent G ad Z 11 18 = some (inA (gI G) 200 (fun j => nI (xn Z 518 j))) := if_pos (Nat.lt_of_lt_of_le (by decide) h)
theorem e_m19 (h : 25 ≤ xn Z 0 11) : ent G ad Z 11 19 = some (inA (gI G) 200 (fun j => nI (xn Z 519 j))) := if_pos (Nat.lt_of_lt_of_le (by decide) h)
theorem e_m20 (h : 25 ≤ xn Z 0 11) : ent G ad Z 11 20 = some (inA (gI G) 1600 (fun j => nI (xn Z 520 j))) := if_pos (Nat.lt_of_lt_of_le (by decide) h)
theorem e_m21 (h : 25 ≤ xn Z 0 11) : ent G ad Z 11 21 = some (inA (gZ G) 200 (xi Z 521)) := if_pos (Nat.lt_of_lt_of_le (by decide) h)
theorem e_m22 (h : 25 ≤ xn Z 0 11) : ent G ad Z 11 22 = some (inA (gI G) 40 (fun j => nI (xn Z 522 j))) := if_pos (Nat.lt_of_lt_of_le (by decide) h)
theorem e_m24 (h : 25 ≤ xn Z 0 11) : ent G ad Z 11 24 = some (inA (gZ G) 40 (xi Z 524)) := if_pos (Nat.lt_of_lt_of_le (by decide) h)
end
theorem u_st {G : Gt} {ad : Nat → Nat → Nat} {Z : Zt} {k : Nat} {v : Int32} (hk : k < xn Z 0 1) : Up G ad Z (si Z 1 k v) 1 k (.inr (1, (keyF ad Z k).set 3 (.int v))) := by
  refine ⟨?_, ?_⟩
  · rw [e_key (show k < xn (si Z 1 k v) 0 1 from hk)]; simp [xi_si, xi_sl, xi_sn, xi_sc, xl_si, xl_sl, xl_sn, xl_sc, xn_si, xn_sl, xn_sn, xn_sc, xc_si, xc_sl, xc_sn, xc_sc] <;> rfl
  · intro o i h
    match o, h with
    | 0, h => rfl
    | 1, h => (have hi : ¬ i = k := fun q => h ⟨rfl, q⟩; simp only [ent, keyF, hi, and_false, if_false, xi_si, xi_sl, xi_sn, xi_sc, xl_si, xl_sl, xl_sn, xl_sc, xn_si, xn_sl, xn_sn, xn_sc, xc_si, xc_sl, xc_sn, xc_sc] <;> rfl)
    | 2, h => rfl
    | 3, h => rfl
    | 4, h => rfl
    | 5, h => rfl
    | 6, h => rfl
    | 7, h => rfl
    | 8, h => rfl
    | 9, h => rfl
    | 10, h => rfl
    | 11, h => rfl
    | 12, h => rfl
    | (n + 13), h => rfl
theorem u_chg {G : Gt} {ad : Nat → Nat → Nat} {Z : Zt} {k : Nat} {v : Int32} (hk : k < xn Z 0 1) : Up G ad Z (si Z 2 k v) 1 k (.inr (1, (keyF ad Z k).set 5 (.int v))) := by
  refine ⟨?_, ?_⟩
  · rw [e_key (show k < xn (si Z 2 k v) 0 1 from hk)]; simp [xi_si, xi_sl, xi_sn, xi_sc, xl_si, xl_sl, xl_sn, xl_sc, xn_si, xn_sl, xn_sn, xn_sc, xc_si, xc_sl, xc_sn, xc_sc] <;> rfl
  · intro o i h
    match o, h with
    | 0, h => rfl
    | 1, h => (have hi : ¬ i = k := fun q => h ⟨rfl, q⟩; simp only [ent, keyF, hi, and_false, if_false, xi_si, xi_sl, xi_sn, xi_sc, xl_si, xl_sl, xl_sn, xl_sc, xn_si, xn_sl, xn_sn, xn_sc, xc_si, xc_sl, xc_sn, xc_sc] <;> rfl)
    | 2, h => rfl
    | 3, h => rfl
    | 4, h => rfl
    | 5, h => rfl
    | 6, h => rfl
    | 7, h => rfl
    | 8, h => rfl
    | 9, h => rfl
    | 10, h => rfl
    | 11, h => rfl
    | 12, h => rfl
    | (n + 13), h => rfl
theorem u_sure {G : Gt} {ad : Nat → Nat → Nat} {Z : Zt} {k : Nat} {v : Int32} (hk : k < xn Z 0 1) : Up G ad Z (si Z 3 k v) 1 k (.inr (1, (keyF ad Z k).set 6 (.int v))) := by
  refine ⟨?_, ?_⟩
  · rw [e_key (show k < xn (si Z 3 k v) 0 1 from hk)]; simp [xi_si, xi_sl, xi_sn, xi_sc, xl_si, xl_sl, xl_sn, xl_sc, xn_si, xn_sl, xn_sn, xn_sc, xc_si, xc_sl, xc_sn, xc_sc] <;> rfl
  · intro o i h
    match o, h with
    | 0, h => rfl
    | 1, h => (have hi : ¬ i = k := fun q => h ⟨rfl, q⟩; simp only [ent, keyF, hi, and_false, if_false, xi_si, xi_sl, xi_sn, xi_sc, xl_si, xl_sl, xl_sn, xl_sc, xn_si, xn_sl, xn_sn, xn_sc, xc_si, xc_sl, xc_sn, xc_sc] <;> rfl)
    | 2, h => rfl
    | 3, h => rfl
    | 4, h => rfl
    | 5, h => rfl
    | 6, h => rfl
    | 7, h => rfl
    | 8, h => rfl
    | 9, h => rfl
    | 10, h => rfl
    | 11, h => rfl
    | 12, h => rfl
    | (n + 13), h => rfl
theorem u_own {G : Gt} {ad : Nat → Nat → Nat} {Z : Zt} {k : Nat} {v : Int32} (hk : k < xn Z 0 1) : Up G ad Z (si Z 4 k v) 1 k (.inr (1, (keyF ad Z k).set 7 (.int v))) := by
  refine ⟨?_, ?_⟩
  · rw [e_key (show k < xn (si Z 4 k v) 0 1 from hk)]; simp [xi_si, xi_sl, xi_sn, xi_sc, xl_si, xl_sl, xl_sn, xl_sc, xn_si, xn_sl, xn_sn, xn_sc, xc_si, xc_sl, xc_sn, xc_sc] <;> rfl
  · intro o i h
    match o, h with
    | 0, h => rfl
    | 1, h => (have hi : ¬ i = k := fun q => h ⟨rfl, q⟩; simp only [ent, keyF, hi, and_false, if_false, xi_si, xi_sl, xi_sn, xi_sc, xl_si, xl_sl, xl_sn, xl_sc, xn_si, xn_sl, xn_sn, xn_sc, xc_si, xc_sl, xc_sn, xc_sc] <;> rfl)
    | 2, h => rfl
    | 3, h => rfl
    | 4, h => rfl
    | 5, h => rfl
    | 6, h => rfl
    | 7, h => rfl
    | 8, h => rfl
    | 9, h => rfl
    | 10, h => rfl
    | 11, h => rfl
    | 12, h => rfl
    | (n + 13), h => rfl
theorem u_wrk {G : Gt} {ad : Nat → Nat → Nat} {Z : Zt} {k : Nat} {v : Int32} (hk : k < xn Z 0 1) : Up G ad Z (si Z 5 k v) 1 k (.inr (1, (keyF ad Z k).set 8 (.int v))) := by
  refine ⟨?_, ?_⟩
  · rw [e_key (show k < xn (si Z 5 k v) 0 1 from hk)]; simp [xi_si, xi_sl, xi_sn, xi_sc, xl_si, xl_sl, xl_sn, xl_sc, xn_si, xn_sl, xn_sn, xn_sc, xc_si, xc_sl, xc_sn, xc_sc] <;> rfl
  · intro o i h
    match o, h with
    | 0, h => rfl
    | 1, h => (have hi : ¬ i = k := fun q => h ⟨rfl, q⟩; simp only [ent, keyF, hi, and_false, if_false, xi_si, xi_sl, xi_sn, xi_sc, xl_si, xl_sl, xl_sn, xl_sc, xn_si, xn_sl, xn_sn, xn_sc, xc_si, xc_sl, xc_sn, xc_sc] <;> rfl)
    | 2, h => rfl
    | 3, h => rfl
    | 4, h => rfl
    | 5, h => rfl
    | 6, h => rfl
    | 7, h => rfl
    | 8, h => rfl
    | 9, h => rfl
    | 10, h => rfl
    | 11, h => rfl
    | 12, h => rfl
    | (n + 13), h => rfl
theorem u_kpt {G : Gt} {ad : Nat → Nat → Nat} {Z : Zt} {k : Nat} {v : Int32} (hk : k < xn Z 0 1) : Up G ad Z (si Z 6 k v) 1 k (.inr (1, (keyF ad Z k).set 9 (.int v))) := by
  refine ⟨?_, ?_⟩
  · rw [e_key (show k < xn (si Z 6 k v) 0 1 from hk)]; simp [xi_si, xi_sl, xi_sn, xi_sc, xl_si, xl_sl, xl_sn, xl_sc, xn_si, xn_sl, xn_sn, xn_sc, xc_si, xc_sl, xc_sn, xc_sc] <;> rfl
  · intro o i h
    match o, h with
    | 0, h => rfl
    | 1, h => (have hi : ¬ i = k := fun q => h ⟨rfl, q⟩; simp only [ent, keyF, hi, and_false, if_false, xi_si, xi_sl, xi_sn, xi_sc, xl_si, xl_sl, xl_sn, xl_sc, xn_si, xn_sl, xn_sn, xn_sc, xc_si, xc_sl, xc_sn, xc_sc] <;> rfl)
    | 2, h => rfl
    | 3, h => rfl
    | 4, h => rfl
    | 5, h => rfl
    | 6, h => rfl
    | 7, h => rfl
    | 8, h => rfl
    | 9, h => rfl
    | 10, h => rfl
    | 11, h => rfl
    | 12, h => rfl
    | (n + 13), h => rfl
theorem u_spo {G : Gt} {ad : Nat → Nat → Nat} {Z : Zt} {k : Nat} {v : Int32} (hk : k < xn Z 0 1) : Up G ad Z (si Z 7 k v) 1 k (.inr (1, (keyF ad Z k).set 10 (.int v))) := by
  refine ⟨?_, ?_⟩
  · rw [e_key (show k < xn (si Z 7 k v) 0 1 from hk)]; simp [xi_si, xi_sl, xi_sn, xi_sc, xl_si, xl_sl, xl_sn, xl_sc, xn_si, xn_sl, xn_sn, xn_sc, xc_si, xc_sl, xc_sn, xc_sc] <;> rfl
  · intro o i h
    match o, h with
    | 0, h => rfl
    | 1, h => (have hi : ¬ i = k := fun q => h ⟨rfl, q⟩; simp only [ent, keyF, hi, and_false, if_false, xi_si, xi_sl, xi_sn, xi_sc, xl_si, xl_sl, xl_sn, xl_sc, xn_si, xn_sl, xn_sn, xn_sc, xc_si, xc_sl, xc_sn, xc_sc] <;> rfl)
    | 2, h => rfl
    | 3, h => rfl
    | 4, h => rfl
    | 5, h => rfl
    | 6, h => rfl
    | 7, h => rfl
    | 8, h => rfl
    | 9, h => rfl
    | 10, h => rfl
    | 11, h => rfl
    | 12, h => rfl
    | (n + 13), h => rfl
theorem u_worker {G : Gt} {ad : Nat → Nat → Nat} {Z : Zt} {k : Nat} {v : Int32} (hk : k < xn Z 0 1) : Up G ad Z (si Z 8 k v) 1 k (.inr (1, (keyF ad Z k).set 15 (.int v))) := by
  refine ⟨?_, ?_⟩
  · rw [e_key (show k < xn (si Z 8 k v) 0 1 from hk)]; simp [xi_si, xi_sl, xi_sn, xi_sc, xl_si, xl_sl, xl_sn, xl_sc, xn_si, xn_sl, xn_sn, xn_sc, xc_si, xc_sl, xc_sn, xc_sc] <;> rfl
  · intro o i h
    match o, h with
    | 0, h => rfl
    | 1, h => (have hi : ¬ i = k := fun q => h ⟨rfl, q⟩; simp only [ent, keyF, hi, and_false, if_false, xi_si, xi_sl, xi_sn, xi_sc, xl_si, xl_sl, xl_sn, xl_sc, xn_si, xn_sl, xn_sn, xn_sc, xc_si, xc_sl, xc_sn, xc_sc] <;> rfl)
    | 2, h => rfl
    | 3, h => rfl
    | 4, h => rfl
    | 5, h => rfl
    | 6, h => rfl
    | 7, h => rfl
    | 8, h => rfl
    | 9, h => rfl
    | 10, h => rfl
    | 11, h => rfl
    | 12, h => rfl
    | (n + 13), h => rfl
theorem u_checks {G : Gt} {ad : Nat → Nat → Nat} {Z : Zt} {k : Nat} {v : Int32} (hk : k < xn Z 0 1) : Up G ad Z (si Z 9 k v) 1 k (.inr (1, (keyF ad Z k).set 17 (.int v))) := by
  refine ⟨?_, ?_⟩
  · rw [e_key (show k < xn (si Z 9 k v) 0 1 from hk)]; simp [xi_si, xi_sl, xi_sn, xi_sc, xl_si, xl_sl, xl_sn, xl_sc, xn_si, xn_sl, xn_sn, xn_sc, xc_si, xc_sl, xc_sn, xc_sc] <;> rfl
  · intro o i h
    match o, h with
    | 0, h => rfl
    | 1, h => (have hi : ¬ i = k := fun q => h ⟨rfl, q⟩; simp only [ent, keyF, hi, and_false, if_false, xi_si, xi_sl, xi_sn, xi_sc, xl_si, xl_sl, xl_sn, xl_sc, xn_si, xn_sl, xn_sn, xn_sc, xc_si, xc_sl, xc_sn, xc_sc] <;> rfl)
    | 2, h => rfl
    | 3, h => rfl
    | 4, h => rfl
    | 5, h => rfl
    | 6, h => rfl
    | 7, h => rfl
    | 8, h => rfl
    | 9, h => rfl
    | 10, h => rfl
    | 11, h => rfl
    | 12, h => rfl
    | (n + 13), h => rfl
theorem u_val {G : Gt} {ad : Nat → Nat → Nat} {Z : Zt} {k : Nat} {v : Int64} (hk : k < xn Z 0 1) : Up G ad Z (sl Z 1 k v) 1 k (.inr (1, (keyF ad Z k).set 4 (.long v))) := by
  refine ⟨?_, ?_⟩
  · rw [e_key (show k < xn (sl Z 1 k v) 0 1 from hk)]; simp [xi_si, xi_sl, xi_sn, xi_sc, xl_si, xl_sl, xl_sn, xl_sc, xn_si, xn_sl, xn_sn, xn_sc, xc_si, xc_sl, xc_sn, xc_sc] <;> rfl
  · intro o i h
    match o, h with
    | 0, h => rfl
    | 1, h => (have hi : ¬ i = k := fun q => h ⟨rfl, q⟩; simp only [ent, keyF, hi, and_false, if_false, xi_si, xi_sl, xi_sn, xi_sc, xl_si, xl_sl, xl_sn, xl_sc, xn_si, xn_sl, xn_sn, xn_sc, xc_si, xc_sl, xc_sn, xc_sc] <;> rfl)
    | 2, h => rfl
    | 3, h => rfl
    | 4, h => rfl
    | 5, h => rfl
    | 6, h => rfl
    | 7, h => rfl
    | 8, h => rfl
    | 9, h => rfl
    | 10, h => rfl
    | 11, h => rfl
    | 12, h => rfl
    | (n + 13), h => rfl
theorem u_askedC {G : Gt} {ad : Nat → Nat → Nat} {Z : Zt} {k v : Nat} (hk : k < xn Z 0 1) : Up G ad Z (sn Z 4 k v) 1 k (.inr (1, (keyF ad Z k).set 13 (.int (nI v)))) := by
  refine ⟨?_, ?_⟩
  · rw [e_key (show k < xn (sn Z 4 k v) 0 1 from hk)]; simp [xi_si, xi_sl, xi_sn, xi_sc, xl_si, xl_sl, xl_sn, xl_sc, xn_si, xn_sl, xn_sn, xn_sc, xc_si, xc_sl, xc_sn, xc_sc] <;> rfl
  · intro o i h
    match o, h with
    | 0, h => rfl
    | 1, h => (have hi : ¬ i = k := fun q => h ⟨rfl, q⟩; simp only [ent, keyF, hi, and_false, if_false, xi_si, xi_sl, xi_sn, xi_sc, xl_si, xl_sl, xl_sn, xl_sc, xn_si, xn_sl, xn_sn, xn_sc, xc_si, xc_sl, xc_sn, xc_sc] <;> rfl)
    | 2, h => rfl
    | 3, h => rfl
    | 4, h => rfl
    | 5, h => rfl
    | 6, h => rfl
    | 7, h => rfl
    | 8, h => rfl
    | 9, h => rfl
    | 10, h => rfl
    | 11, h => rfl
    | 12, h => rfl
    | (n + 13), h => rfl
theorem u_askingC {G : Gt} {ad : Nat → Nat → Nat} {Z : Zt} {k v : Nat} (hk : k < xn Z 0 1) : Up G ad Z (sn Z 5 k v) 1 k (.inr (1, (keyF ad Z k).set 14 (.int (nI v)))) := by
  refine ⟨?_, ?_⟩
  · rw [e_key (show k < xn (sn Z 5 k v) 0 1 from hk)]; simp [xi_si, xi_sl, xi_sn, xi_sc, xl_si, xl_sl, xl_sn, xl_sc, xn_si, xn_sl, xn_sn, xn_sc, xc_si, xc_sl, xc_sn, xc_sc] <;> rfl
  · intro o i h
    match o, h with
    | 0, h => rfl
    | 1, h => (have hi : ¬ i = k := fun q => h ⟨rfl, q⟩; simp only [ent, keyF, hi, and_false, if_false, xi_si, xi_sl, xi_sn, xi_sc, xl_si, xl_sl, xl_sn, xl_sc, xn_si, xn_sl, xn_sn, xn_sc, xc_si, xc_sl, xc_sn, xc_sc] <;> rfl)
    | 2, h => rfl
    | 3, h => rfl
    | 4, h => rfl
    | 5, h => rfl
    | 6, h => rfl
    | 7, h => rfl
    | 8, h => rfl
    | 9, h => rfl
    | 10, h => rfl
    | 11, h => rfl
    | 12, h => rfl
    | (n + 13), h => rfl
theorem u_at {G : Gt} {ad : Nat → Nat → Nat} {Z : Zt} {k v : Nat} (hk : k < xn Z 0 1) : Up G ad Z (sn Z 6 k v) 1 k (.inr (1, (keyF ad Z k).set 16 (.int (nI v)))) := by
  refine ⟨?_, ?_⟩
  · rw [e_key (show k < xn (sn Z 6 k v) 0 1 from hk)]; simp [xi_si, xi_sl, xi_sn, xi_sc, xl_si, xl_sl, xl_sn, xl_sc, xn_si, xn_sl, xn_sn, xn_sc, xc_si, xc_sl, xc_sn, xc_sc] <;> rfl
  · intro o i h
    match o, h with
    | 0, h => rfl
    | 1, h => (have hi : ¬ i = k := fun q => h ⟨rfl, q⟩; simp only [ent, keyF, hi, and_false, if_false, xi_si, xi_sl, xi_sn, xi_sc, xl_si, xl_sl, xl_sn, xl_sc, xn_si, xn_sl, xn_sn, xn_sc, xc_si, xc_sl, xc_sn, xc_sc] <;> rfl)
    | 2, h => rfl
    | 3, h => rfl
    | 4, h => rfl
    | 5, h => rfl
    | 6, h => rfl
    | 7, h => rfl
    | 8, h => rfl
    | 9, h => rfl
    | 10, h => rfl
    | 11, h => rfl
    | 12, h => rfl
    | (n + 13), h => rfl
theorem u_aA {G : Gt} {ad : Nat → Nat → Nat} {Z : Zt} {k v : Nat} (hk : k < xn Z 0 1) : Up G ad Z (sn Z 7 k v) 1 k (.inr (1, (keyF ad Z k).set 11 (.ref (ad 5 v)))) := by
  refine ⟨?_, ?_⟩
  · rw [e_key (show k < xn (sn Z 7 k v) 0 1 from hk)]; simp [xi_si, xi_sl, xi_sn, xi_sc, xl_si, xl_sl, xl_sn, xl_sc, xn_si, xn_sl, xn_sn, xn_sc, xc_si, xc_sl, xc_sn, xc_sc] <;> rfl
  · intro o i h
    match o, h with
    | 0, h => rfl
    | 1, h => (have hi : ¬ i = k := fun q => h ⟨rfl, q⟩; simp only [ent, keyF, hi, and_false, if_false, xi_si, xi_sl, xi_sn, xi_sc, xl_si, xl_sl, xl_sn, xl_sc, xn_si, xn_sl, xn_sn, xn_sc, xc_si, xc_sl, xc_sn, xc_sc] <;> rfl)
    | 2, h => rfl
    | 3, h => rfl
    | 4, h => rfl
    | 5, h => rfl
    | 6, h => rfl
    | 7, h => rfl
    | 8, h => rfl
    | 9, h => rfl
    | 10, h => rfl
    | 11, h => rfl
    | 12, h => rfl
    | (n + 13), h => rfl
theorem u_aB {G : Gt} {ad : Nat → Nat → Nat} {Z : Zt} {k v : Nat} (hk : k < xn Z 0 1) : Up G ad Z (sn Z 8 k v) 1 k (.inr (1, (keyF ad Z k).set 12 (.ref (ad 5 v)))) := by
  refine ⟨?_, ?_⟩
  · rw [e_key (show k < xn (sn Z 8 k v) 0 1 from hk)]; simp [xi_si, xi_sl, xi_sn, xi_sc, xl_si, xl_sl, xl_sn, xl_sc, xn_si, xn_sl, xn_sn, xn_sc, xc_si, xc_sl, xc_sn, xc_sc] <;> rfl
  · intro o i h
    match o, h with
    | 0, h => rfl
    | 1, h => (have hi : ¬ i = k := fun q => h ⟨rfl, q⟩; simp only [ent, keyF, hi, and_false, if_false, xi_si, xi_sl, xi_sn, xi_sc, xl_si, xl_sl, xl_sn, xl_sc, xn_si, xn_sl, xn_sn, xn_sc, xc_si, xc_sl, xc_sn, xc_sc] <;> rfl)
    | 2, h => rfl
    | 3, h => rfl
    | 4, h => rfl
    | 5, h => rfl
    | 6, h => rfl
    | 7, h => rfl
    | 8, h => rfl
    | 9, h => rfl
    | 10, h => rfl
    | 11, h => rfl
    | 12, h => rfl
    | (n + 13), h => rfl
theorem u_ver {G : Gt} {ad : Nat → Nat → Nat} {Z : Zt} {v : Int32} (hk : 0 < xn Z 0 0) : Up G ad Z (si Z 14 0 v) 0 0 (.inr (0, (kgF ad Z).set 3 (.int v))) := by
  refine ⟨?_, ?_⟩
  · exact e_kg (Z := si Z 14 0 v) hk
  · intro o i h
    match o, h with
    | 0, h => (have hi : ¬ i = 0 := fun q => h ⟨rfl, q⟩; simp only [ent, hi, if_false] <;> rfl)
    | 1, h => rfl
    | 2, h => rfl
    | 3, h => rfl
    | 4, h => rfl
    | 5, h => rfl
    | 6, h => rfl
    | 7, h => rfl
    | 8, h => rfl
    | 9, h => rfl
    | 10, h => rfl
    | 11, h => rfl
    | 12, h => rfl
    | (n + 13), h => rfl
theorem u_leads {G : Gt} {ad : Nat → Nat → Nat} {Z : Zt} {j : Nat} {v : Int32} (hk : 0 < xn Z 0 9) : Up G ad Z (si Z 15 j v) 9 0 (inA (gZ G) 40 (upd (xi Z 15) j v)) := by
  refine ⟨?_, ?_⟩
  · rw [e_leads (show 0 < xn (si Z 15 j v) 0 9 from hk)]; congr 3; funext q; by_cases hq : q = j <;> simp [upd, xi_si, hq]
  · intro o i h
    match o, h with
    | 0, h => rfl
    | 1, h => rfl
    | 2, h => rfl
    | 3, h => rfl
    | 4, h => rfl
    | 5, h => rfl
    | 6, h => rfl
    | 7, h => rfl
    | 8, h => rfl
    | 9, h => (have hi : ¬ i = 0 := fun q => h ⟨rfl, q⟩; simp only [ent, hi, if_false] <;> rfl)
    | 10, h => rfl
    | 11, h => rfl
    | 12, h => rfl
    | (n + 13), h => rfl
theorem u_out {G : Gt} {ad : Nat → Nat → Nat} {Z : Zt} {j : Nat} {v : Int64} (hk : 0 < xn Z 0 12) : Up G ad Z (sl Z 3 j v) 12 0 (lnA (gL G) 1 (vp_updL (xl Z 3) j v)) := by
  refine ⟨?_, ?_⟩
  · rw [e_out (show 0 < xn (sl Z 3 j v) 0 12 from hk)]; congr 4; funext q; by_cases hq : q = j <;> simp [vp_updL, xl_sl, hq]
  · intro o i h
    match o, h with
    | 0, h => rfl
    | 1, h => rfl
    | 2, h => rfl
    | 3, h => rfl
    | 4, h => rfl
    | 5, h => rfl
    | 6, h => rfl
    | 7, h => rfl
    | 8, h => rfl
    | 9, h => rfl
    | 10, h => rfl
    | 11, h => rfl
    | 12, h => (have hi : ¬ i = 0 := fun q => h ⟨rfl, q⟩; simp only [ent, hi, if_false] <;> rfl)
    | (n + 13), h => rfl
theorem u_mcode {G : Gt} {ad : Nat → Nat → Nat} {Z : Zt} {v : Int32} (hk : 0 < xn Z 0 10) : Up G ad Z (si Z 20 0 v) 10 0 (.inr (9, (modF ad Z).set 0 (.int v))) := by
  refine ⟨?_, ?_⟩
  · exact e_mod (Z := si Z 20 0 v) hk
  · intro o i h
    match o, h with
    | 0, h => rfl
    | 1, h => rfl
    | 2, h => rfl
    | 3, h => rfl
    | 4, h => rfl
    | 5, h => rfl
    | 6, h => rfl
    | 7, h => rfl
    | 8, h => rfl
    | 9, h => rfl
    | 10, h => (have hi : ¬ i = 0 := fun q => h ⟨rfl, q⟩; simp only [ent, hi, if_false] <;> rfl)
    | 11, h => rfl
    | 12, h => rfl
    | (n + 13), h => rfl
theorem u_mver {G : Gt} {ad : Nat → Nat → Nat} {Z : Zt} {v : Int32} (hk : 0 < xn Z 0 10) : Up G ad Z (si Z 21 0 v) 10 0 (.inr (9, (modF ad Z).set 1 (.int v))) := by
  refine ⟨?_, ?_⟩
  · exact e_mod (Z := si Z 21 0 v) hk
  · intro o i h
    match o, h with
    | 0, h => rfl
    | 1, h => rfl
    | 2, h => rfl
    | 3, h => rfl
    | 4, h => rfl
    | 5, h => rfl
    | 6, h => rfl
    | 7, h => rfl
    | 8, h => rfl
    | 9, h => rfl
    | 10, h => (have hi : ¬ i = 0 := fun q => h ⟨rfl, q⟩; simp only [ent, hi, if_false] <;> rfl)
    | 11, h => rfl
    | 12, h => rfl
    | (n + 13), h => rfl
theorem u_mkeys {G : Gt} {ad : Nat → Nat → Nat} {Z : Zt} {v : Nat} (hk : 0 < xn Z 0 10) : Up G ad Z (sn Z 20 0 v) 10 0 (.inr (9, (modF ad Z).set 2 (.int (nI v)))) := by
  refine ⟨?_, ?_⟩
  · exact e_mod (Z := sn Z 20 0 v) hk
  · intro o i h
    match o, h with
    | 0, h => rfl
    | 1, h => rfl
    | 2, h => rfl
    | 3, h => rfl
    | 4, h => rfl
    | 5, h => rfl
    | 6, h => rfl
    | 7, h => rfl
    | 8, h => rfl
    | 9, h => rfl
    | 10, h => (have hi : ¬ i = 0 := fun q => h ⟨rfl, q⟩; simp only [ent, hi, if_false] <;> rfl)
    | 11, h => rfl
    | 12, h => rfl
    | (n + 13), h => rfl
theorem u_mringN {G : Gt} {ad : Nat → Nat → Nat} {Z : Zt} {v : Nat} (hk : 0 < xn Z 0 10) : Up G ad Z (sn Z 21 0 v) 10 0 (.inr (9, (modF ad Z).set 23 (.int (nI v)))) := by
  refine ⟨?_, ?_⟩
  · exact e_mod (Z := sn Z 21 0 v) hk
  · intro o i h
    match o, h with
    | 0, h => rfl
    | 1, h => rfl
    | 2, h => rfl
    | 3, h => rfl
    | 4, h => rfl
    | 5, h => rfl
    | 6, h => rfl
    | 7, h => rfl
    | 8, h => rfl
    | 9, h => rfl
    | 10, h => (have hi : ¬ i = 0 := fun q => h ⟨rfl, q⟩; simp only [ent, hi, if_false] <;> rfl)
    | 11, h => rfl
    | 12, h => rfl
    | (n + 13), h => rfl
theorem u_m3 {G : Gt} {ad : Nat → Nat → Nat} {Z : Zt} {j : Nat} {v : Int32} (hk : 25 ≤ xn Z 0 11) : Up G ad Z (si Z 503 j v) 11 3 (inA (gI G) 40 (upd (xi Z 503) j v)) := by
  refine ⟨?_, ?_⟩
  · rw [e_m3 (show 25 ≤ xn (si Z 503 j v) 0 11 from hk)]; congr 3; funext q; by_cases hq : q = j <;> simp [upd, xi_si, hq]
  · intro o i h
    match o, h with
    | 0, h => rfl
    | 1, h => rfl
    | 2, h => rfl
    | 3, h => rfl
    | 4, h => rfl
    | 5, h => rfl
    | 6, h => rfl
    | 7, h => rfl
    | 8, h => rfl
    | 9, h => rfl
    | 10, h => rfl
    | 11, h => (have hi : ¬ i = 3 := fun q => h ⟨rfl, q⟩; match i, hi with | 0, hi => rfl | 1, hi => rfl | 2, hi => rfl | 3, hi => (exact absurd rfl hi) | 4, hi => rfl | 5, hi => rfl | 6, hi => rfl | 7, hi => rfl | 8, hi => rfl | 9, hi => rfl | 10, hi => rfl | 11, hi => rfl | 12, hi => rfl | 13, hi => rfl | 14, hi => rfl | 15, hi => rfl | 16, hi => rfl | 17, hi => rfl | 18, hi => rfl | 19, hi => rfl | 20, hi => rfl | 21, hi => rfl | 22, hi => rfl | 23, hi => rfl | 24, hi => rfl | (q + 25), hi => rfl)
    | 12, h => rfl
    | (n + 13), h => rfl
theorem u_m4 {G : Gt} {ad : Nat → Nat → Nat} {Z : Zt} {j v : Nat} (hk : 25 ≤ xn Z 0 11) : Up G ad Z (sn Z 504 j v) 11 4 (inA (gI G) 40 (upd (fun j => nI (xn Z 504 j)) j (nI v))) := by
  refine ⟨?_, ?_⟩
  · rw [e_m4 (show 25 ≤ xn (sn Z 504 j v) 0 11 from hk)]; congr 3; funext q; by_cases hq : q = j <;> simp [upd, xn_sn, hq]
  · intro o i h
    match o, h with
    | 0, h => rfl
    | 1, h => rfl
    | 2, h => rfl
    | 3, h => rfl
    | 4, h => rfl
    | 5, h => rfl
    | 6, h => rfl
    | 7, h => rfl
    | 8, h => rfl
    | 9, h => rfl
    | 10, h => rfl
    | 11, h => (have hi : ¬ i = 4 := fun q => h ⟨rfl, q⟩; match i, hi with | 0, hi => rfl | 1, hi => rfl | 2, hi => rfl | 3, hi => rfl | 4, hi => (exact absurd rfl hi) | 5, hi => rfl | 6, hi => rfl | 7, hi => rfl | 8, hi => rfl | 9, hi => rfl | 10, hi => rfl | 11, hi => rfl | 12, hi => rfl | 13, hi => rfl | 14, hi => rfl | 15, hi => rfl | 16, hi => rfl | 17, hi => rfl | 18, hi => rfl | 19, hi => rfl | 20, hi => rfl | 21, hi => rfl | 22, hi => rfl | 23, hi => rfl | 24, hi => rfl | (q + 25), hi => rfl)
    | 12, h => rfl
    | (n + 13), h => rfl
theorem u_m5 {G : Gt} {ad : Nat → Nat → Nat} {Z : Zt} {j v : Nat} (hk : 25 ≤ xn Z 0 11) : Up G ad Z (sn Z 505 j v) 11 5 (inA (gI G) 320 (upd (fun j => nI (xn Z 505 j)) j (nI v))) := by
  refine ⟨?_, ?_⟩
  · rw [e_m5 (show 25 ≤ xn (sn Z 505 j v) 0 11 from hk)]; congr 3; funext q; by_cases hq : q = j <;> simp [upd, xn_sn, hq]
  · intro o i h
    match o, h with
    | 0, h => rfl
    | 1, h => rfl
    | 2, h => rfl
    | 3, h => rfl
    | 4, h => rfl
    | 5, h => rfl
    | 6, h => rfl
    | 7, h => rfl
    | 8, h => rfl
    | 9, h => rfl
    | 10, h => rfl
    | 11, h => (have hi : ¬ i = 5 := fun q => h ⟨rfl, q⟩; match i, hi with | 0, hi => rfl | 1, hi => rfl | 2, hi => rfl | 3, hi => rfl | 4, hi => rfl | 5, hi => (exact absurd rfl hi) | 6, hi => rfl | 7, hi => rfl | 8, hi => rfl | 9, hi => rfl | 10, hi => rfl | 11, hi => rfl | 12, hi => rfl | 13, hi => rfl | 14, hi => rfl | 15, hi => rfl | 16, hi => rfl | 17, hi => rfl | 18, hi => rfl | 19, hi => rfl | 20, hi => rfl | 21, hi => rfl | 22, hi => rfl | 23, hi => rfl | 24, hi => rfl | (q + 25), hi => rfl)
    | 12, h => rfl
    | (n + 13), h => rfl
theorem u_m6 {G : Gt} {ad : Nat → Nat → Nat} {Z : Zt} {j : Nat} {v : Int32} (hk : 25 ≤ xn Z 0 11) : Up G ad Z (si Z 506 j v) 11 6 (inA (gI G) 40 (upd (xi Z 506) j v)) := by
  refine ⟨?_, ?_⟩
  · rw [e_m6 (show 25 ≤ xn (si Z 506 j v) 0 11 from hk)]; congr 3; funext q; by_cases hq : q = j <;> simp [upd, xi_si, hq]
  · intro o i h
    match o, h with
    | 0, h => rfl
    | 1, h => rfl
    | 2, h => rfl
    | 3, h => rfl
    | 4, h => rfl
    | 5, h => rfl
    | 6, h => rfl
    | 7, h => rfl
    | 8, h => rfl
    | 9, h => rfl
    | 10, h => rfl
    | 11, h => (have hi : ¬ i = 6 := fun q => h ⟨rfl, q⟩; match i, hi with | 0, hi => rfl | 1, hi => rfl | 2, hi => rfl | 3, hi => rfl | 4, hi => rfl | 5, hi => rfl | 6, hi => (exact absurd rfl hi) | 7, hi => rfl | 8, hi => rfl | 9, hi => rfl | 10, hi => rfl | 11, hi => rfl | 12, hi => rfl | 13, hi => rfl | 14, hi => rfl | 15, hi => rfl | 16, hi => rfl | 17, hi => rfl | 18, hi => rfl | 19, hi => rfl | 20, hi => rfl | 21, hi => rfl | 22, hi => rfl | 23, hi => rfl | 24, hi => rfl | (q + 25), hi => rfl)
    | 12, h => rfl
    | (n + 13), h => rfl
theorem u_m7 {G : Gt} {ad : Nat → Nat → Nat} {Z : Zt} {j : Nat} {v : Int32} (hk : 25 ≤ xn Z 0 11) : Up G ad Z (si Z 507 j v) 11 7 (inA (gI G) 40 (upd (xi Z 507) j v)) := by
  refine ⟨?_, ?_⟩
  · rw [e_m7 (show 25 ≤ xn (si Z 507 j v) 0 11 from hk)]; congr 3; funext q; by_cases hq : q = j <;> simp [upd, xi_si, hq]
  · intro o i h
    match o, h with
    | 0, h => rfl
    | 1, h => rfl
    | 2, h => rfl
    | 3, h => rfl
    | 4, h => rfl
    | 5, h => rfl
    | 6, h => rfl
    | 7, h => rfl
    | 8, h => rfl
    | 9, h => rfl
    | 10, h => rfl
    | 11, h => (have hi : ¬ i = 7 := fun q => h ⟨rfl, q⟩; match i, hi with | 0, hi => rfl | 1, hi => rfl | 2, hi => rfl | 3, hi => rfl | 4, hi => rfl | 5, hi => rfl | 6, hi => rfl | 7, hi => (exact absurd rfl hi) | 8, hi => rfl | 9, hi => rfl | 10, hi => rfl | 11, hi => rfl | 12, hi => rfl | 13, hi => rfl | 14, hi => rfl | 15, hi => rfl | 16, hi => rfl | 17, hi => rfl | 18, hi => rfl | 19, hi => rfl | 20, hi => rfl | 21, hi => rfl | 22, hi => rfl | 23, hi => rfl | 24, hi => rfl | (q + 25), hi => rfl)
    | 12, h => rfl
    | (n + 13), h => rfl
theorem u_m8 {G : Gt} {ad : Nat → Nat → Nat} {Z : Zt} {j : Nat} {v : Int32} (hk : 25 ≤ xn Z 0 11) : Up G ad Z (si Z 508 j v) 11 8 (inA (gI G) 40 (upd (xi Z 508) j v)) := by
  refine ⟨?_, ?_⟩
  · rw [e_m8 (show 25 ≤ xn (si Z 508 j v) 0 11 from hk)]; congr 3; funext q; by_cases hq : q = j <;> simp [upd, xi_si, hq]
  · intro o i h
    match o, h with
    | 0, h => rfl
    | 1, h => rfl
    | 2, h => rfl
    | 3, h => rfl
    | 4, h => rfl
    | 5, h => rfl
    | 6, h => rfl
    | 7, h => rfl
    | 8, h => rfl
    | 9, h => rfl
    | 10, h => rfl
    | 11, h => (have hi : ¬ i = 8 := fun q => h ⟨rfl, q⟩; match i, hi with | 0, hi => rfl | 1, hi => rfl | 2, hi => rfl | 3, hi => rfl | 4, hi => rfl | 5, hi => rfl | 6, hi => rfl | 7, hi => rfl | 8, hi => (exact absurd rfl hi) | 9, hi => rfl | 10, hi => rfl | 11, hi => rfl | 12, hi => rfl | 13, hi => rfl | 14, hi => rfl | 15, hi => rfl | 16, hi => rfl | 17, hi => rfl | 18, hi => rfl | 19, hi => rfl | 20, hi => rfl | 21, hi => rfl | 22, hi => rfl | 23, hi => rfl | 24, hi => rfl | (q + 25), hi => rfl)
    | 12, h => rfl
    | (n + 13), h => rfl
theorem u_m9 {G : Gt} {ad : Nat → Nat → Nat} {Z : Zt} {j : Nat} {v : Int32} (hk : 25 ≤ xn Z 0 11) : Up G ad Z (si Z 509 j v) 11 9 (inA (gI G) 40 (upd (xi Z 509) j v)) := by
  refine ⟨?_, ?_⟩
  · rw [e_m9 (show 25 ≤ xn (si Z 509 j v) 0 11 from hk)]; congr 3; funext q; by_cases hq : q = j <;> simp [upd, xi_si, hq]
  · intro o i h
    match o, h with
    | 0, h => rfl
    | 1, h => rfl
    | 2, h => rfl
    | 3, h => rfl
    | 4, h => rfl
    | 5, h => rfl
    | 6, h => rfl
    | 7, h => rfl
    | 8, h => rfl
    | 9, h => rfl
    | 10, h => rfl
    | 11, h => (have hi : ¬ i = 9 := fun q => h ⟨rfl, q⟩; match i, hi with | 0, hi => rfl | 1, hi => rfl | 2, hi => rfl | 3, hi => rfl | 4, hi => rfl | 5, hi => rfl | 6, hi => rfl | 7, hi => rfl | 8, hi => rfl | 9, hi => (exact absurd rfl hi) | 10, hi => rfl | 11, hi => rfl | 12, hi => rfl | 13, hi => rfl | 14, hi => rfl | 15, hi => rfl | 16, hi => rfl | 17, hi => rfl | 18, hi => rfl | 19, hi => rfl | 20, hi => rfl | 21, hi => rfl | 22, hi => rfl | 23, hi => rfl | 24, hi => rfl | (q + 25), hi => rfl)
    | 12, h => rfl
    | (n + 13), h => rfl
theorem u_m10 {G : Gt} {ad : Nat → Nat → Nat} {Z : Zt} {j v : Nat} (hk : 25 ≤ xn Z 0 11) : Up G ad Z (sn Z 510 j v) 11 10 (inA (gI G) 40 (upd (fun j => nI (xn Z 510 j)) j (nI v))) := by
  refine ⟨?_, ?_⟩
  · rw [e_m10 (show 25 ≤ xn (sn Z 510 j v) 0 11 from hk)]; congr 3; funext q; by_cases hq : q = j <;> simp [upd, xn_sn, hq]
  · intro o i h
    match o, h with
    | 0, h => rfl
    | 1, h => rfl
    | 2, h => rfl
    | 3, h => rfl
    | 4, h => rfl
    | 5, h => rfl
    | 6, h => rfl
    | 7, h => rfl
    | 8, h => rfl
    | 9, h => rfl
    | 10, h => rfl
    | 11, h => (have hi : ¬ i = 10 := fun q => h ⟨rfl, q⟩; match i, hi with | 0, hi => rfl | 1, hi => rfl | 2, hi => rfl | 3, hi => rfl | 4, hi => rfl | 5, hi => rfl | 6, hi => rfl | 7, hi => rfl | 8, hi => rfl | 9, hi => rfl | 10, hi => (exact absurd rfl hi) | 11, hi => rfl | 12, hi => rfl | 13, hi => rfl | 14, hi => rfl | 15, hi => rfl | 16, hi => rfl | 17, hi => rfl | 18, hi => rfl | 19, hi => rfl | 20, hi => rfl | 21, hi => rfl | 22, hi => rfl | 23, hi => rfl | 24, hi => rfl | (q + 25), hi => rfl)
    | 12, h => rfl
    | (n + 13), h => rfl
theorem u_m11 {G : Gt} {ad : Nat → Nat → Nat} {Z : Zt} {j v : Nat} (hk : 25 ≤ xn Z 0 11) : Up G ad Z (sn Z 511 j v) 11 11 (inA (gI G) 320 (upd (fun j => nI (xn Z 511 j)) j (nI v))) := by
  refine ⟨?_, ?_⟩
  · rw [e_m11 (show 25 ≤ xn (sn Z 511 j v) 0 11 from hk)]; congr 3; funext q; by_cases hq : q = j <;> simp [upd, xn_sn, hq]
  · intro o i h
    match o, h with
    | 0, h => rfl
    | 1, h => rfl
    | 2, h => rfl
    | 3, h => rfl
    | 4, h => rfl
    | 5, h => rfl
    | 6, h => rfl
    | 7, h => rfl
    | 8, h => rfl
    | 9, h => rfl
    | 10, h => rfl
    | 11, h => (have hi : ¬ i = 11 := fun q => h ⟨rfl, q⟩; match i, hi with | 0, hi => rfl | 1, hi => rfl | 2, hi => rfl | 3, hi => rfl | 4, hi => rfl | 5, hi => rfl | 6, hi => rfl | 7, hi => rfl | 8, hi => rfl | 9, hi => rfl | 10, hi => rfl | 11, hi => (exact absurd rfl hi) | 12, hi => rfl | 13, hi => rfl | 14, hi => rfl | 15, hi => rfl | 16, hi => rfl | 17, hi => rfl | 18, hi => rfl | 19, hi => rfl | 20, hi => rfl | 21, hi => rfl | 22, hi => rfl | 23, hi => rfl | 24, hi => rfl | (q + 25), hi => rfl)
    | 12, h => rfl
    | (n + 13), h => rfl
theorem u_m12 {G : Gt} {ad : Nat → Nat → Nat} {Z : Zt} {j : Nat} {v : Int32} (hk : 25 ≤ xn Z 0 11) : Up G ad Z (si Z 512 j v) 11 12 (inA (gI G) 40 (upd (xi Z 512) j v)) := by
  refine ⟨?_, ?_⟩
  · rw [e_m12 (show 25 ≤ xn (si Z 512 j v) 0 11 from hk)]; congr 3; funext q; by_cases hq : q = j <;> simp [upd, xi_si, hq]
  · intro o i h
    match o, h with
    | 0, h => rfl
    | 1, h => rfl
    | 2, h => rfl
    | 3, h => rfl
    | 4, h => rfl
    | 5, h => rfl
    | 6, h => rfl
    | 7, h => rfl
    | 8, h => rfl
    | 9, h => rfl
    | 10, h => rfl
    | 11, h => (have hi : ¬ i = 12 := fun q => h ⟨rfl, q⟩; match i, hi with | 0, hi => rfl | 1, hi => rfl | 2, hi => rfl | 3, hi => rfl | 4, hi => rfl | 5, hi => rfl | 6, hi => rfl | 7, hi => rfl | 8, hi => rfl | 9, hi => rfl | 10, hi => rfl | 11, hi => rfl | 12, hi => (exact absurd rfl hi) | 13, hi => rfl | 14, hi => rfl | 15, hi => rfl | 16, hi => rfl | 17, hi => rfl | 18, hi => rfl | 19, hi => rfl | 20, hi => rfl | 21, hi => rfl | 22, hi => rfl | 23, hi => rfl | 24, hi => rfl | (q + 25), hi => rfl)
    | 12, h => rfl
    | (n + 13), h => rfl
theorem u_m13 {G : Gt} {ad : Nat → Nat → Nat} {Z : Zt} {j : Nat} {v : Int32} (hk : 25 ≤ xn Z 0 11) : Up G ad Z (si Z 513 j v) 11 13 (inA (gI G) 40 (upd (xi Z 513) j v)) := by
  refine ⟨?_, ?_⟩
  · rw [e_m13 (show 25 ≤ xn (si Z 513 j v) 0 11 from hk)]; congr 3; funext q; by_cases hq : q = j <;> simp [upd, xi_si, hq]
  · intro o i h
    match o, h with
    | 0, h => rfl
    | 1, h => rfl
    | 2, h => rfl
    | 3, h => rfl
    | 4, h => rfl
    | 5, h => rfl
    | 6, h => rfl
    | 7, h => rfl
    | 8, h => rfl
    | 9, h => rfl
    | 10, h => rfl
    | 11, h => (have hi : ¬ i = 13 := fun q => h ⟨rfl, q⟩; match i, hi with | 0, hi => rfl | 1, hi => rfl | 2, hi => rfl | 3, hi => rfl | 4, hi => rfl | 5, hi => rfl | 6, hi => rfl | 7, hi => rfl | 8, hi => rfl | 9, hi => rfl | 10, hi => rfl | 11, hi => rfl | 12, hi => rfl | 13, hi => (exact absurd rfl hi) | 14, hi => rfl | 15, hi => rfl | 16, hi => rfl | 17, hi => rfl | 18, hi => rfl | 19, hi => rfl | 20, hi => rfl | 21, hi => rfl | 22, hi => rfl | 23, hi => rfl | 24, hi => rfl | (q + 25), hi => rfl)
    | 12, h => rfl
    | (n + 13), h => rfl
theorem u_m14 {G : Gt} {ad : Nat → Nat → Nat} {Z : Zt} {j : Nat} {v : Int64} (hk : 25 ≤ xn Z 0 11) : Up G ad Z (sl Z 514 j v) 11 14 (lnA (gL G) 40 (vp_updL (xl Z 514) j v)) := by
  refine ⟨?_, ?_⟩
  · rw [e_m14 (show 25 ≤ xn (sl Z 514 j v) 0 11 from hk)]; congr 4; funext q; by_cases hq : q = j <;> simp [vp_updL, xl_sl, hq]
  · intro o i h
    match o, h with
    | 0, h => rfl
    | 1, h => rfl
    | 2, h => rfl
    | 3, h => rfl
    | 4, h => rfl
    | 5, h => rfl
    | 6, h => rfl
    | 7, h => rfl
    | 8, h => rfl
    | 9, h => rfl
    | 10, h => rfl
    | 11, h => (have hi : ¬ i = 14 := fun q => h ⟨rfl, q⟩; match i, hi with | 0, hi => rfl | 1, hi => rfl | 2, hi => rfl | 3, hi => rfl | 4, hi => rfl | 5, hi => rfl | 6, hi => rfl | 7, hi => rfl | 8, hi => rfl | 9, hi => rfl | 10, hi => rfl | 11, hi => rfl | 12, hi => rfl | 13, hi => rfl | 14, hi => (exact absurd rfl hi) | 15, hi => rfl | 16, hi => rfl | 17, hi => rfl | 18, hi => rfl | 19, hi => rfl | 20, hi => rfl | 21, hi => rfl | 22, hi => rfl | 23, hi => rfl | 24, hi => rfl | (q + 25), hi => rfl)
    | 12, h => rfl
    | (n + 13), h => rfl
theorem u_m15 {G : Gt} {ad : Nat → Nat → Nat} {Z : Zt} {j : Nat} {v : Int32} (hk : 25 ≤ xn Z 0 11) : Up G ad Z (si Z 515 j v) 11 15 (inA (gZ G) 40 (upd (xi Z 515) j v)) := by
  refine ⟨?_, ?_⟩
  · rw [e_m15 (show 25 ≤ xn (si Z 515 j v) 0 11 from hk)]; congr 3; funext q; by_cases hq : q = j <;> simp [upd, xi_si, hq]
  · intro o i h
    match o, h with
    | 0, h => rfl
    | 1, h => rfl
    | 2, h => rfl
    | 3, h => rfl
    | 4, h => rfl
    | 5, h => rfl
    | 6, h => rfl
    | 7, h => rfl
    | 8, h => rfl
    | 9, h => rfl
    | 10, h => rfl
    | 11, h => (have hi : ¬ i = 15 := fun q => h ⟨rfl, q⟩; match i, hi with | 0, hi => rfl | 1, hi => rfl | 2, hi => rfl | 3, hi => rfl | 4, hi => rfl | 5, hi => rfl | 6, hi => rfl | 7, hi => rfl | 8, hi => rfl | 9, hi => rfl | 10, hi => rfl | 11, hi => rfl | 12, hi => rfl | 13, hi => rfl | 14, hi => rfl | 15, hi => (exact absurd rfl hi) | 16, hi => rfl | 17, hi => rfl | 18, hi => rfl | 19, hi => rfl | 20, hi => rfl | 21, hi => rfl | 22, hi => rfl | 23, hi => rfl | 24, hi => rfl | (q + 25), hi => rfl)
    | 12, h => rfl
    | (n + 13), h => rfl
theorem u_m16 {G : Gt} {ad : Nat → Nat → Nat} {Z : Zt} {j : Nat} {v : Int32} (hk : 25 ≤ xn Z 0 11) : Up G ad Z (si Z 516 j v) 11 16 (inA (gZ G) 40 (upd (xi Z 516) j v)) := by
  refine ⟨?_, ?_⟩
  · rw [e_m16 (show 25 ≤ xn (si Z 516 j v) 0 11 from hk)]; congr 3; funext q; by_cases hq : q = j <;> simp [upd, xi_si, hq]
  · intro o i h
    match o, h with
    | 0, h => rfl
    | 1, h => rfl
    | 2, h => rfl
    | 3, h => rfl
    | 4, h => rfl
    | 5, h => rfl
    | 6, h => rfl
    | 7, h => rfl
    | 8, h => rfl
    | 9, h => rfl
    | 10, h => rfl
    | 11, h => (have hi : ¬ i = 16 := fun q => h ⟨rfl, q⟩; match i, hi with | 0, hi => rfl | 1, hi => rfl | 2, hi => rfl | 3, hi => rfl | 4, hi => rfl | 5, hi => rfl | 6, hi => rfl | 7, hi => rfl | 8, hi => rfl | 9, hi => rfl | 10, hi => rfl | 11, hi => rfl | 12, hi => rfl | 13, hi => rfl | 14, hi => rfl | 15, hi => rfl | 16, hi => (exact absurd rfl hi) | 17, hi => rfl | 18, hi => rfl | 19, hi => rfl | 20, hi => rfl | 21, hi => rfl | 22, hi => rfl | 23, hi => rfl | 24, hi => rfl | (q + 25), hi => rfl)
    | 12, h => rfl
    | (n + 13), h => rfl
theorem u_m17 {G : Gt} {ad : Nat → Nat → Nat} {Z : Zt} {j v : Nat} (hk : 25 ≤ xn Z 0 11) : Up G ad Z (sn Z 517 j v) 11 17 (inA (gI G) 5 (upd (fun j => nI (xn Z 517 j)) j (nI v))) := by
  refine ⟨?_, ?_⟩
  · rw [e_m17 (show 25 ≤ xn (sn Z 517 j v) 0 11 from hk)]; congr 3; funext q; by_cases hq : q = j <;> simp [upd, xn_sn, hq]
  · intro o i h
    match o, h with
    | 0, h => rfl
    | 1, h => rfl
    | 2, h => rfl
    | 3, h => rfl
    | 4, h => rfl
    | 5, h => rfl
    | 6, h => rfl
    | 7, h => rfl
    | 8, h => rfl
    | 9, h => rfl
    | 10, h => rfl
    | 11, h => (have hi : ¬ i = 17 := fun q => h ⟨rfl, q⟩; match i, hi with | 0, hi => rfl | 1, hi => rfl | 2, hi => rfl | 3, hi => rfl | 4, hi => rfl | 5, hi => rfl | 6, hi => rfl | 7, hi => rfl | 8, hi => rfl | 9, hi => rfl | 10, hi => rfl | 11, hi => rfl | 12, hi => rfl | 13, hi => rfl | 14, hi => rfl | 15, hi => rfl | 16, hi => rfl | 17, hi => (exact absurd rfl hi) | 18, hi => rfl | 19, hi => rfl | 20, hi => rfl | 21, hi => rfl | 22, hi => rfl | 23, hi => rfl | 24, hi => rfl | (q + 25), hi => rfl)
    | 12, h => rfl
    | (n + 13), h => rfl
theorem u_m18 {G : Gt} {ad : Nat → Nat → Nat} {Z : Zt} {j v : Nat} (hk : 25 ≤ xn Z 0 11) : Up G ad Z (sn Z 518 j v) 11 18 (inA (gI G) 200 (upd (fun j => nI (xn Z 518 j)) j (nI v))) := by
  refine ⟨?_, ?_⟩
  · rw [e_m18 (show 25 ≤ xn (sn Z 518 j v) 0 11 from hk)]; congr 3; funext q; by_cases hq : q = j <;> simp [upd, xn_sn, hq]
  · intro o i h
    match o, h with
    | 0, h => rfl
    | 1, h => rfl
    | 2, h => rfl
    | 3, h => rfl
    | 4, h => rfl
    | 5, h => rfl
    | 6, h => rfl
    | 7, h => rfl
    | 8, h => rfl
    | 9, h => rfl
    | 10, h => rfl
    | 11, h => (have hi : ¬ i = 18 := fun q => h ⟨rfl, q⟩; match i, hi with | 0, hi => rfl | 1, hi => rfl | 2, hi => rfl | 3, hi => rfl | 4, hi => rfl | 5, hi => rfl | 6, hi => rfl | 7, hi => rfl | 8, hi => rfl | 9, hi => rfl | 10, hi => rfl | 11, hi => rfl | 12, hi => rfl | 13, hi => rfl | 14, hi => rfl | 15, hi => rfl | 16, hi => rfl | 17, hi => rfl | 18, hi => (exact absurd rfl hi) | 19, hi => rfl | 20, hi => rfl | 21, hi => rfl | 22, hi => rfl | 23, hi => rfl | 24, hi => rfl | (q + 25), hi => rfl)
    | 12, h => rfl
    | (n + 13), h => rfl
theorem u_m19 {G : Gt} {ad : Nat → Nat → Nat} {Z : Zt} {j v : Nat} (hk : 25 ≤ xn Z 0 11) : Up G ad Z (sn Z 519 j v) 11 19 (inA (gI G) 200 (upd (fun j => nI (xn Z 519 j)) j (nI v))) := by
  refine ⟨?_, ?_⟩
  · rw [e_m19 (show 25 ≤ xn (sn Z 519 j v) 0 11 from hk)]; congr 3; funext q; by_cases hq : q = j <;> simp [upd, xn_sn, hq]
  · intro o i h
    match o, h with
    | 0, h => rfl
    | 1, h => rfl
    | 2, h => rfl
    | 3, h => rfl
    | 4, h => rfl
    | 5, h => rfl
    | 6, h => rfl
    | 7, h => rfl
    | 8, h => rfl
    | 9, h => rfl
    | 10, h => rfl
    | 11, h => (have hi : ¬ i = 19 := fun q => h ⟨rfl, q⟩; match i, hi with | 0, hi => rfl | 1, hi => rfl | 2, hi => rfl | 3, hi => rfl | 4, hi => rfl | 5, hi => rfl | 6, hi => rfl | 7, hi => rfl | 8, hi => rfl | 9, hi => rfl | 10, hi => rfl | 11, hi => rfl | 12, hi => rfl | 13, hi => rfl | 14, hi => rfl | 15, hi => rfl | 16, hi => rfl | 17, hi => rfl | 18, hi => rfl | 19, hi => (exact absurd rfl hi) | 20, hi => rfl | 21, hi => rfl | 22, hi => rfl | 23, hi => rfl | 24, hi => rfl | (q + 25), hi => rfl)
    | 12, h => rfl
    | (n + 13), h => rfl
theorem u_m20 {G : Gt} {ad : Nat → Nat → Nat} {Z : Zt} {j v : Nat} (hk : 25 ≤ xn Z 0 11) : Up G ad Z (sn Z 520 j v) 11 20 (inA (gI G) 1600 (upd (fun j => nI (xn Z 520 j)) j (nI v))) := by
  refine ⟨?_, ?_⟩
  · rw [e_m20 (show 25 ≤ xn (sn Z 520 j v) 0 11 from hk)]; congr 3; funext q; by_cases hq : q = j <;> simp [upd, xn_sn, hq]
  · intro o i h
    match o, h with
    | 0, h => rfl
    | 1, h => rfl
    | 2, h => rfl
    | 3, h => rfl
    | 4, h => rfl
    | 5, h => rfl
    | 6, h => rfl
    | 7, h => rfl
    | 8, h => rfl
    | 9, h => rfl
    | 10, h => rfl
    | 11, h => (have hi : ¬ i = 20 := fun q => h ⟨rfl, q⟩; match i, hi with | 0, hi => rfl | 1, hi => rfl | 2, hi => rfl | 3, hi => rfl | 4, hi => rfl | 5, hi => rfl | 6, hi => rfl | 7, hi => rfl | 8, hi => rfl | 9, hi => rfl | 10, hi => rfl | 11, hi => rfl | 12, hi => rfl | 13, hi => rfl | 14, hi => rfl | 15, hi => rfl | 16, hi => rfl | 17, hi => rfl | 18, hi => rfl | 19, hi => rfl | 20, hi => (exact absurd rfl hi) | 21, hi => rfl | 22, hi => rfl | 23, hi => rfl | 24, hi => rfl | (q + 25), hi => rfl)
    | 12, h => rfl
    | (n + 13), h => rfl
theorem u_m21 {G : Gt} {ad : Nat → Nat → Nat} {Z : Zt} {j : Nat} {v : Int32} (hk : 25 ≤ xn Z 0 11) : Up G ad Z (si Z 521 j v) 11 21 (inA (gZ G) 200 (upd (xi Z 521) j v)) := by
  refine ⟨?_, ?_⟩
  · rw [e_m21 (show 25 ≤ xn (si Z 521 j v) 0 11 from hk)]; congr 3; funext q; by_cases hq : q = j <;> simp [upd, xi_si, hq]
  · intro o i h
    match o, h with
    | 0, h => rfl
    | 1, h => rfl
    | 2, h => rfl
    | 3, h => rfl
    | 4, h => rfl
    | 5, h => rfl
    | 6, h => rfl
    | 7, h => rfl
    | 8, h => rfl
    | 9, h => rfl
    | 10, h => rfl
    | 11, h => (have hi : ¬ i = 21 := fun q => h ⟨rfl, q⟩; match i, hi with | 0, hi => rfl | 1, hi => rfl | 2, hi => rfl | 3, hi => rfl | 4, hi => rfl | 5, hi => rfl | 6, hi => rfl | 7, hi => rfl | 8, hi => rfl | 9, hi => rfl | 10, hi => rfl | 11, hi => rfl | 12, hi => rfl | 13, hi => rfl | 14, hi => rfl | 15, hi => rfl | 16, hi => rfl | 17, hi => rfl | 18, hi => rfl | 19, hi => rfl | 20, hi => rfl | 21, hi => (exact absurd rfl hi) | 22, hi => rfl | 23, hi => rfl | 24, hi => rfl | (q + 25), hi => rfl)
    | 12, h => rfl
    | (n + 13), h => rfl
theorem u_m22 {G : Gt} {ad : Nat → Nat → Nat} {Z : Zt} {j v : Nat} (hk : 25 ≤ xn Z 0 11) : Up G ad Z (sn Z 522 j v) 11 22 (inA (gI G) 40 (upd (fun j => nI (xn Z 522 j)) j (nI v))) := by
  refine ⟨?_, ?_⟩
  · rw [e_m22 (show 25 ≤ xn (sn Z 522 j v) 0 11 from hk)]; congr 3; funext q; by_cases hq : q = j <;> simp [upd, xn_sn, hq]
  · intro o i h
    match o, h with
    | 0, h => rfl
    | 1, h => rfl
    | 2, h => rfl
    | 3, h => rfl
    | 4, h => rfl
    | 5, h => rfl
    | 6, h => rfl
    | 7, h => rfl
    | 8, h => rfl
    | 9, h => rfl
    | 10, h => rfl
    | 11, h => (have hi : ¬ i = 22 := fun q => h ⟨rfl, q⟩; match i, hi with | 0, hi => rfl | 1, hi => rfl | 2, hi => rfl | 3, hi => rfl | 4, hi => rfl | 5, hi => rfl | 6, hi => rfl | 7, hi => rfl | 8, hi => rfl | 9, hi => rfl | 10, hi => rfl | 11, hi => rfl | 12, hi => rfl | 13, hi => rfl | 14, hi => rfl | 15, hi => rfl | 16, hi => rfl | 17, hi => rfl | 18, hi => rfl | 19, hi => rfl | 20, hi => rfl | 21, hi => rfl | 22, hi => (exact absurd rfl hi) | 23, hi => rfl | 24, hi => rfl | (q + 25), hi => rfl)
    | 12, h => rfl
    | (n + 13), h => rfl
theorem u_m24 {G : Gt} {ad : Nat → Nat → Nat} {Z : Zt} {j : Nat} {v : Int32} (hk : 25 ≤ xn Z 0 11) : Up G ad Z (si Z 524 j v) 11 24 (inA (gZ G) 40 (upd (xi Z 524) j v)) := by
  refine ⟨?_, ?_⟩
  · rw [e_m24 (show 25 ≤ xn (si Z 524 j v) 0 11 from hk)]; congr 3; funext q; by_cases hq : q = j <;> simp [upd, xi_si, hq]
  · intro o i h
    match o, h with
    | 0, h => rfl
    | 1, h => rfl
    | 2, h => rfl
    | 3, h => rfl
    | 4, h => rfl
    | 5, h => rfl
    | 6, h => rfl
    | 7, h => rfl
    | 8, h => rfl
    | 9, h => rfl
    | 10, h => rfl
    | 11, h => (have hi : ¬ i = 24 := fun q => h ⟨rfl, q⟩; match i, hi with | 0, hi => rfl | 1, hi => rfl | 2, hi => rfl | 3, hi => rfl | 4, hi => rfl | 5, hi => rfl | 6, hi => rfl | 7, hi => rfl | 8, hi => rfl | 9, hi => rfl | 10, hi => rfl | 11, hi => rfl | 12, hi => rfl | 13, hi => rfl | 14, hi => rfl | 15, hi => rfl | 16, hi => rfl | 17, hi => rfl | 18, hi => rfl | 19, hi => rfl | 20, hi => rfl | 21, hi => rfl | 22, hi => rfl | 23, hi => rfl | 24, hi => (exact absurd rfl hi) | (q + 25), hi => rfl)
    | 12, h => rfl
    | (n + 13), h => rfl
theorem u_psz {G : Gt} {ad : Nat → Nat → Nat} {Z : Zt} {k v : Nat} (hk : k < xn Z 0 6) : Up G ad Z (sn Z 9 k v) 6 k (.inr (7, ([.ref (ad 7 k), .int (nI (xn Z 9 k))] : List Value).set 1 (.int (nI v)))) := by
  refine ⟨?_, ?_⟩
  · rw [e_pile (show k < xn (sn Z 9 k v) 0 6 from hk)]; simp [xi_si, xi_sl, xi_sn, xi_sc, xl_si, xl_sl, xl_sn, xl_sc, xn_si, xn_sl, xn_sn, xn_sc, xc_si, xc_sl, xc_sn, xc_sc] <;> rfl
  · intro o i h
    match o, h with
    | 0, h => rfl
    | 1, h => rfl
    | 2, h => rfl
    | 3, h => rfl
    | 4, h => rfl
    | 5, h => rfl
    | 6, h => (have hi : ¬ i = k := fun q => h ⟨rfl, q⟩; simp only [ent, hi, hi, and_false, if_false, xi_si, xi_sl, xi_sn, xi_sc, xl_si, xl_sl, xl_sn, xl_sc, xn_si, xn_sl, xn_sn, xn_sc, xc_si, xc_sl, xc_sn, xc_sc] <;> rfl)
    | 7, h => rfl
    | 8, h => rfl
    | 9, h => rfl
    | 10, h => rfl
    | 11, h => rfl
    | 12, h => rfl
    | (n + 13), h => rfl
theorem u_pka {G : Gt} {ad : Nat → Nat → Nat} {Z : Zt} {k j q : Nat} (hk : k < xn Z 0 7) : Up G ad Z (sc Z 7 k j (q + 1)) 7 k (rfA (gK G) 40 (va_up (pileA ad Z k) j (some (ad 1 q)))) := by
  refine ⟨?_, ?_⟩
  · rw [e_pka (show k < xn (sc Z 7 k j (q + 1)) 0 7 from hk)]; congr 6; funext r; by_cases hr : r = j <;> simp [va_up, pileA, xc_sc, hr]
  · intro o i h
    match o, h with
    | 0, h => rfl
    | 1, h => rfl
    | 2, h => rfl
    | 3, h => rfl
    | 4, h => rfl
    | 5, h => rfl
    | 6, h => rfl
    | 7, h => (have hi : ¬ i = k := fun q => h ⟨rfl, q⟩; have e : pileA ad (sc Z 7 k j (q + 1)) i = pileA ad Z i := (by funext r; simp [pileA, xc_sc, hi]); simp only [ent, e, xn_sc])
    | 8, h => rfl
    | 9, h => rfl
    | 10, h => rfl
    | 11, h => rfl
    | 12, h => rfl
    | (n + 13), h => rfl
theorem u_arr {G : Gt} {ad : Nat → Nat → Nat} {Z : Zt} {k j v : Nat} (hk : k < xn Z 0 5) : Up G ad Z (sc Z 5 k j v) 5 k (inA (gI G) 8 (upd (fun j => nI (xc Z 5 k j)) j (nI v))) := by
  refine ⟨?_, ?_⟩
  · rw [e_arr (show k < xn (sc Z 5 k j v) 0 5 from hk)]; congr 3; funext r; by_cases hr : r = j <;> simp [upd, xc_sc, hr]
  · intro o i h
    match o, h with
    | 0, h => rfl
    | 1, h => rfl
    | 2, h => rfl
    | 3, h => rfl
    | 4, h => rfl
    | 5, h => (have hi : ¬ i = k := fun q => h ⟨rfl, q⟩; simp only [ent, hi, false_and, hi, and_false, if_false, xi_si, xi_sl, xi_sn, xi_sc, xl_si, xl_sl, xl_sn, xl_sc, xn_si, xn_sl, xn_sn, xn_sc, xc_si, xc_sl, xc_sn, xc_sc] <;> rfl)
    | 6, h => rfl
    | 7, h => rfl
    | 8, h => rfl
    | 9, h => rfl
    | 10, h => rfl
    | 11, h => rfl
    | 12, h => rfl
    | (n + 13), h => rfl
theorem u_modc {G : Gt} {ad : Nat → Nat → Nat} {Z : Zt} {k : Nat} {v : Int32} (hk : k < xn Z 0 3) : Up G ad Z (si Z 16 k v) 3 k (.inr (8, (listF G ad Z k).set 0 (.int v))) := by
  refine ⟨?_, ?_⟩
  · rw [e_list (show k < xn (si Z 16 k v) 0 3 from hk)]; simp [xi_si, xi_sl, xi_sn, xi_sc, xl_si, xl_sl, xl_sn, xl_sc, xn_si, xn_sl, xn_sn, xn_sc, xc_si, xc_sl, xc_sn, xc_sc] <;> rfl
  · intro o i h
    match o, h with
    | 0, h => rfl
    | 1, h => rfl
    | 2, h => rfl
    | 3, h => (have hi : ¬ i = k := fun q => h ⟨rfl, q⟩; simp only [ent, listF, hi, hi, and_false, if_false, xi_si, xi_sl, xi_sn, xi_sc, xl_si, xl_sl, xl_sn, xl_sc, xn_si, xn_sl, xn_sn, xn_sc, xc_si, xc_sl, xc_sn, xc_sc] <;> rfl)
    | 4, h => rfl
    | 5, h => rfl
    | 6, h => rfl
    | 7, h => rfl
    | 8, h => rfl
    | 9, h => rfl
    | 10, h => rfl
    | 11, h => rfl
    | 12, h => rfl
    | (n + 13), h => rfl
theorem u_lsz {G : Gt} {ad : Nat → Nat → Nat} {Z : Zt} {k v : Nat} (hk : k < xn Z 0 3) : Up G ad Z (sn Z 2 k v) 3 k (.inr (8, (listF G ad Z k).set 2 (.int (nI v)))) := by
  refine ⟨?_, ?_⟩
  · rw [e_list (show k < xn (sn Z 2 k v) 0 3 from hk)]; simp [xi_si, xi_sl, xi_sn, xi_sc, xl_si, xl_sl, xl_sn, xl_sc, xn_si, xn_sl, xn_sn, xn_sc, xc_si, xc_sl, xc_sn, xc_sc] <;> rfl
  · intro o i h
    match o, h with
    | 0, h => rfl
    | 1, h => rfl
    | 2, h => rfl
    | 3, h => (have hi : ¬ i = k := fun q => h ⟨rfl, q⟩; simp only [ent, listF, hi, hi, and_false, if_false, xi_si, xi_sl, xi_sn, xi_sc, xl_si, xl_sl, xl_sn, xl_sc, xn_si, xn_sl, xn_sn, xn_sc, xc_si, xc_sl, xc_sn, xc_sc] <;> rfl)
    | 4, h => rfl
    | 5, h => rfl
    | 6, h => rfl
    | 7, h => rfl
    | 8, h => rfl
    | 9, h => rfl
    | 10, h => rfl
    | 11, h => rfl
    | 12, h => rfl
    | (n + 13), h => rfl
theorem u_elem {G : Gt} {ad : Nat → Nat → Nat} {Z : Zt} {k j q : Nat} (hk : k < xn Z 0 4) (hc : xn Z 3 k ≠ 0) : Up G ad Z (sc Z 4 k j (q + 1)) 4 k (rfA (gO G) (xn Z 3 k) (va_up (elemF ad Z k) j (some (ad 1 q)))) := by
  refine ⟨?_, ?_⟩
  · have e : elemF ad (sc Z 4 k j (q + 1)) k = va_up (elemF ad Z k) j (some (ad 1 q)) := (by funext r; by_cases hr : r = j <;> simp [va_up, elemF, xc_sc, hr]); rw [e_elem (show k < xn (sc Z 4 k j (q + 1)) 0 4 from hk) (show xn (sc Z 4 k j (q + 1)) 3 k ≠ 0 from hc), e]; rfl
  · intro o i h
    match o, h with
    | 0, h => rfl
    | 1, h => rfl
    | 2, h => rfl
    | 3, h => rfl
    | 4, h => (have hi : ¬ i = k := fun q => h ⟨rfl, q⟩; have e : elemF ad (sc Z 4 k j (q + 1)) i = elemF ad Z i := (by funext r; simp [elemF, xc_sc, hi]); simp only [ent, e, xn_sc])
    | 5, h => rfl
    | 6, h => rfl
    | 7, h => rfl
    | 8, h => rfl
    | 9, h => rfl
    | 10, h => rfl
    | 11, h => rfl
    | 12, h => rfl
    | (n + 13), h => rfl
theorem u_elemN {G : Gt} {ad : Nat → Nat → Nat} {Z : Zt} {k j : Nat} (hk : k < xn Z 0 4) (hc : xn Z 3 k ≠ 0) : Up G ad Z (sc Z 4 k j 0) 4 k (rfA (gO G) (xn Z 3 k) (va_up (elemF ad Z k) j none)) := by
  refine ⟨?_, ?_⟩
  · have e : elemF ad (sc Z 4 k j 0) k = va_up (elemF ad Z k) j none := (by funext r; by_cases hr : r = j <;> simp [va_up, elemF, xc_sc, hr]); rw [e_elem (show k < xn (sc Z 4 k j 0) 0 4 from hk) (show xn (sc Z 4 k j 0) 3 k ≠ 0 from hc), e]; rfl
  · intro o i h
    match o, h with
    | 0, h => rfl
    | 1, h => rfl
    | 2, h => rfl
    | 3, h => rfl
    | 4, h => (have hi : ¬ i = k := fun q => h ⟨rfl, q⟩; have e : elemF ad (sc Z 4 k j 0) i = elemF ad Z i := (by funext r; simp [elemF, xc_sc, hi]); simp only [ent, e, xn_sc])
    | 5, h => rfl
    | 6, h => rfl
    | 7, h => rfl
    | 8, h => rfl
    | 9, h => rfl
    | 10, h => rfl
    | 11, h => rfl
    | 12, h => rfl
    | (n + 13), h => rfl
theorem e_f0 {G : Gt} {ad : Nat → Nat → Nat} {Z : Zt} {k : Nat} (h : k < xn Z 0 2) (hk : xn Z 1 k = 0) : ent G ad Z 2 k = some (.inr (2, [.int (xi Z 10 k), .int (xi Z 11 k), .long (xl Z 2 k), .int (xi Z 12 k), .int 0])) := by
  rw [e_fn h]; unfold fnE; rw [hk]; rfl
theorem u_f0_many {G : Gt} {ad : Nat → Nat → Nat} {Z : Zt} {k : Nat} {v : Int32} (hq : k < xn Z 0 2) (hk : xn Z 1 k = 0) : Up G ad Z (si Z 10 k v) 2 k (.inr (2, ([.int (xi Z 10 k), .int (xi Z 11 k), .long (xl Z 2 k), .int (xi Z 12 k), .int 0] : List Value).set 0 (.int v))) := by
  refine ⟨?_, ?_⟩
  · rw [e_f0 (show k < xn (si Z 10 k v) 0 2 from hq) (show xn (si Z 10 k v) 1 k = 0 from hk)]; simp [xi_si, xi_sl, xi_sn, xi_sc, xl_si, xl_sl, xl_sn, xl_sc, xn_si, xn_sl, xn_sn, xn_sc, xc_si, xc_sl, xc_sn, xc_sc]
  · intro o i h
    match o, h with
    | 0, h => rfl
    | 1, h => rfl
    | 2, h => (have hi : ¬ i = k := fun q => h ⟨rfl, q⟩; simp only [ent, fnE, fnF, hi, and_false, if_false, xi_si, xi_sl, xi_sn, xi_sc, xl_si, xl_sl, xl_sn, xl_sc, xn_si, xn_sl, xn_sn, xn_sc, xc_si, xc_sl, xc_sn, xc_sc] <;> rfl)
    | 3, h => rfl
    | 4, h => rfl
    | 5, h => rfl
    | 6, h => rfl
    | 7, h => rfl
    | 8, h => rfl
    | 9, h => rfl
    | 10, h => rfl
    | 11, h => rfl
    | 12, h => rfl
    | (n + 13), h => rfl
theorem u_f0_place {G : Gt} {ad : Nat → Nat → Nat} {Z : Zt} {k : Nat} {v : Int32} (hq : k < xn Z 0 2) (hk : xn Z 1 k = 0) : Up G ad Z (si Z 11 k v) 2 k (.inr (2, ([.int (xi Z 10 k), .int (xi Z 11 k), .long (xl Z 2 k), .int (xi Z 12 k), .int 0] : List Value).set 1 (.int v))) := by
  refine ⟨?_, ?_⟩
  · rw [e_f0 (show k < xn (si Z 11 k v) 0 2 from hq) (show xn (si Z 11 k v) 1 k = 0 from hk)]; simp [xi_si, xi_sl, xi_sn, xi_sc, xl_si, xl_sl, xl_sn, xl_sc, xn_si, xn_sl, xn_sn, xn_sc, xc_si, xc_sl, xc_sn, xc_sc]
  · intro o i h
    match o, h with
    | 0, h => rfl
    | 1, h => rfl
    | 2, h => (have hi : ¬ i = k := fun q => h ⟨rfl, q⟩; simp only [ent, fnE, fnF, hi, and_false, if_false, xi_si, xi_sl, xi_sn, xi_sc, xl_si, xl_sl, xl_sn, xl_sc, xn_si, xn_sl, xn_sn, xn_sc, xc_si, xc_sl, xc_sn, xc_sc] <;> rfl)
    | 3, h => rfl
    | 4, h => rfl
    | 5, h => rfl
    | 6, h => rfl
    | 7, h => rfl
    | 8, h => rfl
    | 9, h => rfl
    | 10, h => rfl
    | 11, h => rfl
    | 12, h => rfl
    | (n + 13), h => rfl
theorem u_f0_fv {G : Gt} {ad : Nat → Nat → Nat} {Z : Zt} {k : Nat} {v : Int64} (hq : k < xn Z 0 2) (hk : xn Z 1 k = 0) : Up G ad Z (sl Z 2 k v) 2 k (.inr (2, ([.int (xi Z 10 k), .int (xi Z 11 k), .long (xl Z 2 k), .int (xi Z 12 k), .int 0] : List Value).set 2 (.long v))) := by
  refine ⟨?_, ?_⟩
  · rw [e_f0 (show k < xn (sl Z 2 k v) 0 2 from hq) (show xn (sl Z 2 k v) 1 k = 0 from hk)]; simp [xi_si, xi_sl, xi_sn, xi_sc, xl_si, xl_sl, xl_sn, xl_sc, xn_si, xn_sl, xn_sn, xn_sc, xc_si, xc_sl, xc_sn, xc_sc]
  · intro o i h
    match o, h with
    | 0, h => rfl
    | 1, h => rfl
    | 2, h => (have hi : ¬ i = k := fun q => h ⟨rfl, q⟩; simp only [ent, fnE, fnF, hi, and_false, if_false, xi_si, xi_sl, xi_sn, xi_sc, xl_si, xl_sl, xl_sn, xl_sc, xn_si, xn_sl, xn_sn, xn_sc, xc_si, xc_sl, xc_sn, xc_sc] <;> rfl)
    | 3, h => rfl
    | 4, h => rfl
    | 5, h => rfl
    | 6, h => rfl
    | 7, h => rfl
    | 8, h => rfl
    | 9, h => rfl
    | 10, h => rfl
    | 11, h => rfl
    | 12, h => rfl
    | (n + 13), h => rfl
theorem u_f0_failed {G : Gt} {ad : Nat → Nat → Nat} {Z : Zt} {k : Nat} {v : Int32} (hq : k < xn Z 0 2) (hk : xn Z 1 k = 0) : Up G ad Z (si Z 12 k v) 2 k (.inr (2, ([.int (xi Z 10 k), .int (xi Z 11 k), .long (xl Z 2 k), .int (xi Z 12 k), .int 0] : List Value).set 3 (.int v))) := by
  refine ⟨?_, ?_⟩
  · rw [e_f0 (show k < xn (si Z 12 k v) 0 2 from hq) (show xn (si Z 12 k v) 1 k = 0 from hk)]; simp [xi_si, xi_sl, xi_sn, xi_sc, xl_si, xl_sl, xl_sn, xl_sc, xn_si, xn_sl, xn_sn, xn_sc, xc_si, xc_sl, xc_sn, xc_sc]
  · intro o i h
    match o, h with
    | 0, h => rfl
    | 1, h => rfl
    | 2, h => (have hi : ¬ i = k := fun q => h ⟨rfl, q⟩; simp only [ent, fnE, fnF, hi, and_false, if_false, xi_si, xi_sl, xi_sn, xi_sc, xl_si, xl_sl, xl_sn, xl_sc, xn_si, xn_sl, xn_sn, xn_sc, xc_si, xc_sl, xc_sn, xc_sc] <;> rfl)
    | 3, h => rfl
    | 4, h => rfl
    | 5, h => rfl
    | 6, h => rfl
    | 7, h => rfl
    | 8, h => rfl
    | 9, h => rfl
    | 10, h => rfl
    | 11, h => rfl
    | 12, h => rfl
    | (n + 13), h => rfl
theorem e_f1 {G : Gt} {ad : Nat → Nat → Nat} {Z : Zt} {k : Nat} (h : k < xn Z 0 2) (hk : xn Z 1 k = 1) : ent G ad Z 2 k = some (.inr (3, [.int (xi Z 10 k), .int (xi Z 11 k), .long (xl Z 2 k), .int (xi Z 12 k)])) := by
  rw [e_fn h]; unfold fnE; rw [hk]; rfl
theorem u_f1_many {G : Gt} {ad : Nat → Nat → Nat} {Z : Zt} {k : Nat} {v : Int32} (hq : k < xn Z 0 2) (hk : xn Z 1 k = 1) : Up G ad Z (si Z 10 k v) 2 k (.inr (3, ([.int (xi Z 10 k), .int (xi Z 11 k), .long (xl Z 2 k), .int (xi Z 12 k)] : List Value).set 0 (.int v))) := by
  refine ⟨?_, ?_⟩
  · rw [e_f1 (show k < xn (si Z 10 k v) 0 2 from hq) (show xn (si Z 10 k v) 1 k = 1 from hk)]; simp [xi_si, xi_sl, xi_sn, xi_sc, xl_si, xl_sl, xl_sn, xl_sc, xn_si, xn_sl, xn_sn, xn_sc, xc_si, xc_sl, xc_sn, xc_sc]
  · intro o i h
    match o, h with
    | 0, h => rfl
    | 1, h => rfl
    | 2, h => (have hi : ¬ i = k := fun q => h ⟨rfl, q⟩; simp only [ent, fnE, fnF, hi, and_false, if_false, xi_si, xi_sl, xi_sn, xi_sc, xl_si, xl_sl, xl_sn, xl_sc, xn_si, xn_sl, xn_sn, xn_sc, xc_si, xc_sl, xc_sn, xc_sc] <;> rfl)
    | 3, h => rfl
    | 4, h => rfl
    | 5, h => rfl
    | 6, h => rfl
    | 7, h => rfl
    | 8, h => rfl
    | 9, h => rfl
    | 10, h => rfl
    | 11, h => rfl
    | 12, h => rfl
    | (n + 13), h => rfl
theorem u_f1_place {G : Gt} {ad : Nat → Nat → Nat} {Z : Zt} {k : Nat} {v : Int32} (hq : k < xn Z 0 2) (hk : xn Z 1 k = 1) : Up G ad Z (si Z 11 k v) 2 k (.inr (3, ([.int (xi Z 10 k), .int (xi Z 11 k), .long (xl Z 2 k), .int (xi Z 12 k)] : List Value).set 1 (.int v))) := by
  refine ⟨?_, ?_⟩
  · rw [e_f1 (show k < xn (si Z 11 k v) 0 2 from hq) (show xn (si Z 11 k v) 1 k = 1 from hk)]; simp [xi_si, xi_sl, xi_sn, xi_sc, xl_si, xl_sl, xl_sn, xl_sc, xn_si, xn_sl, xn_sn, xn_sc, xc_si, xc_sl, xc_sn, xc_sc]
  · intro o i h
    match o, h with
    | 0, h => rfl
    | 1, h => rfl
    | 2, h => (have hi : ¬ i = k := fun q => h ⟨rfl, q⟩; simp only [ent, fnE, fnF, hi, and_false, if_false, xi_si, xi_sl, xi_sn, xi_sc, xl_si, xl_sl, xl_sn, xl_sc, xn_si, xn_sl, xn_sn, xn_sc, xc_si, xc_sl, xc_sn, xc_sc] <;> rfl)
    | 3, h => rfl
    | 4, h => rfl
    | 5, h => rfl
    | 6, h => rfl
    | 7, h => rfl
    | 8, h => rfl
    | 9, h => rfl
    | 10, h => rfl
    | 11, h => rfl
    | 12, h => rfl
    | (n + 13), h => rfl
theorem u_f1_fv {G : Gt} {ad : Nat → Nat → Nat} {Z : Zt} {k : Nat} {v : Int64} (hq : k < xn Z 0 2) (hk : xn Z 1 k = 1) : Up G ad Z (sl Z 2 k v) 2 k (.inr (3, ([.int (xi Z 10 k), .int (xi Z 11 k), .long (xl Z 2 k), .int (xi Z 12 k)] : List Value).set 2 (.long v))) := by
  refine ⟨?_, ?_⟩
  · rw [e_f1 (show k < xn (sl Z 2 k v) 0 2 from hq) (show xn (sl Z 2 k v) 1 k = 1 from hk)]; simp [xi_si, xi_sl, xi_sn, xi_sc, xl_si, xl_sl, xl_sn, xl_sc, xn_si, xn_sl, xn_sn, xn_sc, xc_si, xc_sl, xc_sn, xc_sc]
  · intro o i h
    match o, h with
    | 0, h => rfl
    | 1, h => rfl
    | 2, h => (have hi : ¬ i = k := fun q => h ⟨rfl, q⟩; simp only [ent, fnE, fnF, hi, and_false, if_false, xi_si, xi_sl, xi_sn, xi_sc, xl_si, xl_sl, xl_sn, xl_sc, xn_si, xn_sl, xn_sn, xn_sc, xc_si, xc_sl, xc_sn, xc_sc] <;> rfl)
    | 3, h => rfl
    | 4, h => rfl
    | 5, h => rfl
    | 6, h => rfl
    | 7, h => rfl
    | 8, h => rfl
    | 9, h => rfl
    | 10, h => rfl
    | 11, h => rfl
    | 12, h => rfl
    | (n + 13), h => rfl
theorem u_f1_failed {G : Gt} {ad : Nat → Nat → Nat} {Z : Zt} {k : Nat} {v : Int32} (hq : k < xn Z 0 2) (hk : xn Z 1 k = 1) : Up G ad Z (si Z 12 k v) 2 k (.inr (3, ([.int (xi Z 10 k), .int (xi Z 11 k), .long (xl Z 2 k), .int (xi Z 12 k)] : List Value).set 3 (.int v))) := by
  refine ⟨?_, ?_⟩
  · rw [e_f1 (show k < xn (si Z 12 k v) 0 2 from hq) (show xn (si Z 12 k v) 1 k = 1 from hk)]; simp [xi_si, xi_sl, xi_sn, xi_sc, xl_si, xl_sl, xl_sn, xl_sc, xn_si, xn_sl, xn_sn, xn_sc, xc_si, xc_sl, xc_sn, xc_sc]
  · intro o i h
    match o, h with
    | 0, h => rfl
    | 1, h => rfl
    | 2, h => (have hi : ¬ i = k := fun q => h ⟨rfl, q⟩; simp only [ent, fnE, fnF, hi, and_false, if_false, xi_si, xi_sl, xi_sn, xi_sc, xl_si, xl_sl, xl_sn, xl_sc, xn_si, xn_sl, xn_sn, xn_sc, xc_si, xc_sl, xc_sn, xc_sc] <;> rfl)
    | 3, h => rfl
    | 4, h => rfl
    | 5, h => rfl
    | 6, h => rfl
    | 7, h => rfl
    | 8, h => rfl
    | 9, h => rfl
    | 10, h => rfl
    | 11, h => rfl
    | 12, h => rfl
    | (n + 13), h => rfl
theorem e_f2 {G : Gt} {ad : Nat → Nat → Nat} {Z : Zt} {k : Nat} (h : k < xn Z 0 2) (hk : xn Z 1 k = 2) : ent G ad Z 2 k = some (.inr (4, [.int (xi Z 10 k), .int (xi Z 11 k), .long (xl Z 2 k), .int (xi Z 12 k), .int (xi Z 13 k)])) := by
  rw [e_fn h]; unfold fnE; rw [hk]; rfl
theorem u_f2_many {G : Gt} {ad : Nat → Nat → Nat} {Z : Zt} {k : Nat} {v : Int32} (hq : k < xn Z 0 2) (hk : xn Z 1 k = 2) : Up G ad Z (si Z 10 k v) 2 k (.inr (4, ([.int (xi Z 10 k), .int (xi Z 11 k), .long (xl Z 2 k), .int (xi Z 12 k), .int (xi Z 13 k)] : List Value).set 0 (.int v))) := by
  refine ⟨?_, ?_⟩
  · rw [e_f2 (show k < xn (si Z 10 k v) 0 2 from hq) (show xn (si Z 10 k v) 1 k = 2 from hk)]; simp [xi_si, xi_sl, xi_sn, xi_sc, xl_si, xl_sl, xl_sn, xl_sc, xn_si, xn_sl, xn_sn, xn_sc, xc_si, xc_sl, xc_sn, xc_sc]
  · intro o i h
    match o, h with
    | 0, h => rfl
    | 1, h => rfl
    | 2, h => (have hi : ¬ i = k := fun q => h ⟨rfl, q⟩; simp only [ent, fnE, fnF, hi, and_false, if_false, xi_si, xi_sl, xi_sn, xi_sc, xl_si, xl_sl, xl_sn, xl_sc, xn_si, xn_sl, xn_sn, xn_sc, xc_si, xc_sl, xc_sn, xc_sc] <;> rfl)
    | 3, h => rfl
    | 4, h => rfl
    | 5, h => rfl
    | 6, h => rfl
    | 7, h => rfl
    | 8, h => rfl
    | 9, h => rfl
    | 10, h => rfl
    | 11, h => rfl
    | 12, h => rfl
    | (n + 13), h => rfl
theorem u_f2_place {G : Gt} {ad : Nat → Nat → Nat} {Z : Zt} {k : Nat} {v : Int32} (hq : k < xn Z 0 2) (hk : xn Z 1 k = 2) : Up G ad Z (si Z 11 k v) 2 k (.inr (4, ([.int (xi Z 10 k), .int (xi Z 11 k), .long (xl Z 2 k), .int (xi Z 12 k), .int (xi Z 13 k)] : List Value).set 1 (.int v))) := by
  refine ⟨?_, ?_⟩
  · rw [e_f2 (show k < xn (si Z 11 k v) 0 2 from hq) (show xn (si Z 11 k v) 1 k = 2 from hk)]; simp [xi_si, xi_sl, xi_sn, xi_sc, xl_si, xl_sl, xl_sn, xl_sc, xn_si, xn_sl, xn_sn, xn_sc, xc_si, xc_sl, xc_sn, xc_sc]
  · intro o i h
    match o, h with
    | 0, h => rfl
    | 1, h => rfl
    | 2, h => (have hi : ¬ i = k := fun q => h ⟨rfl, q⟩; simp only [ent, fnE, fnF, hi, and_false, if_false, xi_si, xi_sl, xi_sn, xi_sc, xl_si, xl_sl, xl_sn, xl_sc, xn_si, xn_sl, xn_sn, xn_sc, xc_si, xc_sl, xc_sn, xc_sc] <;> rfl)
    | 3, h => rfl
    | 4, h => rfl
    | 5, h => rfl
    | 6, h => rfl
    | 7, h => rfl
    | 8, h => rfl
    | 9, h => rfl
    | 10, h => rfl
    | 11, h => rfl
    | 12, h => rfl
    | (n + 13), h => rfl
theorem u_f2_fv {G : Gt} {ad : Nat → Nat → Nat} {Z : Zt} {k : Nat} {v : Int64} (hq : k < xn Z 0 2) (hk : xn Z 1 k = 2) : Up G ad Z (sl Z 2 k v) 2 k (.inr (4, ([.int (xi Z 10 k), .int (xi Z 11 k), .long (xl Z 2 k), .int (xi Z 12 k), .int (xi Z 13 k)] : List Value).set 2 (.long v))) := by
  refine ⟨?_, ?_⟩
  · rw [e_f2 (show k < xn (sl Z 2 k v) 0 2 from hq) (show xn (sl Z 2 k v) 1 k = 2 from hk)]; simp [xi_si, xi_sl, xi_sn, xi_sc, xl_si, xl_sl, xl_sn, xl_sc, xn_si, xn_sl, xn_sn, xn_sc, xc_si, xc_sl, xc_sn, xc_sc]
  · intro o i h
    match o, h with
    | 0, h => rfl
    | 1, h => rfl
    | 2, h => (have hi : ¬ i = k := fun q => h ⟨rfl, q⟩; simp only [ent, fnE, fnF, hi, and_false, if_false, xi_si, xi_sl, xi_sn, xi_sc, xl_si, xl_sl, xl_sn, xl_sc, xn_si, xn_sl, xn_sn, xn_sc, xc_si, xc_sl, xc_sn, xc_sc] <;> rfl)
    | 3, h => rfl
    | 4, h => rfl
    | 5, h => rfl
    | 6, h => rfl
    | 7, h => rfl
    | 8, h => rfl
    | 9, h => rfl
    | 10, h => rfl
    | 11, h => rfl
    | 12, h => rfl
    | (n + 13), h => rfl
theorem u_f2_failed {G : Gt} {ad : Nat → Nat → Nat} {Z : Zt} {k : Nat} {v : Int32} (hq : k < xn Z 0 2) (hk : xn Z 1 k = 2) : Up G ad Z (si Z 12 k v) 2 k (.inr (4, ([.int (xi Z 10 k), .int (xi Z 11 k), .long (xl Z 2 k), .int (xi Z 12 k), .int (xi Z 13 k)] : List Value).set 3 (.int v))) := by
  refine ⟨?_, ?_⟩
  · rw [e_f2 (show k < xn (si Z 12 k v) 0 2 from hq) (show xn (si Z 12 k v) 1 k = 2 from hk)]; simp [xi_si, xi_sl, xi_sn, xi_sc, xl_si, xl_sl, xl_sn, xl_sc, xn_si, xn_sl, xn_sn, xn_sc, xc_si, xc_sl, xc_sn, xc_sc]
  · intro o i h
    match o, h with
    | 0, h => rfl
    | 1, h => rfl
    | 2, h => (have hi : ¬ i = k := fun q => h ⟨rfl, q⟩; simp only [ent, fnE, fnF, hi, and_false, if_false, xi_si, xi_sl, xi_sn, xi_sc, xl_si, xl_sl, xl_sn, xl_sc, xn_si, xn_sl, xn_sn, xn_sc, xc_si, xc_sl, xc_sn, xc_sc] <;> rfl)
    | 3, h => rfl
    | 4, h => rfl
    | 5, h => rfl
    | 6, h => rfl
    | 7, h => rfl
    | 8, h => rfl
    | 9, h => rfl
    | 10, h => rfl
    | 11, h => rfl
    | 12, h => rfl
    | (n + 13), h => rfl
theorem u_f2_chosen {G : Gt} {ad : Nat → Nat → Nat} {Z : Zt} {k : Nat} {v : Int32} (hq : k < xn Z 0 2) (hk : xn Z 1 k = 2) : Up G ad Z (si Z 13 k v) 2 k (.inr (4, ([.int (xi Z 10 k), .int (xi Z 11 k), .long (xl Z 2 k), .int (xi Z 12 k), .int (xi Z 13 k)] : List Value).set 4 (.int v))) := by
  refine ⟨?_, ?_⟩
  · rw [e_f2 (show k < xn (si Z 13 k v) 0 2 from hq) (show xn (si Z 13 k v) 1 k = 2 from hk)]; simp [xi_si, xi_sl, xi_sn, xi_sc, xl_si, xl_sl, xl_sn, xl_sc, xn_si, xn_sl, xn_sn, xn_sc, xc_si, xc_sl, xc_sn, xc_sc]
  · intro o i h
    match o, h with
    | 0, h => rfl
    | 1, h => rfl
    | 2, h => (have hi : ¬ i = k := fun q => h ⟨rfl, q⟩; simp only [ent, fnE, fnF, hi, and_false, if_false, xi_si, xi_sl, xi_sn, xi_sc, xl_si, xl_sl, xl_sn, xl_sc, xn_si, xn_sl, xn_sn, xn_sc, xc_si, xc_sl, xc_sn, xc_sc] <;> rfl)
    | 3, h => rfl
    | 4, h => rfl
    | 5, h => rfl
    | 6, h => rfl
    | 7, h => rfl
    | 8, h => rfl
    | 9, h => rfl
    | 10, h => rfl
    | 11, h => rfl
    | 12, h => rfl
    | (n + 13), h => rfl
theorem e_f3 {G : Gt} {ad : Nat → Nat → Nat} {Z : Zt} {k : Nat} (h : k < xn Z 0 2) (hk : xn Z 1 k = 3) : ent G ad Z 2 k = some (.inr (5, [.int (xi Z 10 k), .int (xi Z 11 k), .long (xl Z 2 k), .int (xi Z 12 k)])) := by
  rw [e_fn h]; unfold fnE; rw [hk]; rfl
theorem u_f3_many {G : Gt} {ad : Nat → Nat → Nat} {Z : Zt} {k : Nat} {v : Int32} (hq : k < xn Z 0 2) (hk : xn Z 1 k = 3) : Up G ad Z (si Z 10 k v) 2 k (.inr (5, ([.int (xi Z 10 k), .int (xi Z 11 k), .long (xl Z 2 k), .int (xi Z 12 k)] : List Value).set 0 (.int v))) := by
  refine ⟨?_, ?_⟩
  · rw [e_f3 (show k < xn (si Z 10 k v) 0 2 from hq) (show xn (si Z 10 k v) 1 k = 3 from hk)]; simp [xi_si, xi_sl, xi_sn, xi_sc, xl_si, xl_sl, xl_sn, xl_sc, xn_si, xn_sl, xn_sn, xn_sc, xc_si, xc_sl, xc_sn, xc_sc]
  · intro o i h
    match o, h with
    | 0, h => rfl
    | 1, h => rfl
    | 2, h => (have hi : ¬ i = k := fun q => h ⟨rfl, q⟩; simp only [ent, fnE, fnF, hi, and_false, if_false, xi_si, xi_sl, xi_sn, xi_sc, xl_si, xl_sl, xl_sn, xl_sc, xn_si, xn_sl, xn_sn, xn_sc, xc_si, xc_sl, xc_sn, xc_sc] <;> rfl)
    | 3, h => rfl
    | 4, h => rfl
    | 5, h => rfl
    | 6, h => rfl
    | 7, h => rfl
    | 8, h => rfl
    | 9, h => rfl
    | 10, h => rfl
    | 11, h => rfl
    | 12, h => rfl
    | (n + 13), h => rfl
theorem u_f3_place {G : Gt} {ad : Nat → Nat → Nat} {Z : Zt} {k : Nat} {v : Int32} (hq : k < xn Z 0 2) (hk : xn Z 1 k = 3) : Up G ad Z (si Z 11 k v) 2 k (.inr (5, ([.int (xi Z 10 k), .int (xi Z 11 k), .long (xl Z 2 k), .int (xi Z 12 k)] : List Value).set 1 (.int v))) := by
  refine ⟨?_, ?_⟩
  · rw [e_f3 (show k < xn (si Z 11 k v) 0 2 from hq) (show xn (si Z 11 k v) 1 k = 3 from hk)]; simp [xi_si, xi_sl, xi_sn, xi_sc, xl_si, xl_sl, xl_sn, xl_sc, xn_si, xn_sl, xn_sn, xn_sc, xc_si, xc_sl, xc_sn, xc_sc]
  · intro o i h
    match o, h with
    | 0, h => rfl
    | 1, h => rfl
    | 2, h => (have hi : ¬ i = k := fun q => h ⟨rfl, q⟩; simp only [ent, fnE, fnF, hi, and_false, if_false, xi_si, xi_sl, xi_sn, xi_sc, xl_si, xl_sl, xl_sn, xl_sc, xn_si, xn_sl, xn_sn, xn_sc, xc_si, xc_sl, xc_sn, xc_sc] <;> rfl)
    | 3, h => rfl
    | 4, h => rfl
    | 5, h => rfl
    | 6, h => rfl
    | 7, h => rfl
    | 8, h => rfl
    | 9, h => rfl
    | 10, h => rfl
    | 11, h => rfl
    | 12, h => rfl
    | (n + 13), h => rfl
theorem u_f3_fv {G : Gt} {ad : Nat → Nat → Nat} {Z : Zt} {k : Nat} {v : Int64} (hq : k < xn Z 0 2) (hk : xn Z 1 k = 3) : Up G ad Z (sl Z 2 k v) 2 k (.inr (5, ([.int (xi Z 10 k), .int (xi Z 11 k), .long (xl Z 2 k), .int (xi Z 12 k)] : List Value).set 2 (.long v))) := by
  refine ⟨?_, ?_⟩
  · rw [e_f3 (show k < xn (sl Z 2 k v) 0 2 from hq) (show xn (sl Z 2 k v) 1 k = 3 from hk)]; simp [xi_si, xi_sl, xi_sn, xi_sc, xl_si, xl_sl, xl_sn, xl_sc, xn_si, xn_sl, xn_sn, xn_sc, xc_si, xc_sl, xc_sn, xc_sc]
  · intro o i h
    match o, h with
    | 0, h => rfl
    | 1, h => rfl
    | 2, h => (have hi : ¬ i = k := fun q => h ⟨rfl, q⟩; simp only [ent, fnE, fnF, hi, and_false, if_false, xi_si, xi_sl, xi_sn, xi_sc, xl_si, xl_sl, xl_sn, xl_sc, xn_si, xn_sl, xn_sn, xn_sc, xc_si, xc_sl, xc_sn, xc_sc] <;> rfl)
    | 3, h => rfl
    | 4, h => rfl
    | 5, h => rfl
    | 6, h => rfl
    | 7, h => rfl
    | 8, h => rfl
    | 9, h => rfl
    | 10, h => rfl
    | 11, h => rfl
    | 12, h => rfl
    | (n + 13), h => rfl
theorem u_f3_failed {G : Gt} {ad : Nat → Nat → Nat} {Z : Zt} {k : Nat} {v : Int32} (hq : k < xn Z 0 2) (hk : xn Z 1 k = 3) : Up G ad Z (si Z 12 k v) 2 k (.inr (5, ([.int (xi Z 10 k), .int (xi Z 11 k), .long (xl Z 2 k), .int (xi Z 12 k)] : List Value).set 3 (.int v))) := by
  refine ⟨?_, ?_⟩
  · rw [e_f3 (show k < xn (si Z 12 k v) 0 2 from hq) (show xn (si Z 12 k v) 1 k = 3 from hk)]; simp [xi_si, xi_sl, xi_sn, xi_sc, xl_si, xl_sl, xl_sn, xl_sc, xn_si, xn_sl, xn_sn, xn_sc, xc_si, xc_sl, xc_sn, xc_sc]
  · intro o i h
    match o, h with
    | 0, h => rfl
    | 1, h => rfl
    | 2, h => (have hi : ¬ i = k := fun q => h ⟨rfl, q⟩; simp only [ent, fnE, fnF, hi, and_false, if_false, xi_si, xi_sl, xi_sn, xi_sc, xl_si, xl_sl, xl_sn, xl_sc, xn_si, xn_sl, xn_sn, xn_sc, xc_si, xc_sl, xc_sn, xc_sc] <;> rfl)
    | 3, h => rfl
    | 4, h => rfl
    | 5, h => rfl
    | 6, h => rfl
    | 7, h => rfl
    | 8, h => rfl
    | 9, h => rfl
    | 10, h => rfl
    | 11, h => rfl
    | 12, h => rfl
    | (n + 13), h => rfl
theorem e_f4 {G : Gt} {ad : Nat → Nat → Nat} {Z : Zt} {k : Nat} (h : k < xn Z 0 2) (hk : xn Z 1 k = 4) : ent G ad Z 2 k = some (.inr (2, [.int (xi Z 10 k), .int (xi Z 11 k), .long (xl Z 2 k), .int (xi Z 12 k), .int 1])) := by
  rw [e_fn h]; unfold fnE; rw [hk]; rfl
theorem u_f4_many {G : Gt} {ad : Nat → Nat → Nat} {Z : Zt} {k : Nat} {v : Int32} (hq : k < xn Z 0 2) (hk : xn Z 1 k = 4) : Up G ad Z (si Z 10 k v) 2 k (.inr (2, ([.int (xi Z 10 k), .int (xi Z 11 k), .long (xl Z 2 k), .int (xi Z 12 k), .int 1] : List Value).set 0 (.int v))) := by
  refine ⟨?_, ?_⟩
  · rw [e_f4 (show k < xn (si Z 10 k v) 0 2 from hq) (show xn (si Z 10 k v) 1 k = 4 from hk)]; simp [xi_si, xi_sl, xi_sn, xi_sc, xl_si, xl_sl, xl_sn, xl_sc, xn_si, xn_sl, xn_sn, xn_sc, xc_si, xc_sl, xc_sn, xc_sc]
  · intro o i h
    match o, h with
    | 0, h => rfl
    | 1, h => rfl
    | 2, h => (have hi : ¬ i = k := fun q => h ⟨rfl, q⟩; simp only [ent, fnE, fnF, hi, and_false, if_false, xi_si, xi_sl, xi_sn, xi_sc, xl_si, xl_sl, xl_sn, xl_sc, xn_si, xn_sl, xn_sn, xn_sc, xc_si, xc_sl, xc_sn, xc_sc] <;> rfl)
    | 3, h => rfl
    | 4, h => rfl
    | 5, h => rfl
    | 6, h => rfl
    | 7, h => rfl
    | 8, h => rfl
    | 9, h => rfl
    | 10, h => rfl
    | 11, h => rfl
    | 12, h => rfl
    | (n + 13), h => rfl
theorem u_f4_place {G : Gt} {ad : Nat → Nat → Nat} {Z : Zt} {k : Nat} {v : Int32} (hq : k < xn Z 0 2) (hk : xn Z 1 k = 4) : Up G ad Z (si Z 11 k v) 2 k (.inr (2, ([.int (xi Z 10 k), .int (xi Z 11 k), .long (xl Z 2 k), .int (xi Z 12 k), .int 1] : List Value).set 1 (.int v))) := by
  refine ⟨?_, ?_⟩
  · rw [e_f4 (show k < xn (si Z 11 k v) 0 2 from hq) (show xn (si Z 11 k v) 1 k = 4 from hk)]; simp [xi_si, xi_sl, xi_sn, xi_sc, xl_si, xl_sl, xl_sn, xl_sc, xn_si, xn_sl, xn_sn, xn_sc, xc_si, xc_sl, xc_sn, xc_sc]
  · intro o i h
    match o, h with
    | 0, h => rfl
    | 1, h => rfl
    | 2, h => (have hi : ¬ i = k := fun q => h ⟨rfl, q⟩; simp only [ent, fnE, fnF, hi, and_false, if_false, xi_si, xi_sl, xi_sn, xi_sc, xl_si, xl_sl, xl_sn, xl_sc, xn_si, xn_sl, xn_sn, xn_sc, xc_si, xc_sl, xc_sn, xc_sc] <;> rfl)
    | 3, h => rfl
    | 4, h => rfl
    | 5, h => rfl
    | 6, h => rfl
    | 7, h => rfl
    | 8, h => rfl
    | 9, h => rfl
    | 10, h => rfl
    | 11, h => rfl
    | 12, h => rfl
    | (n + 13), h => rfl
theorem u_f4_fv {G : Gt} {ad : Nat → Nat → Nat} {Z : Zt} {k : Nat} {v : Int64} (hq : k < xn Z 0 2) (hk : xn Z 1 k = 4) : Up G ad Z (sl Z 2 k v) 2 k (.inr (2, ([.int (xi Z 10 k), .int (xi Z 11 k), .long (xl Z 2 k), .int (xi Z 12 k), .int 1] : List Value).set 2 (.long v))) := by
  refine ⟨?_, ?_⟩
  · rw [e_f4 (show k < xn (sl Z 2 k v) 0 2 from hq) (show xn (sl Z 2 k v) 1 k = 4 from hk)]; simp [xi_si, xi_sl, xi_sn, xi_sc, xl_si, xl_sl, xl_sn, xl_sc, xn_si, xn_sl, xn_sn, xn_sc, xc_si, xc_sl, xc_sn, xc_sc]
  · intro o i h
    match o, h with
    | 0, h => rfl
    | 1, h => rfl
    | 2, h => (have hi : ¬ i = k := fun q => h ⟨rfl, q⟩; simp only [ent, fnE, fnF, hi, and_false, if_false, xi_si, xi_sl, xi_sn, xi_sc, xl_si, xl_sl, xl_sn, xl_sc, xn_si, xn_sl, xn_sn, xn_sc, xc_si, xc_sl, xc_sn, xc_sc] <;> rfl)
    | 3, h => rfl
    | 4, h => rfl
    | 5, h => rfl
    | 6, h => rfl
    | 7, h => rfl
    | 8, h => rfl
    | 9, h => rfl
    | 10, h => rfl
    | 11, h => rfl
    | 12, h => rfl
    | (n + 13), h => rfl
theorem u_f4_failed {G : Gt} {ad : Nat → Nat → Nat} {Z : Zt} {k : Nat} {v : Int32} (hq : k < xn Z 0 2) (hk : xn Z 1 k = 4) : Up G ad Z (si Z 12 k v) 2 k (.inr (2, ([.int (xi Z 10 k), .int (xi Z 11 k), .long (xl Z 2 k), .int (xi Z 12 k), .int 1] : List Value).set 3 (.int v))) := by
  refine ⟨?_, ?_⟩
  · rw [e_f4 (show k < xn (si Z 12 k v) 0 2 from hq) (show xn (si Z 12 k v) 1 k = 4 from hk)]; simp [xi_si, xi_sl, xi_sn, xi_sc, xl_si, xl_sl, xl_sn, xl_sc, xn_si, xn_sl, xn_sn, xn_sc, xc_si, xc_sl, xc_sn, xc_sc]
  · intro o i h
    match o, h with
    | 0, h => rfl
    | 1, h => rfl
    | 2, h => (have hi : ¬ i = k := fun q => h ⟨rfl, q⟩; simp only [ent, fnE, fnF, hi, and_false, if_false, xi_si, xi_sl, xi_sn, xi_sc, xl_si, xl_sl, xl_sn, xl_sc, xn_si, xn_sl, xn_sn, xn_sc, xc_si, xc_sl, xc_sn, xc_sc] <;> rfl)
    | 3, h => rfl
    | 4, h => rfl
    | 5, h => rfl
    | 6, h => rfl
    | 7, h => rfl
    | 8, h => rfl
    | 9, h => rfl
    | 10, h => rfl
    | 11, h => rfl
    | 12, h => rfl
    | (n + 13), h => rfl
theorem e_f5 {G : Gt} {ad : Nat → Nat → Nat} {Z : Zt} {k : Nat} (h : k < xn Z 0 2) (hk : xn Z 1 k = 5) : ent G ad Z 2 k = some (.inr (6, [.int (xi Z 10 k), .int (xi Z 11 k), .long (xl Z 2 k), .int (xi Z 12 k)])) := by
  rw [e_fn h]; unfold fnE; rw [hk]; rfl
theorem u_f5_many {G : Gt} {ad : Nat → Nat → Nat} {Z : Zt} {k : Nat} {v : Int32} (hq : k < xn Z 0 2) (hk : xn Z 1 k = 5) : Up G ad Z (si Z 10 k v) 2 k (.inr (6, ([.int (xi Z 10 k), .int (xi Z 11 k), .long (xl Z 2 k), .int (xi Z 12 k)] : List Value).set 0 (.int v))) := by
  refine ⟨?_, ?_⟩
  · rw [e_f5 (show k < xn (si Z 10 k v) 0 2 from hq) (show xn (si Z 10 k v) 1 k = 5 from hk)]; simp [xi_si, xi_sl, xi_sn, xi_sc, xl_si, xl_sl, xl_sn, xl_sc, xn_si, xn_sl, xn_sn, xn_sc, xc_si, xc_sl, xc_sn, xc_sc]
  · intro o i h
    match o, h with
    | 0, h => rfl
    | 1, h => rfl
    | 2, h => (have hi : ¬ i = k := fun q => h ⟨rfl, q⟩; simp only [ent, fnE, fnF, hi, and_false, if_false, xi_si, xi_sl, xi_sn, xi_sc, xl_si, xl_sl, xl_sn, xl_sc, xn_si, xn_sl, xn_sn, xn_sc, xc_si, xc_sl, xc_sn, xc_sc] <;> rfl)
    | 3, h => rfl
    | 4, h => rfl
    | 5, h => rfl
    | 6, h => rfl
    | 7, h => rfl
    | 8, h => rfl
    | 9, h => rfl
    | 10, h => rfl
    | 11, h => rfl
    | 12, h => rfl
    | (n + 13), h => rfl
theorem u_f5_place {G : Gt} {ad : Nat → Nat → Nat} {Z : Zt} {k : Nat} {v : Int32} (hq : k < xn Z 0 2) (hk : xn Z 1 k = 5) : Up G ad Z (si Z 11 k v) 2 k (.inr (6, ([.int (xi Z 10 k), .int (xi Z 11 k), .long (xl Z 2 k), .int (xi Z 12 k)] : List Value).set 1 (.int v))) := by
  refine ⟨?_, ?_⟩
  · rw [e_f5 (show k < xn (si Z 11 k v) 0 2 from hq) (show xn (si Z 11 k v) 1 k = 5 from hk)]; simp [xi_si, xi_sl, xi_sn, xi_sc, xl_si, xl_sl, xl_sn, xl_sc, xn_si, xn_sl, xn_sn, xn_sc, xc_si, xc_sl, xc_sn, xc_sc]
  · intro o i h
    match o, h with
    | 0, h => rfl
    | 1, h => rfl
    | 2, h => (have hi : ¬ i = k := fun q => h ⟨rfl, q⟩; simp only [ent, fnE, fnF, hi, and_false, if_false, xi_si, xi_sl, xi_sn, xi_sc, xl_si, xl_sl, xl_sn, xl_sc, xn_si, xn_sl, xn_sn, xn_sc, xc_si, xc_sl, xc_sn, xc_sc] <;> rfl)
    | 3, h => rfl
    | 4, h => rfl
    | 5, h => rfl
    | 6, h => rfl
    | 7, h => rfl
    | 8, h => rfl
    | 9, h => rfl
    | 10, h => rfl
    | 11, h => rfl
    | 12, h => rfl
    | (n + 13), h => rfl
theorem u_f5_fv {G : Gt} {ad : Nat → Nat → Nat} {Z : Zt} {k : Nat} {v : Int64} (hq : k < xn Z 0 2) (hk : xn Z 1 k = 5) : Up G ad Z (sl Z 2 k v) 2 k (.inr (6, ([.int (xi Z 10 k), .int (xi Z 11 k), .long (xl Z 2 k), .int (xi Z 12 k)] : List Value).set 2 (.long v))) := by
  refine ⟨?_, ?_⟩
  · rw [e_f5 (show k < xn (sl Z 2 k v) 0 2 from hq) (show xn (sl Z 2 k v) 1 k = 5 from hk)]; simp [xi_si, xi_sl, xi_sn, xi_sc, xl_si, xl_sl, xl_sn, xl_sc, xn_si, xn_sl, xn_sn, xn_sc, xc_si, xc_sl, xc_sn, xc_sc]
  · intro o i h
    match o, h with
    | 0, h => rfl
    | 1, h => rfl
    | 2, h => (have hi : ¬ i = k := fun q => h ⟨rfl, q⟩; simp only [ent, fnE, fnF, hi, and_false, if_false, xi_si, xi_sl, xi_sn, xi_sc, xl_si, xl_sl, xl_sn, xl_sc, xn_si, xn_sl, xn_sn, xn_sc, xc_si, xc_sl, xc_sn, xc_sc] <;> rfl)
    | 3, h => rfl
    | 4, h => rfl
    | 5, h => rfl
    | 6, h => rfl
    | 7, h => rfl
    | 8, h => rfl
    | 9, h => rfl
    | 10, h => rfl
    | 11, h => rfl
    | 12, h => rfl
    | (n + 13), h => rfl
theorem u_f5_failed {G : Gt} {ad : Nat → Nat → Nat} {Z : Zt} {k : Nat} {v : Int32} (hq : k < xn Z 0 2) (hk : xn Z 1 k = 5) : Up G ad Z (si Z 12 k v) 2 k (.inr (6, ([.int (xi Z 10 k), .int (xi Z 11 k), .long (xl Z 2 k), .int (xi Z 12 k)] : List Value).set 3 (.int v))) := by
  refine ⟨?_, ?_⟩
  · rw [e_f5 (show k < xn (si Z 12 k v) 0 2 from hq) (show xn (si Z 12 k v) 1 k = 5 from hk)]; simp [xi_si, xi_sl, xi_sn, xi_sc, xl_si, xl_sl, xl_sn, xl_sc, xn_si, xn_sl, xn_sn, xn_sc, xc_si, xc_sl, xc_sn, xc_sc]
  · intro o i h
    match o, h with
    | 0, h => rfl
    | 1, h => rfl
    | 2, h => (have hi : ¬ i = k := fun q => h ⟨rfl, q⟩; simp only [ent, fnE, fnF, hi, and_false, if_false, xi_si, xi_sl, xi_sn, xi_sc, xl_si, xl_sl, xl_sn, xl_sc, xn_si, xn_sl, xn_sn, xn_sc, xc_si, xc_sl, xc_sn, xc_sc] <;> rfl)
    | 3, h => rfl
    | 4, h => rfl
    | 5, h => rfl
    | 6, h => rfl
    | 7, h => rfl
    | 8, h => rfl
    | 9, h => rfl
    | 10, h => rfl
    | 11, h => rfl
    | 12, h => rfl
    | (n + 13), h => rfl
end
section
section
variable {p : Program} {l : Launch} {e : Env} {R : Room} {s : State} {m : MethodId} {args : Array Value} {below : List Frame} {meth : Method} {c : Code} {H : Heap} {locs : List Loc} {cells slots : Nat} {Q : State → Prop} {cc : ByteArray} {pc nL : Nat} {ls : Array Slot} {rest : List Value} {G : Gt} {ad : Nat → Nat → Nat} {ow : Nat → Nat × Nat} {Z Z' : Zt} {own : String}
theorem zsame (hC : Cx G p c m s args own cc nL) {ref O n d : String} (h : ref = O ∨ Cond.sameField ref O n d ∈ TT) : ∀ x, s.fieldFound? O n d = some x → s.fieldFound? ref n d = some x := by
  rcases h with rfl | h
  · exact fun x h => h
  · exact fun x h9 => u_same (hC.2.2.2.2.1 _ h) x h9
theorem zget (hC : Cx G p c m s args own cc nL) (hd : Dy G ad ow Z s H locs) {o i ci : Nat} {fs : List Value} (he : ent G ad Z o i = some (.inr (ci, fs))) {C : String} {T : u_T} {N : Nat} (hc : cls[ci]? = some (C, T, N)) (hin : ∀ w ∈ u_ws C T N, w ∈ TT) (k : Nat) (hk : k < N) {ref : String} {index : Nat} (hlink : Cond.fieldLink own index ref (T k).2.1 (T k).2.2.1 ∈ TT) (hsame : ref = (T k).1 ∨ Cond.sameField ref (T k).1 (T k).2.1 (T k).2.2.1 ∈ TT) {v : Value} (hv : fs[k]? = some v) (hdg : decode cc pc = .ok (.getfield index, 3))
    (kk : W p l e R s m args below meth c H locs cells slots Q (F0 m (pc + 3) ls (v :: rest))) : W p l e R s m args below meth c H locs cells slots Q (F0 m pc ls (.ref (ad o i) :: rest)) :=
  va_get (D := gD G) (cl := cls) (tys := tys G) hC.1 hC.2.1 hC.2.2.2.2.1 hin hC.2.2.2.1 hC.2.2.2.2.2.1 (hd.1.one he) 0 rfl hc k hk (hC.2.2.2.2.1 _ hlink) (zsame hC hsame) hv hdg kk
theorem zgetN (hC : Cx G p c m s args own cc nL) (hd : Dy G ad ow Z s H locs) {o i ci : Nat} {fs : List Value} (he : ent G ad Z o i = some (.inr (ci, fs))) {C : String} {T : u_T} {N : Nat} (hc : cls[ci]? = some (C, T, N)) (hin : ∀ w ∈ u_ws C T N, w ∈ TT) (k : Nat) (hk : k < N) {ref host : String} {index : Nat} (hlink : Cond.fieldLinkNest own index ref (T k).2.1 (T k).2.2.1 host ∈ NW) (hsame : ref = (T k).1 ∨ Cond.sameField ref (T k).1 (T k).2.1 (T k).2.2.1 ∈ TT) {v : Value} (hv : fs[k]? = some v) (hdg : decode cc pc = .ok (.getfield index, 3))
    (kk : W p l e R s m args below meth c H locs cells slots Q (F0 m (pc + 3) ls (v :: rest))) : W p l e R s m args below meth c H locs cells slots Q (F0 m pc ls (.ref (ad o i) :: rest)) :=
  va_getN (D := gD G) (cl := cls) (tys := tys G) hC.1 hC.2.1 hC.2.2.2.2.1 hin hC.2.2.2.1 hC.2.2.2.2.2.1 (hd.1.one he) 0 rfl hc k hk (va_Nw.use rfl (hC.2.2.2.2.2.2.1 _ hlink)) (zsame hC hsame) hv hdg kk
theorem zput (hC : Cx G p c m s args own cc nL) (hd : Dy G ad ow Z s H locs) {o i ci : Nat} {fs : List Value} (he : ent G ad Z o i = some (.inr (ci, fs))) {C : String} {T : u_T} {N : Nat} (hc : cls[ci]? = some (C, T, N)) (hin : ∀ w ∈ u_ws C T N, w ∈ TT) (ty0 : Nat → FieldType) (hty : ∀ k, k < N → parseFieldDescriptor (T k).2.2.1 = some (ty0 k)) (hnm : ∀ a, a < N → ∀ b, b < N → a ≠ b → (T a).2.1 ≠ (T b).2.1) (k : Nat) (hk : k < N) {ref : String} {index : Nat} (hlink : Cond.fieldLink own index ref (T k).2.1 (T k).2.2.1 ∈ TT) (hsame : ref = (T k).1 ∨ Cond.sameField ref (T k).1 (T k).2.1 (T k).2.2.1 ∈ TT) (hfin : (T k).2.2.2 = false) {v : Value} (hn : narrow (ty0 k) v = v) (hfit : fits (ty0 k) v = true) (hl : k < fs.length) (hU : Up G ad Z Z' o i (.inr (ci, fs.set k v))) (hdg : decode cc pc = .ok (.putfield index, 3))
    (kk : ∀ (H1 : Heap) (locs1 : List Loc), Dy G ad ow Z' s H1 locs1 → W p l e R s m args below meth c H1 locs1 cells slots Q (F0 m (pc + 3) ls rest)) : W p l e R s m args below meth c H locs cells slots Q (F0 m pc ls (v :: .ref (ad o i) :: rest)) := by
  obtain ⟨hexec, hb, -, hown, hts, hK, -⟩ := hC
  have hap := va_apart (own := own) hts hin ty0 hty hnm hK hc
  obtain ⟨r, h1, cell, q1, q2, q3, q4⟩ := (hd.1 o i _ he).1
  have hr : r = (C, T, N) := Option.some.inj (h1.symm.trans hc)
  subst hr
  obtain ⟨hS, hfc, kC, hkC, hkind⟩ := hK.1 ci _ hc
  obtain ⟨cf, kf, fi, f, hi, hsl⟩ := hS k hk
  have hlay := hts _ (hin _ (u_in_lay hk))
  unfold u_lay at hlay
  rw [if_neg (by rw [hfin]; decide)] at hlay
  have hst := (u_facts hfc hkC (u_lays hts hin hk) hi).1
  have h6 := u_store hfc hkC hkind hlay hi (hty k hk) hn hfit
  have hsm : ∀ x, s.fieldFound? (T k).1 (T k).2.1 (T k).2.2.1 = some x → s.fieldFound? ref (T k).2.1 (T k).2.2.1 = some x := by
    rcases hsame with rfl | h
    · exact fun x h => h
    · exact fun x h9 => u_same (hts _ h) x h9
  refine W.putK hexec hb (f := f) ⟨hown, hts _ hlink, ⟨_, _, _, hsm _ hi⟩, hst⟩ (by rw [q2]; exact h6) q1 q3 (by rw [hsl]; exact k2_hasslot (q4 k hk)) rfl rfl hdg fun H' e1 e2 e3 => ?_
  rw [hsl] at e1 ⊢
  exact kk H' _ (hd.set he hU e2 ⟨_, hc, t_OB.to (V := updV (vp_V fs) k v) ⟨_, e1, q2, q3, t_set q4 hap hk v⟩ (fun j _ => vp_updV_set hl v j)⟩ e3)
theorem zputN (hC : Cx G p c m s args own cc nL) (hd : Dy G ad ow Z s H locs) {o i ci : Nat} {fs : List Value} (he : ent G ad Z o i = some (.inr (ci, fs))) {C : String} {T : u_T} {N : Nat} (hc : cls[ci]? = some (C, T, N)) (hin : ∀ w ∈ u_ws C T N, w ∈ TT) (ty0 : Nat → FieldType) (hty : ∀ k, k < N → parseFieldDescriptor (T k).2.2.1 = some (ty0 k)) (hnm : ∀ a, a < N → ∀ b, b < N → a ≠ b → (T a).2.1 ≠ (T b).2.1) (k : Nat) (hk : k < N) {ref host : String} {index : Nat} (hlink : Cond.fieldLinkNest own index ref (T k).2.1 (T k).2.2.1 host ∈ NW) (hsame : ref = (T k).1) (hfin : (T k).2.2.2 = false) {v : Value} (hn : narrow (ty0 k) v = v) (hfit : fits (ty0 k) v = true) (hl : k < fs.length) (hU : Up G ad Z Z' o i (.inr (ci, fs.set k v))) (hdg : decode cc pc = .ok (.putfield index, 3))
    (kk : ∀ (H1 : Heap) (locs1 : List Loc), Dy G ad ow Z' s H1 locs1 → W p l e R s m args below meth c H1 locs1 cells slots Q (F0 m (pc + 3) ls rest)) : W p l e R s m args below meth c H locs cells slots Q (F0 m pc ls (v :: .ref (ad o i) :: rest)) := by
  obtain ⟨hexec, hb, -, hown, hts, hK, hNW, -⟩ := hC
  have hap := va_apart (own := own) hts hin ty0 hty hnm hK hc
  obtain ⟨r, h1, cell, q1, q2, q3, q4⟩ := (hd.1 o i _ he).1
  have hr : r = (C, T, N) := Option.some.inj (h1.symm.trans hc)
  subst hr
  obtain ⟨hS, hfc, kC, hkC, hkind⟩ := hK.1 ci _ hc
  obtain ⟨cf, kf, fi, f, hi, hsl⟩ := hS k hk
  have hlay := hts _ (hin _ (u_in_lay hk))
  unfold u_lay at hlay
  rw [if_neg (by rw [hfin]; decide)] at hlay
  have hst := (u_facts hfc hkC (u_lays hts hin hk) hi).1
  have h6 := u_store hfc hkC hkind hlay hi (hty k hk) hn hfit
  subst hsame
  refine va_WputK hexec hb (f := f) hown (va_Nw.use rfl (hNW _ hlink)) hi hst (by rw [q2]; exact h6) q1 q3 (by rw [hsl]; exact k2_hasslot (q4 k hk)) rfl rfl hdg fun H' e1 e2 e3 => ?_
  rw [hsl] at e1 ⊢
  exact kk H' _ (hd.set he hU e2 ⟨_, hc, t_OB.to (V := updV (vp_V fs) k v) ⟨_, e1, q2, q3, t_set q4 hap hk v⟩ (fun j _ => vp_updV_set hl v j)⟩ e3)
theorem ziald (hC : Cx G p c m s args own cc nL) (hd : Dy G ad ow Z s H locs) {o i n : Nat} {f : Nat → Int32} (he : ent G ad Z o i = some (inA (gI G) n f)) {x : Int32} (hin : vp_in x n) (hdg : decode cc pc = .ok (.iaload, 1))
    (kk : W p l e R s m args below meth c H locs cells slots Q (F0 m (pc + 1) ls (.int (f x.toNatClampNeg) :: rest))) : W p l e R s m args below meth c H locs cells slots Q (F0 m pc ls (.int x :: .ref (ad o i) :: rest)) :=
  va_iald (D := gD G) (cl := cls) (tys := tys G) hC.1 hC.2.1 hC.2.2.2.2.2.1 (hd.1.one he) 0 0 rfl rfl hin hdg kk
theorem zlald (hC : Cx G p c m s args own cc nL) (hd : Dy G ad ow Z s H locs) {o i n : Nat} {f : Nat → Int64} (he : ent G ad Z o i = some (lnA (gL G) n f)) {x : Int32} (hin : vp_in x n) (hdg : decode cc pc = .ok (.laload, 1))
    (kk : W p l e R s m args below meth c H locs cells slots Q (F0 m (pc + 1) ls (.long (f x.toNatClampNeg) :: rest))) : W p l e R s m args below meth c H locs cells slots Q (F0 m pc ls (.int x :: .ref (ad o i) :: rest)) :=
  va_lald (D := gD G) (cl := cls) (tys := tys G) hC.1 hC.2.1 hC.2.2.2.2.2.1 (hd.1.one he) 0 1 rfl rfl hin hdg kk
theorem zzald (hC : Cx G p c m s args own cc nL) (hd : Dy G ad ow Z s H locs) {o i n : Nat} {f : Nat → Int32} (he : ent G ad Z o i = some (inA (gZ G) n f)) {x : Int32} (hin : vp_in x n) (hdg : decode cc pc = .ok (.baload, 1))
    (kk : W p l e R s m args below meth c H locs cells slots Q (F0 m (pc + 1) ls (.int (f x.toNatClampNeg) :: rest))) : W p l e R s m args below meth c H locs cells slots Q (F0 m pc ls (.int x :: .ref (ad o i) :: rest)) :=
  va_zald (D := gD G) (cl := cls) (tys := tys G) hC.1 hC.2.1 hC.2.2.2.2.2.1 (hd.1.one he) 0 2 rfl rfl hin hdg kk
theorem zaaldO (hC : Cx G p c m s args own cc nL) (hd : Dy G ad ow Z s H locs) {o i n : Nat} {f : Nat → Option Nat} (he : ent G ad Z o i = some (rfA (gO G) n f)) {x : Int32} (hin : vp_in x n) (hdg : decode cc pc = .ok (.aaload, 1))
    (kk : W p l e R s m args below meth c H locs cells slots Q (F0 m (pc + 1) ls (va_rf (f x.toNatClampNeg) :: rest))) : W p l e R s m args below meth c H locs cells slots Q (F0 m pc ls (.int x :: .ref (ad o i) :: rest)) :=
  va_aldq (D := gD G) (cl := cls) (tys := tys G) hC.1 hC.2.1 hC.2.2.2.2.2.1 (hd.1.one he) 0 3 rfl rfl hin hdg kk
theorem zaaldP (hC : Cx G p c m s args own cc nL) (hd : Dy G ad ow Z s H locs) {o i n : Nat} {f : Nat → Option Nat} (he : ent G ad Z o i = some (rfA (gP G) n f)) {x : Int32} (hin : vp_in x n) (hdg : decode cc pc = .ok (.aaload, 1))
    (kk : W p l e R s m args below meth c H locs cells slots Q (F0 m (pc + 1) ls (va_rf (f x.toNatClampNeg) :: rest))) : W p l e R s m args below meth c H locs cells slots Q (F0 m pc ls (.int x :: .ref (ad o i) :: rest)) :=
  va_aldq (D := gD G) (cl := cls) (tys := tys G) hC.1 hC.2.1 hC.2.2.2.2.2.1 (hd.1.one he) 0 4 rfl rfl hin hdg kk
theorem zaaldK (hC : Cx G p c m s args own cc nL) (hd : Dy G ad ow Z s H locs) {o i n : Nat} {f : Nat → Option Nat} (he : ent G ad Z o i = some (rfA (gK G) n f)) {x : Int32} (hin : vp_in x n) (hdg : decode cc pc = .ok (.aaload, 1))
    (kk : W p l e R s m args below meth c H locs cells slots Q (F0 m (pc + 1) ls (va_rf (f x.toNatClampNeg) :: rest))) : W p l e R s m args below meth c H locs cells slots Q (F0 m pc ls (.int x :: .ref (ad o i) :: rest)) :=
  va_aldq (D := gD G) (cl := cls) (tys := tys G) hC.1 hC.2.1 hC.2.2.2.2.2.1 (hd.1.one he) 0 5 rfl rfl hin hdg kk
theorem ziast (hC : Cx G p c m s args own cc nL) (hd : Dy G ad ow Z s H locs) {o i n : Nat} {f : Nat → Int32} (he : ent G ad Z o i = some (inA (gI G) n f)) {x : Int32} {y : Int32} (hin : vp_in x n) (hU : Up G ad Z Z' o i (inA (gI G) n (upd f x.toNatClampNeg y))) (hdg : decode cc pc = .ok (.iastore, 1))
    (kk : ∀ (H1 : Heap) (locs1 : List Loc), Dy G ad ow Z' s H1 locs1 → W p l e R s m args below meth c H1 locs1 cells slots Q (F0 m (pc + 1) ls rest)) : W p l e R s m args below meth c H locs cells slots Q (F0 m pc ls (.int y :: .int x :: .ref (ad o i) :: rest)) := by
  have hK := hC.2.2.2.2.2.1
  refine W.iast hC.1 hC.2.1 (hd.1 o i _ he).1 ((hK.2 0 _ rfl).1 n (fun j => .int (f j))) (fun q => by cases q) (by show ¬ (x < 0 ∨ (arrV _ _ _).slots.size ≤ _); rw [arrV_size]; exact hin) rfl rfl hdg fun H1 e z oq => ?_
  refine kk H1 _ (hd.set he hU z ?_ oq)
  show H1[ad o i]? = some (vp_cell _ _)
  rw [e]
  rw [vp_cell_i, vp_cell_i, arrV_store]
  congr 2
  funext q
  by_cases hq : q = x.toNatClampNeg
  · subst hq
    simp [updV, upd]
    try rfl
  · simp [updV, upd, hq]
theorem zlast (hC : Cx G p c m s args own cc nL) (hd : Dy G ad ow Z s H locs) {o i n : Nat} {f : Nat → Int64} (he : ent G ad Z o i = some (lnA (gL G) n f)) {x : Int32} {y : Int64} (hin : vp_in x n) (hU : Up G ad Z Z' o i (lnA (gL G) n (vp_updL f x.toNatClampNeg y))) (hdg : decode cc pc = .ok (.lastore, 1))
    (kk : ∀ (H1 : Heap) (locs1 : List Loc), Dy G ad ow Z' s H1 locs1 → W p l e R s m args below meth c H1 locs1 cells slots Q (F0 m (pc + 1) ls rest)) : W p l e R s m args below meth c H locs cells slots Q (F0 m pc ls (.long y :: .int x :: .ref (ad o i) :: rest)) := by
  have hK := hC.2.2.2.2.2.1
  refine W.last hC.1 hC.2.1 (hd.1 o i _ he).1 ((hK.2 1 _ rfl).1 n (fun j => .long (f j))) (fun q => by cases q) (by show ¬ (x < 0 ∨ (arrV _ _ _).slots.size ≤ _); rw [arrV_size]; exact hin) rfl rfl hdg fun H1 e z oq => ?_
  refine kk H1 _ (hd.set he hU z ?_ oq)
  show H1[ad o i]? = some (vp_cell _ _)
  rw [e]
  rw [vp_cell_l, vp_cell_l, arrV_store]
  congr 2
  funext q
  by_cases hq : q = x.toNatClampNeg
  · subst hq
    simp [updV, vp_updL]
    try rfl
  · simp [updV, vp_updL, hq]
theorem zzast (hC : Cx G p c m s args own cc nL) (hd : Dy G ad ow Z s H locs) {o i n : Nat} {f : Nat → Int32} (he : ent G ad Z o i = some (inA (gZ G) n f)) {x : Int32} {y : Int32} (hin : vp_in x n) (hU : Up G ad Z Z' o i (inA (gZ G) n (upd f x.toNatClampNeg (vp_nar .boolean y)))) (hdg : decode cc pc = .ok (.bastore, 1))
    (kk : ∀ (H1 : Heap) (locs1 : List Loc), Dy G ad ow Z' s H1 locs1 → W p l e R s m args below meth c H1 locs1 cells slots Q (F0 m (pc + 1) ls rest)) : W p l e R s m args below meth c H locs cells slots Q (F0 m pc ls (.int y :: .int x :: .ref (ad o i) :: rest)) := by
  have hK := hC.2.2.2.2.2.1
  refine W.zast hC.1 hC.2.1 (hd.1 o i _ he).1 ((hK.2 2 _ rfl).1 n (fun j => .int (f j))) (fun q => by cases q) (by show ¬ (x < 0 ∨ (arrV _ _ _).slots.size ≤ _); rw [arrV_size]; exact hin) rfl rfl hdg fun H1 e z oq => ?_
  refine kk H1 _ (hd.set he hU z ?_ oq)
  show H1[ad o i]? = some (vp_cell _ _)
  rw [e]
  rw [vp_cell_i, vp_cell_i, arrV_store]
  congr 2
  funext q
  by_cases hq : q = x.toNatClampNeg
  · subst hq
    simp [updV, upd, vp_nar]
    try rfl
  · simp [updV, upd, hq]
theorem zaastK (hC : Cx G p c m s args own cc nL) (hd : Dy G ad ow Z s H locs) {o i n : Nat} {f : Nat → Option Nat} (he : ent G ad Z o i = some (rfA (gK G) n f)) {k : Nat} {fs : List Value} (hv : ent G ad Z 1 k = some (.inr (1, fs))) {x : Int32} (hin : vp_in x n) (hU : Up G ad Z Z' o i (rfA (gK G) n (va_up f x.toNatClampNeg (some (ad 1 k))))) (hdg : decode cc pc = .ok (.aastore, 1))
    (kk : ∀ (H1 : Heap) (locs1 : List Loc), Dy G ad ow Z' s H1 locs1 → W p l e R s m args below meth c H1 locs1 cells slots Q (F0 m (pc + 1) ls rest)) : W p l e R s m args below meth c H locs cells slots Q (F0 m pc ls (.ref (ad 1 k) :: .int x :: .ref (ad o i) :: rest)) := by
  have hK := hC.2.2.2.2.2.1
  have hca : va_Nw (.castable "KeyGraph$Key" "KeyGraph$Key") s := hC.2.2.2.2.2.2.1 _ z_887
  have hlt : x.toNatClampNeg < n := Nat.not_le.mp fun q => hin (Or.inr q)
  have h0 : ¬ x < 0 := fun q => hin (Or.inl q)
  obtain ⟨cellV, g1, g3, g2⟩ := va_recv (q := ("KeyGraph$Key", F_Key, 18)) hK (hd.1.one hv) rfl (q0 := 0) rfl
  obtain ⟨kA, comp, k1, k2, k3, -⟩ := (hK.2 5 _ rfl).2
  obtain ⟨kE, hkE, -⟩ := Vm.findClass_spec k3
  obtain ⟨kC, hkC, -⟩ := Vm.findClass_spec g2
  obtain ⟨c0, t1, f1, f2, f3⟩ := Cond.castable_spec (va_Nw.use (A := args) rfl hca)
  cases g2.symm.trans f1
  cases k3.symm.trans f2
  refine W.aast hC.1 hC.2.1 (hd.1 o i _ he).1 (fun q h => by cases h) (fun h => by cases h) k1 k2 rfl hkE ⟨h0, by show _ < (arrV _ _ _).slots.size; rw [arrV_size]; exact hlt⟩ g1 (fun q h => by rw [h] at g3; cases g3) hkC f3 rfl rfl hdg fun H1 e z oq => ?_
  refine kk H1 _ (hd.set he hU z ?_ oq)
  show H1[ad o i]? = some (vp_cell _ _)
  rw [e]
  rw [vp_cell_q, vp_cell_q, arrV_store]
  congr 2
  funext q
  by_cases hq : q = x.toNatClampNeg
  · subst hq
    simp [updV, va_up, va_rf]
  · simp [updV, va_up, hq]
theorem zaastO (hC : Cx G p c m s args own cc nL) (hd : Dy G ad ow Z s H locs) {o i n : Nat} {f : Nat → Option Nat} (he : ent G ad Z o i = some (rfA (gO G) n f)) {k : Nat} {fs : List Value} (hv : ent G ad Z 1 k = some (.inr (1, fs))) {x : Int32} (hin : vp_in x n) (hU : Up G ad Z Z' o i (rfA (gO G) n (va_up f x.toNatClampNeg (some (ad 1 k))))) (hdg : decode cc pc = .ok (.aastore, 1))
    (kk : ∀ (H1 : Heap) (locs1 : List Loc), Dy G ad ow Z' s H1 locs1 → W p l e R s m args below meth c H1 locs1 cells slots Q (F0 m (pc + 1) ls rest)) : W p l e R s m args below meth c H locs cells slots Q (F0 m pc ls (.ref (ad 1 k) :: .int x :: .ref (ad o i) :: rest)) := by
  have hK := hC.2.2.2.2.2.1
  have hca : va_Nw (.castable "KeyGraph$Key" "java/lang/Object") s := hC.2.2.2.2.2.2.1 _ z_894
  have hlt : x.toNatClampNeg < n := Nat.not_le.mp fun q => hin (Or.inr q)
  have h0 : ¬ x < 0 := fun q => hin (Or.inl q)
  obtain ⟨cellV, g1, g3, g2⟩ := va_recv (q := ("KeyGraph$Key", F_Key, 18)) hK (hd.1.one hv) rfl (q0 := 0) rfl
  obtain ⟨kA, comp, k1, k2, k3, -⟩ := (hK.2 3 _ rfl).2
  obtain ⟨kE, hkE, -⟩ := Vm.findClass_spec k3
  obtain ⟨kC, hkC, -⟩ := Vm.findClass_spec g2
  obtain ⟨c0, t1, f1, f2, f3⟩ := Cond.castable_spec (va_Nw.use (A := args) rfl hca)
  cases g2.symm.trans f1
  cases k3.symm.trans f2
  refine W.aast hC.1 hC.2.1 (hd.1 o i _ he).1 (fun q h => by cases h) (fun h => by cases h) k1 k2 rfl hkE ⟨h0, by show _ < (arrV _ _ _).slots.size; rw [arrV_size]; exact hlt⟩ g1 (fun q h => by rw [h] at g3; cases g3) hkC f3 rfl rfl hdg fun H1 e z oq => ?_
  refine kk H1 _ (hd.set he hU z ?_ oq)
  show H1[ad o i]? = some (vp_cell _ _)
  rw [e]
  rw [vp_cell_q, vp_cell_q, arrV_store]
  congr 2
  funext q
  by_cases hq : q = x.toNatClampNeg
  · subst hq
    simp [updV, va_up, va_rf]
  · simp [updV, va_up, hq]
theorem zaastN (hC : Cx G p c m s args own cc nL) (hd : Dy G ad ow Z s H locs) {o i n : Nat} {f : Nat → Option Nat} (he : ent G ad Z o i = some (rfA (gO G) n f)) {x : Int32} (hin : vp_in x n) (hU : Up G ad Z Z' o i (rfA (gO G) n (va_up f x.toNatClampNeg none))) (hdg : decode cc pc = .ok (.aastore, 1))
    (kk : ∀ (H1 : Heap) (locs1 : List Loc), Dy G ad ow Z' s H1 locs1 → W p l e R s m args below meth c H1 locs1 cells slots Q (F0 m (pc + 1) ls rest)) : W p l e R s m args below meth c H locs cells slots Q (F0 m pc ls (.null :: .int x :: .ref (ad o i) :: rest)) := by
  have hK := hC.2.2.2.2.2.1
  refine va_WaastN (C := "java/lang/Object") hC.1 hC.2.1 (hd.1 o i _ he).1 ((hK.2 3 _ rfl).1 n (fun j => va_rf (f j))) (fun h => by cases h) (by show ¬ (x < 0 ∨ (arrV _ _ _).slots.size ≤ _); rw [arrV_size]; exact hin) rfl rfl hdg fun H1 e z oq => ?_
  refine kk H1 _ (hd.set he hU z ?_ oq)
  show H1[ad o i]? = some (vp_cell _ _)
  rw [e]
  rw [vp_cell_q, vp_cell_q, arrV_store]
  congr 2
  funext q
  by_cases hq : q = x.toNatClampNeg
  · subst hq
    simp [updV, va_up, va_rf]
  · simp [updV, va_up, hq]
theorem zalen (hC : Cx G p c m s args own cc nL) (hd : Dy G ad ow Z s H locs) {o i : Nat} {cA : ClassId} {x : vp_A} (he : ent G ad Z o i = some (.inl (cA, x))) (t0 : Nat) {ty : FieldType} (ht : (tys G)[t0]? = some (cA, ty)) {v : Int32} (hv : Int32.ofNat x.1 = v) (hdg : decode cc pc = .ok (.arraylength, 1))
    (kk : W p l e R s m args below meth c H locs cells slots Q (F0 m (pc + 1) ls (.int v :: rest))) : W p l e R s m args below meth c H locs cells slots Q (F0 m pc ls (.ref (ad o i) :: rest)) :=
  va_alen (D := gD G) (cl := cls) (tys := tys G) hC.1 hC.2.1 hC.2.2.2.2.2.1 (hd.1.one he) 0 t0 rfl ht hv hdg kk
theorem zcast (hC : Cx G p c m s args own cc nL) (hd : Dy G ad ow Z s H locs) {k : Nat} {fs : List Value} (he : ent G ad Z 1 k = some (.inr (1, fs))) {index : Nat} (hl : Cond.classLink own index "KeyGraph$Key" ∈ TT) (hdg : decode cc pc = .ok (.checkcast index, 3))
    (kk : W p l e R s m args below meth c H locs cells slots Q (F0 m (pc + 3) ls (.ref (ad 1 k) :: rest))) : W p l e R s m args below meth c H locs cells slots Q (F0 m pc ls (.ref (ad 1 k) :: rest)) :=
  va_castY hC.1 hC.2.1 hC.2.2.2.1 (hC.2.2.2.2.1 _ hl) (hC.2.2.2.2.2.2.1 _ z_887) (va_recv (q := ("KeyGraph$Key", F_Key, 18)) hC.2.2.2.2.2.1 (hd.1.one he) rfl (q0 := 0) rfl) hdg kk
/-! contracts whose answer and whose new state are functions of the old ones -/
def zPc (G : Gt) (ad : Nat → Nat → Nat) (ow : Nat → Nat × Nat) (Z : Zt) (av : List Value) : Array Value → State → Prop := va_Pc av (fun U => HP G ad ow Z U.heap ∧ EV G U)
def Qd (G : Gt) (ad : Nat → Nat → Nat) (ow : Nat → Nat × Nat) (Z : Zt) (v : Option Value) : Array Value → State → Outcome → State → Prop := fun _ st oc t => oc = .returned v ∧ HP G ad ow Z t.heap ∧ va_F (zA G) st t
/-- .. or only related to them: the world behind the call is one of which 'post' holds -/
def Qg (G : Gt) (post : (Nat → Nat → Nat) → (Nat → Nat × Nat) → Zt → Option Value → Prop) : Array Value → State → Outcome → State → Prop := fun _ st oc t => ∃ ad ow Z v, oc = .returned v ∧ post ad ow Z v ∧ HP G ad ow Z t.heap ∧ va_F (zA G) st t
theorem zPc.blind {av : List Value} : FrameBlind (zPc G ad ow Z av) := fun a U g mk h => ⟨h.1, h.2.1, h.2.2.calling g mk a⟩
theorem zPc.of (hC : Cx G p c m s args own cc nL) (hd : Dy G ad ow Z s H locs) (av : List Value) (U : State) (hU : U.heap = H) (hW : s.WarmedH U.vm) : zPc G ad ow Z av av.toArray U := ⟨rfl, by rw [hU]; exact hd.1, hC.2.2.2.2.2.warm hd.2.1 hU hW⟩
end
theorem zopen {l : Launch} {G : Gt} {ad : Nat → Nat → Nat} {ow : Nat → Nat × Nat} {Z : Zt} {y : MethodName} {cc : ByteArray} {maxL : Nat} {ret : Option FieldType} {ws : List Cond} {rm : Room} {Qc : Array Value → State → Outcome → State → Prop} {mc ms : Nat} {av : List Value} (hy : plainName y.cls = true) (hw : ws = Cond.code y cc maxL ret :: TT) (hl : (lg_sl av).length ≤ maxL)
    (body : ∀ p e s m below meth c ls, Cx G p c m s av.toArray y.cls cc maxL → meth.sig.returnType = ret → meth.locks = false → meth.name = y.name → Dy G ad ow Z s s.heap [] → lv_has ls maxL (lv_args 0 av) →
      W p l e rm s m av.toArray below meth c s.heap [] 0 0 (MQ below Qc av.toArray s mc ms (zA G)) (F0 m 0 ls [])) : Met l y ws rm (zPc G ad ow Z av) Qc mc ms (zA G) := by
  refine Met.ofW (cc := cc) (maxL := maxL) (ret := ret) hy hw ?_
  intro p e s m args below meth c s₁ B hml hv
  obtain ⟨rfl, hP, hE⟩ := hv
  have hts := atoms_spec (ws := ws) B.pre
  rw [lg_entry_eq]
  exact body p e s m below meth c _ ⟨B.exec, B.bytes, hml, findClass_of_methodNamed B.named, fun w hw' => hts w (by rw [hw]; exact List.mem_cons_of_mem _ hw'), hE⟩ B.returns B.notSynchronized (name_of_methodNamed B.named B.method).1 ⟨hP, va_S.rf, hE.2.2.2.2.2.2.2.2⟩ (lv_entry av hl)
section
variable {p : Program} {l : Launch} {e : Env} {R : Room} {s : State} {m : MethodId} {args : Array Value} {below : List Frame} {meth : Method} {c : Code} {H : Heap} {locs : List Loc} {cells slots : Nat} {Q : State → Prop} {cc : ByteArray} {pc nL : Nat} {ls : Array Slot} {rest : List Value} {G : Gt} {ad : Nat → Nat → Nat} {ow : Nat → Nat × Nat} {Z Z' : Zt} {own : String}
variable {y x : MethodName} {bytes : ByteArray} {maxL mc ms n index : Nat} {ret : Option FieldType} {rm : Room} {Pc : Array Value → State → Prop} {Qc : Array Value → State → Outcome → State → Prop} {As st0 : List Value} {a9 : Array Value} {v : Option Value} {ad' : Nat → Nat → Nat} {ow' : Nat → Nat × Nat}
theorem gd_TT (h : Cond.code y bytes maxL ret ∈ TT) : GoodIn TT (Cond.code y bytes maxL ret :: TT) := by
  intro w hw
  rcases List.mem_cons.mp hw with rfl | hw
  · exact ⟨h, good_of_word (List.mem_filter.mp h).2⟩
  · exact ⟨hw, good_of_word (List.mem_filter.mp hw).2⟩
theorem gd_app {a b : List Cond} (h1 : ∀ w ∈ a, w ∈ TT) (h2 : GoodIn TT b) : GoodIn TT (a ++ b) := by
  intro w hw
  rcases List.mem_append.mp hw with hw | hw
  · exact ⟨h1 w hw, good_of_word (List.mem_filter.mp (h1 w hw)).2⟩
  · exact h2 w hw
/-- behind a call of a contract with a determined end -/
theorem zback (hd : Dy G ad ow Z s H locs) (hr : va_Run p l e R s m args below meth c H locs cells slots mc ms (F0 m pc ls st0) rest (Qd G ad' ow' Z' v a9) (zA G)) {cells' slots' : Nat} (hc1 : cells + mc = cells') (hc2 : slots + ms = slots')
    (kk : ∀ (H1 : Heap) (locs1 : List Loc), Dy G ad' ow' Z' s H1 locs1 → W p l e R s m args below meth c H1 locs1 cells' slots' Q (F0 m (pc + 3) ls (v.toList ++ rest))) : W p l e R s m args below meth c H locs cells slots Q (F0 m pc ls st0) := by
  subst hc1; subst hc2
  intro T hT X
  obtain ⟨v', st₀, t, T', L, h0, X', hL, e1, e2, ⟨hv, hp, hz, hk⟩, st⟩ := hr T hT X
  cases hv
  rw [h0] at hz hk
  obtain ⟨t2, a1, b1⟩ := kk T'.heap (locs ++ L) ⟨by rw [e1]; exact hp, ⟨Nat.le_trans hd.2.1.1 (by rw [e1]; exact hz), fun q h1 h2 => by rw [e1, hk q (Nat.lt_of_lt_of_le h1 hd.2.1.1) h2]; exact hd.2.1.2.1 q h1 h2, fun q hq => by
      rcases List.mem_append.mp hq with h | h
      · exact hd.2.1.2.2 q h
      · exact hL q h⟩, hd.2.2⟩ T' rfl X'
  exact ⟨t2, st t2 a1, b1⟩
theorem zbackg {post : (Nat → Nat → Nat) → (Nat → Nat × Nat) → Zt → Option Value → Prop} (hd : Dy G ad ow Z s H locs) (hr : va_Run p l e R s m args below meth c H locs cells slots mc ms (F0 m pc ls st0) rest (Qg G post a9) (zA G)) {cells' slots' : Nat} (hc1 : cells + mc = cells') (hc2 : slots + ms = slots')
    (kk : ∀ (ad' : Nat → Nat → Nat) (ow' : Nat → Nat × Nat) (Z' : Zt) (v : Option Value) (H1 : Heap) (locs1 : List Loc), post ad' ow' Z' v → Dy G ad' ow' Z' s H1 locs1 → W p l e R s m args below meth c H1 locs1 cells' slots' Q (F0 m (pc + 3) ls (v.toList ++ rest))) : W p l e R s m args below meth c H locs cells slots Q (F0 m pc ls st0) := by
  subst hc1; subst hc2
  intro T hT X
  obtain ⟨v', st₀, t, T', L, h0, X', hL, e1, e2, ⟨ad', ow', Z', v, hv, hpo, hp, hz, hk⟩, st⟩ := hr T hT X
  cases hv
  rw [h0] at hz hk
  obtain ⟨t2, a1, b1⟩ := kk ad' ow' Z' v' T'.heap (locs ++ L) hpo ⟨by rw [e1]; exact hp, ⟨Nat.le_trans hd.2.1.1 (by rw [e1]; exact hz), fun q h1 h2 => by rw [e1, hk q (Nat.lt_of_lt_of_le h1 hd.2.1.1) h2]; exact hd.2.1.2.1 q h1 h2, fun q hq => by
      rcases List.mem_append.mp hq with h | h
      · exact hd.2.1.2.2 q h
      · exact hL q h⟩, hd.2.2⟩ T' rfl X'
  exact ⟨t2, st t2 a1, b1⟩
/-- invokevirtual of a method of the receiver's own class -/
theorem zrunV (hC : Cx G p c m s args own cc nL) (hd : Dy G ad ow Z s H locs) {o i ci : Nat} {fs : List Value} (he : ent G ad Z o i = some (.inr (ci, fs))) {C : String} {T : u_T} {N : Nat} (hc : cls[ci]? = some (C, T, N)) (hM : Met l y (Cond.code y bytes maxL ret :: TT) rm (zPc G ad ow Z (.ref (ad o i) :: As)) Qc mc ms (zA G)) (h1 : Cond.methodLink own index y ∈ TT) (h2 : Cond.instanceMethod y ∈ TT) (h3 : Cond.selects C y y ∈ TT) (h4 : Cond.initialized C ∈ TT) (h5 : Cond.code y bytes maxL ret ∈ TT) (hrc : rm.cells = mc) (hrs : rm.slots = ms) (hn : As.length = n)
    (hdd : y.cls = C ∧ y.cls ≠ "java/lang/invoke/MethodHandle" ∧ y.cls ≠ "java/lang/invoke/VarHandle" ∧ (parseMethodDescriptor y.desc).map (fun d => d.parameters.length) = some n) (hR : rm.frames + 1 ≤ R.frames ∧ 8 + (maxL + 11) + rm.locals ≤ R.locals) (hstack : st0 = As.reverse ++ .ref (ad o i) :: rest) (hls : ls.size = nL) (hW : (rest.map fun v => v.category).sum ≤ 8) (hdg : decode cc pc = .ok (.invokevirtual index, 3)) (hf : cells + mc ≤ R.cells ∧ slots + ms ≤ R.slots) :
    va_Run p l e R s m args below meth c H locs cells slots mc ms (F0 m pc ls st0) rest (Qc (Value.ref (ad o i) :: As).toArray) (zA G) :=
  va_runV (As := As) (rest := rest) ⟨hC.1, hC.2.1, hC.2.2.1, hC.2.2.2.1, hC.2.2.2.2.1⟩ hM (cwV n hC.2.2.2.2.1 (gd_app (by intro w hw; simp only [List.mem_cons, List.not_mem_nil, or_false] at hw; rcases hw with rfl | rfl | rfl | rfl <;> assumption) (gd_TT h5)) rfl hrc hrs hdd hR) ⟨zPc.blind, va_recv (q := (C, T, N)) hC.2.2.2.2.2.1 (hd.1.one he) hc (q0 := 0) rfl, fun U hU hW => zPc.of hC hd _ U hU hW⟩ rfl hn hls hstack (lv_room hW) hdg hf
/-- invokestatic of a method of the same class -/
theorem zrunS (hC : Cx G p c m s args own cc nL) (hd : Dy G ad ow Z s H locs) (hM : Met l y (Cond.code y bytes maxL ret :: TT) rm (zPc G ad ow Z As) Qc mc ms (zA G)) (h1 : Cond.methodLink own index y ∈ TT) (h2 : Cond.static y ∈ TT) (h4 : Cond.initialized y.cls ∈ TT) (h5 : Cond.code y bytes maxL ret ∈ TT) (hrc : rm.cells = mc) (hrs : rm.slots = ms) (hn : As.length = n)
    (hdd : y.cls ≠ "java/lang/invoke/MethodHandle" ∧ y.cls ≠ "java/lang/invoke/VarHandle" ∧ (parseMethodDescriptor y.desc).map (fun d => d.parameters.length) = some n) (hR : rm.frames + 1 ≤ R.frames ∧ 8 + (maxL + 11) + rm.locals ≤ R.locals) (hstack : st0 = As.reverse ++ rest) (hls : ls.size = nL) (hW : (rest.map fun v => v.category).sum ≤ 8) (hdg : decode cc pc = .ok (.invokestatic index, 3)) (hf : cells + mc ≤ R.cells ∧ slots + ms ≤ R.slots) :
    va_Run p l e R s m args below meth c H locs cells slots mc ms (F0 m pc ls st0) rest (Qc As.toArray) (zA G) :=
  va_runS (As := As) (rest := rest) ⟨hC.1, hC.2.1, hC.2.2.1, hC.2.2.2.1, hC.2.2.2.2.1⟩ hM (va_cwS n hC.2.2.2.2.1 (gd_app (by intro w hw; simp only [List.mem_cons, List.not_mem_nil, or_false] at hw; rcases hw with rfl | rfl | rfl <;> assumption) (gd_TT h5)) rfl hrc hrs hdd hR) ⟨zPc.blind, fun U hU hW => zPc.of hC hd _ U hU hW⟩ rfl hn hls hstack (lv_room hW) hdg hf
/-- the end of a method -/
theorem zret_i {x : Int32} (hC : Cx G p c m s args own cc nL) (hd : Dy G ad ow Z s H locs) (hr : meth.sig.returnType = some .int) (hlk : meth.locks = false) (hdg : decode cc pc = .ok (.ireturn, 1)) : W p l e R s m args below meth c H locs cells slots (MQ below (Qd G ad ow Z (some (.int x))) args s cells slots (zA G)) (F0 m pc ls [.int x]) :=
  W.iret hC.1 hC.2.1 hr (fun t ht _ => ⟨rfl, by rw [ht]; exact hd.1, hd.2.1.F ht⟩) hd.2.1.2.2 hdg hlk
theorem zret_z {x : Int32} (hC : Cx G p c m s args own cc nL) (hd : Dy G ad ow Z s H locs) (hr : meth.sig.returnType = some .boolean) (hn : x = 0 ∨ x = 1) (hlk : meth.locks = false) (hdg : decode cc pc = .ok (.ireturn, 1)) : W p l e R s m args below meth c H locs cells slots (MQ below (Qd G ad ow Z (some (.int x))) args s cells slots (zA G)) (F0 m pc ls [.int x]) :=
  W.zret hC.1 hC.2.1 hr (by rcases hn with rfl | rfl <;> decide) (fun t ht _ => ⟨rfl, by rw [ht]; exact hd.1, hd.2.1.F ht⟩) hd.2.1.2.2 hdg hlk
theorem zret_l {x : Int64} (hC : Cx G p c m s args own cc nL) (hd : Dy G ad ow Z s H locs) (hr : meth.sig.returnType = some .long) (hlk : meth.locks = false) (hdg : decode cc pc = .ok (.lreturn, 1)) : W p l e R s m args below meth c H locs cells slots (MQ below (Qd G ad ow Z (some (.long x))) args s cells slots (zA G)) (F0 m pc ls [.long x]) :=
  W.lret hC.1 hC.2.1 hr (fun t ht _ => ⟨rfl, by rw [ht]; exact hd.1, hd.2.1.F ht⟩) hd.2.1.2.2 hdg hlk
theorem zret_v (hC : Cx G p c m s args own cc nL) (hd : Dy G ad ow Z s H locs) (hr : meth.sig.returnType = none) (hlk : meth.locks = false) (hdg : decode cc pc = .ok (.return_, 1)) : W p l e R s m args below meth c H locs cells slots (MQ below (Qd G ad ow Z none) args s cells slots (zA G)) (F0 m pc ls []) :=
  W.vret hC.1 hC.2.1 hr (fun t ht _ => ⟨rfl, by rw [ht]; exact hd.1, hd.2.1.F ht⟩) hd.2.1.2.2 hdg hlk
theorem zret_a {x : Nat} {rt : FieldType} (hC : Cx G p c m s args own cc nL) (hd : Dy G ad ow Z s H locs) (hr : meth.sig.returnType = some rt) (hrt : (∃ n, rt = .object n) ∨ ∃ t, rt = .array t) (hlk : meth.locks = false) (hdg : decode cc pc = .ok (.areturn, 1)) : W p l e R s m args below meth c H locs cells slots (MQ below (Qd G ad ow Z (some (.ref x))) args s cells slots (zA G)) (F0 m pc ls [.ref x]) :=
  W.aret hC.1 hC.2.1 hr hrt (Or.inr ⟨_, rfl⟩) (fun t ht _ => ⟨rfl, by rw [ht]; exact hd.1, hd.2.1.F ht⟩) hd.2.1.2.2 hdg hlk
/-- the state under another name -/
theorem Dy.eq (hd : Dy G ad ow Z s H locs) (h : Z = Z') : Dy G ad ow Z' s H locs := h ▸ hd
end
end
section
section
variable {p : Program} {l : Launch} {e : Env} {R : Room} {s : State} {m : MethodId} {args : Array Value} {below : List Frame} {meth : Method} {c : Code} {H : Heap} {locs : List Loc} {cells slots : Nat} {Q : State → Prop} {cc : ByteArray} {pc nL : Nat} {ls : Array Slot} {rest : List Value} {G : Gt} {ad : Nat → Nat → Nat} {ow : Nat → Nat × Nat} {Z Z' : Zt} {own : String}
theorem zclamp {k n : Nat} (hk : k < n) (hn : n ≤ 2147483647) : (nI k).toNatClampNeg = k := nI_clamp (by omega)
theorem zin {k n : Nat} (hk : k < n) (hn : n ≤ 2147483647) : vp_in (nI k) n := vp_in_nI hk (by omega)
theorem ziaI (hC : Cx G p c m s args own cc nL) (hd : Dy G ad ow Z s H locs) {o i n k : Nat} {f : Nat → Int32} (he : ent G ad Z o i = some (inA (gI G) n f)) (hk : k < n) (hn : n ≤ 2147483647) (hdg : decode cc pc = .ok (.iaload, 1))
    (kk : W p l e R s m args below meth c H locs cells slots Q (F0 m (pc + 1) ls (.int (f k) :: rest))) : W p l e R s m args below meth c H locs cells slots Q (F0 m pc ls (.int (nI k) :: .ref (ad o i) :: rest)) :=
  ziald hC hd he (zin hk hn) hdg (by rw [zclamp hk hn]; exact kk)
theorem ziaN (hC : Cx G p c m s args own cc nL) (hd : Dy G ad ow Z s H locs) {o i n k : Nat} {f : Nat → Nat} (he : ent G ad Z o i = some (inA (gI G) n (fun j => nI (f j)))) (hk : k < n) (hn : n ≤ 2147483647) (hdg : decode cc pc = .ok (.iaload, 1))
    (kk : W p l e R s m args below meth c H locs cells slots Q (F0 m (pc + 1) ls (.int (nI (f k)) :: rest))) : W p l e R s m args below meth c H locs cells slots Q (F0 m pc ls (.int (nI k) :: .ref (ad o i) :: rest)) :=
  ziald hC hd he (zin hk hn) hdg (by rw [zclamp hk hn]; exact kk)
theorem zlaI (hC : Cx G p c m s args own cc nL) (hd : Dy G ad ow Z s H locs) {o i n k : Nat} {f : Nat → Int64} (he : ent G ad Z o i = some (lnA (gL G) n f)) (hk : k < n) (hn : n ≤ 2147483647) (hdg : decode cc pc = .ok (.laload, 1))
    (kk : W p l e R s m args below meth c H locs cells slots Q (F0 m (pc + 1) ls (.long (f k) :: rest))) : W p l e R s m args below meth c H locs cells slots Q (F0 m pc ls (.int (nI k) :: .ref (ad o i) :: rest)) :=
  zlald hC hd he (zin hk hn) hdg (by rw [zclamp hk hn]; exact kk)
theorem zzaI (hC : Cx G p c m s args own cc nL) (hd : Dy G ad ow Z s H locs) {o i n k : Nat} {f : Nat → Int32} (he : ent G ad Z o i = some (inA (gZ G) n f)) (hk : k < n) (hn : n ≤ 2147483647) (hdg : decode cc pc = .ok (.baload, 1))
    (kk : W p l e R s m args below meth c H locs cells slots Q (F0 m (pc + 1) ls (.int (f k) :: rest))) : W p l e R s m args below meth c H locs cells slots Q (F0 m pc ls (.int (nI k) :: .ref (ad o i) :: rest)) :=
  zzald hC hd he (zin hk hn) hdg (by rw [zclamp hk hn]; exact kk)
theorem ziaS (hC : Cx G p c m s args own cc nL) (hd : Dy G ad ow Z s H locs) {o i n k : Nat} {f : Nat → Int32} {y : Int32} (he : ent G ad Z o i = some (inA (gI G) n f)) (hk : k < n) (hn : n ≤ 2147483647) (hU : Up G ad Z Z' o i (inA (gI G) n (upd f k y))) (hdg : decode cc pc = .ok (.iastore, 1))
    (kk : ∀ (H1 : Heap) (locs1 : List Loc), Dy G ad ow Z' s H1 locs1 → W p l e R s m args below meth c H1 locs1 cells slots Q (F0 m (pc + 1) ls rest)) : W p l e R s m args below meth c H locs cells slots Q (F0 m pc ls (.int y :: .int (nI k) :: .ref (ad o i) :: rest)) :=
  ziast hC hd he (zin hk hn) (by rw [zclamp hk hn]; exact hU) hdg kk
theorem zlaS (hC : Cx G p c m s args own cc nL) (hd : Dy G ad ow Z s H locs) {o i n k : Nat} {f : Nat → Int64} {y : Int64} (he : ent G ad Z o i = some (lnA (gL G) n f)) (hk : k < n) (hn : n ≤ 2147483647) (hU : Up G ad Z Z' o i (lnA (gL G) n (vp_updL f k y))) (hdg : decode cc pc = .ok (.lastore, 1))
    (kk : ∀ (H1 : Heap) (locs1 : List Loc), Dy G ad ow Z' s H1 locs1 → W p l e R s m args below meth c H1 locs1 cells slots Q (F0 m (pc + 1) ls rest)) : W p l e R s m args below meth c H locs cells slots Q (F0 m pc ls (.long y :: .int (nI k) :: .ref (ad o i) :: rest)) :=
  zlast hC hd he (zin hk hn) (by rw [zclamp hk hn]; exact hU) hdg kk
theorem zzaS (hC : Cx G p c m s args own cc nL) (hd : Dy G ad ow Z s H locs) {o i n k : Nat} {f : Nat → Int32} {y : Int32} (hy : y = 0 ∨ y = 1) (he : ent G ad Z o i = some (inA (gZ G) n f)) (hk : k < n) (hn : n ≤ 2147483647) (hU : Up G ad Z Z' o i (inA (gZ G) n (upd f k y))) (hdg : decode cc pc = .ok (.bastore, 1))
    (kk : ∀ (H1 : Heap) (locs1 : List Loc), Dy G ad ow Z' s H1 locs1 → W p l e R s m args below meth c H1 locs1 cells slots Q (F0 m (pc + 1) ls rest)) : W p l e R s m args below meth c H locs cells slots Q (F0 m pc ls (.int y :: .int (nI k) :: .ref (ad o i) :: rest)) :=
  zzast hC hd he (zin hk hn) (by rw [zclamp hk hn, show vp_nar .boolean y = y by rcases hy with rfl | rfl <;> decide]; exact hU) hdg kk
theorem zaddN {x y : Nat} (hexec : p.tables.exec = Jvm.exec) (hb : c.code = cc) (hdg : decode cc pc = .ok (.iadd, 1)) (k : W p l e R s m args below meth c H locs cells slots Q (F0 m (pc + 1) ls (.int (nI (x + y)) :: rest))) : W p l e R s m args below meth c H locs cells slots Q (F0 m pc ls (.int (nI y) :: .int (nI x) :: rest)) :=
  lv_iadd hexec hb hdg (by rw [nI_add]; exact k)
theorem zsubN {x y : Nat} (h : y ≤ x) (hexec : p.tables.exec = Jvm.exec) (hb : c.code = cc) (hdg : decode cc pc = .ok (.isub, 1)) (k : W p l e R s m args below meth c H locs cells slots Q (F0 m (pc + 1) ls (.int (nI (x - y)) :: rest))) : W p l e R s m args below meth c H locs cells slots Q (F0 m pc ls (.int (nI y) :: .int (nI x) :: rest)) :=
  lv_isub hexec hb hdg (by rw [pk_sub h]; exact k)
theorem zmulN {x y : Nat} (hexec : p.tables.exec = Jvm.exec) (hb : c.code = cc) (hdg : decode cc pc = .ok (.imul, 1)) (k : W p l e R s m args below meth c H locs cells slots Q (F0 m (pc + 1) ls (.int (nI (x * y)) :: rest))) : W p l e R s m args below meth c H locs cells slots Q (F0 m pc ls (.int (nI y) :: .int (nI x) :: rest)) :=
  lv_imul hexec hb hdg (by rw [pk_mul]; exact k)
theorem by_contra9 {a : Prop} (h : ¬ ¬ a) : a := Classical.byContradiction h
theorem zc_eq {x y : Nat} {off : Int} {tgt : Nat} (hx : x ≤ 2147483647) (hy : y ≤ 2147483647) (hexec : p.tables.exec = Jvm.exec) (hb : c.code = cc) (hdg : decode cc pc = .ok (.if_icmp .eq off, 3)) (ht : (pc : Int) + off = (tgt : Int))
    (kt : x = y → W p l e R s m args below meth c H locs cells slots Q (F0 m tgt ls rest)) (kf : ¬ x = y → W p l e R s m args below meth c H locs cells slots Q (F0 m (pc + 3) ls rest)) : W p l e R s m args below meth c H locs cells slots Q (F0 m pc ls (.int (nI y) :: .int (nI x) :: rest)) :=
  lv_icmp_eq hexec hb hdg ht (fun h => kt ((nI_eq (by omega) (by omega)).mp h)) (fun h => kf (fun q => h (by rw [q])))
theorem zc_ne {x y : Nat} {off : Int} {tgt : Nat} (hx : x ≤ 2147483647) (hy : y ≤ 2147483647) (hexec : p.tables.exec = Jvm.exec) (hb : c.code = cc) (hdg : decode cc pc = .ok (.if_icmp .ne off, 3)) (ht : (pc : Int) + off = (tgt : Int))
    (kt : ¬ x = y → W p l e R s m args below meth c H locs cells slots Q (F0 m tgt ls rest)) (kf : x = y → W p l e R s m args below meth c H locs cells slots Q (F0 m (pc + 3) ls rest)) : W p l e R s m args below meth c H locs cells slots Q (F0 m pc ls (.int (nI y) :: .int (nI x) :: rest)) :=
  lv_icmp_ne hexec hb hdg ht (fun h => kt (fun q => h (by rw [q]))) (fun h => kf ((nI_eq (by omega) (by omega)).mp h))
theorem zc_lt {x y : Nat} {off : Int} {tgt : Nat} (hx : x ≤ 2147483647) (hy : y ≤ 2147483647) (hexec : p.tables.exec = Jvm.exec) (hb : c.code = cc) (hdg : decode cc pc = .ok (.if_icmp .lt off, 3)) (ht : (pc : Int) + off = (tgt : Int))
    (kt : x < y → W p l e R s m args below meth c H locs cells slots Q (F0 m tgt ls rest)) (kf : y ≤ x → W p l e R s m args below meth c H locs cells slots Q (F0 m (pc + 3) ls rest)) : W p l e R s m args below meth c H locs cells slots Q (F0 m pc ls (.int (nI y) :: .int (nI x) :: rest)) :=
  lv_icmp_lt hexec hb hdg ht (fun h => kt ((nI_ltI (by omega) (by omega)).mp h)) (fun h => kf (Nat.not_lt.mp fun q => h ((nI_ltI (by omega) (by omega)).mpr q)))
theorem zc_ge {x y : Nat} {off : Int} {tgt : Nat} (hx : x ≤ 2147483647) (hy : y ≤ 2147483647) (hexec : p.tables.exec = Jvm.exec) (hb : c.code = cc) (hdg : decode cc pc = .ok (.if_icmp .ge off, 3)) (ht : (pc : Int) + off = (tgt : Int))
    (kt : y ≤ x → W p l e R s m args below meth c H locs cells slots Q (F0 m tgt ls rest)) (kf : x < y → W p l e R s m args below meth c H locs cells slots Q (F0 m (pc + 3) ls rest)) : W p l e R s m args below meth c H locs cells slots Q (F0 m pc ls (.int (nI y) :: .int (nI x) :: rest)) :=
  lv_icmp_ge hexec hb hdg ht (fun h => kt ((nI_leI (by omega) (by omega)).mp h)) (fun h => kf (Nat.not_le.mp fun q => h ((nI_leI (by omega) (by omega)).mpr q)))
theorem zc_gt {x y : Nat} {off : Int} {tgt : Nat} (hx : x ≤ 2147483647) (hy : y ≤ 2147483647) (hexec : p.tables.exec = Jvm.exec) (hb : c.code = cc) (hdg : decode cc pc = .ok (.if_icmp .gt off, 3)) (ht : (pc : Int) + off = (tgt : Int))
    (kt : y < x → W p l e R s m args below meth c H locs cells slots Q (F0 m tgt ls rest)) (kf : x ≤ y → W p l e R s m args below meth c H locs cells slots Q (F0 m (pc + 3) ls rest)) : W p l e R s m args below meth c H locs cells slots Q (F0 m pc ls (.int (nI y) :: .int (nI x) :: rest)) :=
  lv_icmp_gt hexec hb hdg ht (fun h => kt ((nI_ltI (by omega) (by omega)).mp h)) (fun h => kf (Nat.not_lt.mp fun q => h ((nI_ltI (by omega) (by omega)).mpr q)))
theorem zc_le {x y : Nat} {off : Int} {tgt : Nat} (hx : x ≤ 2147483647) (hy : y ≤ 2147483647) (hexec : p.tables.exec = Jvm.exec) (hb : c.code = cc) (hdg : decode cc pc = .ok (.if_icmp .le off, 3)) (ht : (pc : Int) + off = (tgt : Int))
    (kt : x ≤ y → W p l e R s m args below meth c H locs cells slots Q (F0 m tgt ls rest)) (kf : y < x → W p l e R s m args below meth c H locs cells slots Q (F0 m (pc + 3) ls rest)) : W p l e R s m args below meth c H locs cells slots Q (F0 m pc ls (.int (nI y) :: .int (nI x) :: rest)) :=
  lv_icmp_le hexec hb hdg ht (fun h => kt ((nI_leI (by omega) (by omega)).mp h)) (fun h => kf (Nat.not_le.mp fun q => h ((nI_leI (by omega) (by omega)).mpr q)))
theorem zi_z {x : Nat} (h : x = 0) : ¬ 0 < x := fun q => by omega
theorem zi_p {x : Nat} (h : 0 < x) : ¬ x = 0 := fun q => by omega
theorem zc0 : (0 : Int32) = nI 0 := rfl
theorem zi_eq {x : Nat} {off : Int} {tgt : Nat} (hx : x ≤ 2147483647) (hexec : p.tables.exec = Jvm.exec) (hb : c.code = cc) (hdg : decode cc pc = .ok (.ifCond .eq off, 3)) (ht : (pc : Int) + off = (tgt : Int))
    (kt : x = 0 → W p l e R s m args below meth c H locs cells slots Q (F0 m tgt ls rest)) (kf : 0 < x → W p l e R s m args below meth c H locs cells slots Q (F0 m (pc + 3) ls rest)) : W p l e R s m args below meth c H locs cells slots Q (F0 m pc ls (.int (nI x) :: rest)) :=
  lv_if_eq hexec hb hdg ht (fun h => kt ((nI_eq (b := 0) (by omega) (by omega)).mp h)) (fun h => kf (Nat.pos_of_ne_zero fun q => h (by rw [q]; rfl)))
theorem zi_ne {x : Nat} {off : Int} {tgt : Nat} (hx : x ≤ 2147483647) (hexec : p.tables.exec = Jvm.exec) (hb : c.code = cc) (hdg : decode cc pc = .ok (.ifCond .ne off, 3)) (ht : (pc : Int) + off = (tgt : Int))
    (kt : 0 < x → W p l e R s m args below meth c H locs cells slots Q (F0 m tgt ls rest)) (kf : x = 0 → W p l e R s m args below meth c H locs cells slots Q (F0 m (pc + 3) ls rest)) : W p l e R s m args below meth c H locs cells slots Q (F0 m pc ls (.int (nI x) :: rest)) :=
  lv_if_ne hexec hb hdg ht (fun h => kt (Nat.pos_of_ne_zero fun q => h (by rw [q]; rfl))) (fun h => kf ((nI_eq (b := 0) (by omega) (by omega)).mp h))
theorem zi_gt {x : Nat} {off : Int} {tgt : Nat} (hx : x ≤ 2147483647) (hexec : p.tables.exec = Jvm.exec) (hb : c.code = cc) (hdg : decode cc pc = .ok (.ifCond .gt off, 3)) (ht : (pc : Int) + off = (tgt : Int))
    (kt : 0 < x → W p l e R s m args below meth c H locs cells slots Q (F0 m tgt ls rest)) (kf : x = 0 → W p l e R s m args below meth c H locs cells slots Q (F0 m (pc + 3) ls rest)) : W p l e R s m args below meth c H locs cells slots Q (F0 m pc ls (.int (nI x) :: rest)) :=
  lv_if_gt hexec hb hdg ht (fun h => kt ((nI_ltI (a := 0) (by omega) (by omega)).mp h)) (fun h => kf (Nat.eq_zero_of_not_pos fun q => h ((nI_ltI (a := 0) (by omega) (by omega)).mpr q)))
theorem zi_le {x : Nat} {off : Int} {tgt : Nat} (hx : x ≤ 2147483647) (hexec : p.tables.exec = Jvm.exec) (hb : c.code = cc) (hdg : decode cc pc = .ok (.ifCond .le off, 3)) (ht : (pc : Int) + off = (tgt : Int))
    (kt : x = 0 → W p l e R s m args below meth c H locs cells slots Q (F0 m tgt ls rest)) (kf : 0 < x → W p l e R s m args below meth c H locs cells slots Q (F0 m (pc + 3) ls rest)) : W p l e R s m args below meth c H locs cells slots Q (F0 m pc ls (.int (nI x) :: rest)) :=
  lv_if_le hexec hb hdg ht (fun h => kt (Nat.le_zero.mp ((nI_leI (b := 0) (by omega) (by omega)).mp h))) (fun h => kf (Nat.pos_of_ne_zero fun q => h (by rw [q]; exact Int32.le_refl _)))
end
section
variable {p : Program} {l : Launch} {e : Env} {R : Room} {s : State} {m : MethodId} {args : Array Value} {below : List Frame} {meth : Method} {c : Code} {H : Heap} {locs : List Loc} {cells slots : Nat} {Q : State → Prop} {cc : ByteArray} {pc nL : Nat} {ls : Array Slot} {rest : List Value} {G : Gt} {ad : Nat → Nat → Nat} {ow : Nat → Nat × Nat} {Z Z' : Zt} {own : String}
variable {mc ms : Nat} {st0 : List Value} {a9 : Array Value} {ad' : Nat → Nat → Nat} {ow' : Nat → Nat × Nat}
theorem zb_i {r : Int32} (hd : Dy G ad ow Z s H locs) (hr : va_Run p l e R s m args below meth c H locs cells slots 0 0 (F0 m pc ls st0) rest (Qd G ad' ow' Z' (some (.int r)) a9) (zA G))
    (kk : ∀ (H1 : Heap) (locs1 : List Loc), Dy G ad' ow' Z' s H1 locs1 → W p l e R s m args below meth c H1 locs1 cells slots Q (F0 m (pc + 3) ls (.int r :: rest))) : W p l e R s m args below meth c H locs cells slots Q (F0 m pc ls st0) :=
  zback hd hr rfl rfl kk
theorem zb_l {r : Int64} (hd : Dy G ad ow Z s H locs) (hr : va_Run p l e R s m args below meth c H locs cells slots 0 0 (F0 m pc ls st0) rest (Qd G ad' ow' Z' (some (.long r)) a9) (zA G))
    (kk : ∀ (H1 : Heap) (locs1 : List Loc), Dy G ad' ow' Z' s H1 locs1 → W p l e R s m args below meth c H1 locs1 cells slots Q (F0 m (pc + 3) ls (.long r :: rest))) : W p l e R s m args below meth c H locs cells slots Q (F0 m pc ls st0) :=
  zback hd hr rfl rfl kk
theorem zb_a {r : Nat} (hd : Dy G ad ow Z s H locs) (hr : va_Run p l e R s m args below meth c H locs cells slots 0 0 (F0 m pc ls st0) rest (Qd G ad' ow' Z' (some (.ref r)) a9) (zA G))
    (kk : ∀ (H1 : Heap) (locs1 : List Loc), Dy G ad' ow' Z' s H1 locs1 → W p l e R s m args below meth c H1 locs1 cells slots Q (F0 m (pc + 3) ls (.ref r :: rest))) : W p l e R s m args below meth c H locs cells slots Q (F0 m pc ls st0) :=
  zback hd hr rfl rfl kk
theorem zb_v  (hd : Dy G ad ow Z s H locs) (hr : va_Run p l e R s m args below meth c H locs cells slots 0 0 (F0 m pc ls st0) rest (Qd G ad' ow' Z' (none) a9) (zA G))
    (kk : ∀ (H1 : Heap) (locs1 : List Loc), Dy G ad' ow' Z' s H1 locs1 → W p l e R s m args below meth c H1 locs1 cells slots Q (F0 m (pc + 3) ls (rest))) : W p l e R s m args below meth c H locs cells slots Q (F0 m pc ls st0) :=
  zback hd hr rfl rfl kk
end
section
variable {p : Program} {l : Launch} {e : Env} {R : Room} {s : State} {m : MethodId} {args : Array Value} {below : List Frame} {meth : Method} {c : Code} {H : Heap} {locs : List Loc} {cells slots : Nat} {Q : State → Prop} {cc : ByteArray} {pc nL : Nat} {ls : Array Slot} {rest : List Value} {G : Gt} {ad : Nat → Nat → Nat} {ow : Nat → Nat × Nat} {Z Z' : Zt} {own : String}
variable {ad' : Nat → Nat → Nat} {ow' : Nat → Nat × Nat}
theorem zfi {x r : Int32} (hC : Cx G p c m s args own cc nL) (hd : Dy G ad ow Z s H locs) (hr : meth.sig.returnType = some .int) (hlk : meth.locks = false) (hdg : decode cc pc = .ok (.ireturn, 1)) (hx : x = r) (hz : Z = Z') : W p l e R s m args below meth c H locs cells slots (MQ below (Qd G ad ow Z' (some (.int r))) args s cells slots (zA G)) (F0 m pc ls [.int x]) := by
  subst hx; subst hz; exact zret_i hC hd hr hlk hdg
theorem zfz {x r : Int32} (hC : Cx G p c m s args own cc nL) (hd : Dy G ad ow Z s H locs) (hr : meth.sig.returnType = some .boolean) (hlk : meth.locks = false) (hdg : decode cc pc = .ok (.ireturn, 1)) (hn : x = 0 ∨ x = 1) (hx : x = r) (hz : Z = Z') : W p l e R s m args below meth c H locs cells slots (MQ below (Qd G ad ow Z' (some (.int r))) args s cells slots (zA G)) (F0 m pc ls [.int x]) := by
  subst hx; subst hz; exact zret_z hC hd hr hn hlk hdg
theorem zfl {x r : Int64} (hC : Cx G p c m s args own cc nL) (hd : Dy G ad ow Z s H locs) (hr : meth.sig.returnType = some .long) (hlk : meth.locks = false) (hdg : decode cc pc = .ok (.lreturn, 1)) (hx : x = r) (hz : Z = Z') : W p l e R s m args below meth c H locs cells slots (MQ below (Qd G ad ow Z' (some (.long r))) args s cells slots (zA G)) (F0 m pc ls [.long x]) := by
  subst hx; subst hz; exact zret_l hC hd hr hlk hdg
theorem zfv (hC : Cx G p c m s args own cc nL) (hd : Dy G ad ow Z s H locs) (hr : meth.sig.returnType = none) (hlk : meth.locks = false) (hdg : decode cc pc = .ok (.return_, 1)) (hz : Z = Z') : W p l e R s m args below meth c H locs cells slots (MQ below (Qd G ad ow Z' none) args s cells slots (zA G)) (F0 m pc ls []) := by
  subst hz; exact zret_v hC hd hr hlk hdg
theorem zfa {x r : Nat} {rt : FieldType} (hC : Cx G p c m s args own cc nL) (hd : Dy G ad ow Z s H locs) (hr : meth.sig.returnType = some rt) (hrt : (∃ n, rt = .object n) ∨ ∃ t, rt = .array t) (hlk : meth.locks = false) (hdg : decode cc pc = .ok (.areturn, 1)) (hx : x = r) (hz : Z = Z') : W p l e R s m args below meth c H locs cells slots (MQ below (Qd G ad ow Z' (some (.ref r))) args s cells slots (zA G)) (F0 m pc ls [.ref x]) := by
  subst hx; subst hz; exact zret_a hC hd hr hrt hlk hdg
end
end
section
theorem q_58 : Cond.superclass "java/util/ArrayList" "java/util/AbstractList" ∈ TT := tt_i (i := 93) (by decide +kernel) rfl
theorem q_317 : Cond.superclass "KeyGraph$Choice" "KeyGraph$Function" ∈ TT := tt_i (i := 352) (by decide +kernel) rfl
theorem q_339 : Cond.superclass "KeyGraph$Greatest" "KeyGraph$Function" ∈ TT := tt_i (i := 374) (by decide +kernel) rfl
/-- the shape of the graph's cells -/
def XS (Z : Zt) : Prop := (xn Z 0 0 = 1 ∧ xn Z 0 2 = xn Z 0 1 ∧ xn Z 0 3 = xn Z 0 1 + 2 ∧ xn Z 0 4 = xn Z 0 1 + 2 ∧ xn Z 0 5 = 2 * xn Z 0 1 ∧ xn Z 0 6 = 5 ∧ xn Z 0 7 = 5 ∧ xn Z 0 8 = 1 ∧ xn Z 0 9 = 1 ∧ xn Z 0 1 ≤ 40) ∧
  (xn Z 2 0 = xn Z 0 1 ∧ (∀ j, j < xn Z 0 1 → xc Z 4 0 j = j + 1)) ∧ ((∀ i, xn Z 2 i ≤ xn Z 3 i) ∧ (∀ i, xn Z 3 i ≤ 100)) ∧
  (∀ k, k < xn Z 0 1 → xn Z 2 (k + 2) ≤ 8 ∧ ∀ j, j < xn Z 2 (k + 2) → 1 ≤ xc Z 4 (k + 2) j ∧ xc Z 4 (k + 2) j ≤ xn Z 0 1) ∧
  (xn Z 2 1 ≤ 40 ∧ ∀ j, j < xn Z 2 1 → 1 ≤ xc Z 4 1 j ∧ xc Z 4 1 j ≤ xn Z 0 1) ∧
  (∀ k, k < xn Z 0 1 → xn Z 7 k < 2 * xn Z 0 1 ∧ xn Z 8 k < 2 * xn Z 0 1)
section
variable {Z : Zt}
theorem XS.kg (hX : XS Z) : 0 < xn Z 0 0 := by have := hX.1; omega
theorem XS.fn (hX : XS Z) {k : Nat} (h : k < xn Z 0 1) : k < xn Z 0 2 := by have := hX.1; omega
theorem XS.l (hX : XS Z) {k : Nat} (h : k < xn Z 0 1) : k + 2 < xn Z 0 3 := by have := hX.1; omega
theorem XS.l0 (hX : XS Z) : 0 < xn Z 0 3 := by have := hX.1; omega
theorem XS.l1 (hX : XS Z) : 1 < xn Z 0 3 := by have := hX.1; omega
theorem XS.ar (hX : XS Z) {k : Nat} (h : k < 2 * xn Z 0 1) : k < xn Z 0 5 := by have := hX.1; omega
theorem XS.pl (hX : XS Z) {k : Nat} (h : k < 5) : k < xn Z 0 6 := by have := hX.1; omega
theorem XS.pa (hX : XS Z) {k : Nat} (h : k < 5) : k < xn Z 0 7 := by have := hX.1; omega
theorem XS.ps (hX : XS Z) : 0 < xn Z 0 8 := by have := hX.1; omega
theorem XS.ld (hX : XS Z) : 0 < xn Z 0 9 := by have := hX.1; omega
theorem XS.k40 (hX : XS Z) : xn Z 0 1 ≤ 40 := by have := hX.1; omega
theorem XS.kl (hX : XS Z) : xn Z 2 0 = xn Z 0 1 := hX.2.1.1
theorem XS.ke (hX : XS Z) {k : Nat} (h : k < xn Z 0 1) : xc Z 4 0 k = k + 1 := hX.2.1.2 k h
end
section
variable {p : Program} {l : Launch} {e : Env} {R : Room} {s : State} {m : MethodId} {args : Array Value} {below : List Frame} {meth : Method} {c : Code} {H : Heap} {locs : List Loc} {cells slots : Nat} {Q : State → Prop} {cc : ByteArray} {pc nL : Nat} {ls : Array Slot} {rest : List Value} {G : Gt} {ad : Nat → Nat → Nat} {ow : Nat → Nat × Nat} {Z Z' : Zt} {own : String}
theorem zaaP (hC : Cx G p c m s args own cc nL) (hd : Dy G ad ow Z s H locs) {o i n k y : Nat} {f : Nat → Option Nat} (he : ent G ad Z o i = some (rfA (gP G) n f)) (hk : k < n) (hn : n ≤ 2147483647) (hf : f k = some y) (hdg : decode cc pc = .ok (.aaload, 1))
    (kk : W p l e R s m args below meth c H locs cells slots Q (F0 m (pc + 1) ls (.ref y :: rest))) : W p l e R s m args below meth c H locs cells slots Q (F0 m pc ls (.int (nI k) :: .ref (ad o i) :: rest)) :=
  zaaldP hC hd he (zin hk hn) hdg (by rw [zclamp hk hn, hf]; exact kk)
theorem zaaK (hC : Cx G p c m s args own cc nL) (hd : Dy G ad ow Z s H locs) {o i n k y : Nat} {f : Nat → Option Nat} (he : ent G ad Z o i = some (rfA (gK G) n f)) (hk : k < n) (hn : n ≤ 2147483647) (hf : f k = some y) (hdg : decode cc pc = .ok (.aaload, 1))
    (kk : W p l e R s m args below meth c H locs cells slots Q (F0 m (pc + 1) ls (.ref y :: rest))) : W p l e R s m args below meth c H locs cells slots Q (F0 m pc ls (.int (nI k) :: .ref (ad o i) :: rest)) :=
  zaaldK hC hd he (zin hk hn) hdg (by rw [zclamp hk hn, hf]; exact kk)
theorem zaaO (hC : Cx G p c m s args own cc nL) (hd : Dy G ad ow Z s H locs) {o i n k y : Nat} {f : Nat → Option Nat} (he : ent G ad Z o i = some (rfA (gO G) n f)) (hk : k < n) (hn : n ≤ 2147483647) (hf : f k = some y) (hdg : decode cc pc = .ok (.aaload, 1))
    (kk : W p l e R s m args below meth c H locs cells slots Q (F0 m (pc + 1) ls (.ref y :: rest))) : W p l e R s m args below meth c H locs cells slots Q (F0 m pc ls (.int (nI k) :: .ref (ad o i) :: rest)) :=
  zaaldO hC hd he (zin hk hn) hdg (by rw [zclamp hk hn, hf]; exact kk)
theorem zasK (hC : Cx G p c m s args own cc nL) (hd : Dy G ad ow Z s H locs) {o i n j k : Nat} {f : Nat → Option Nat} {fs : List Value} (he : ent G ad Z o i = some (rfA (gK G) n f)) (hv : ent G ad Z 1 k = some (.inr (1, fs))) (hj : j < n) (hn : n ≤ 2147483647) (hU : Up G ad Z Z' o i (rfA (gK G) n (va_up f j (some (ad 1 k))))) (hdg : decode cc pc = .ok (.aastore, 1))
    (kk : ∀ (H1 : Heap) (locs1 : List Loc), Dy G ad ow Z' s H1 locs1 → W p l e R s m args below meth c H1 locs1 cells slots Q (F0 m (pc + 1) ls rest)) : W p l e R s m args below meth c H locs cells slots Q (F0 m pc ls (.ref (ad 1 k) :: .int (nI j) :: .ref (ad o i) :: rest)) :=
  zaastK hC hd he hv (zin hj hn) (by rw [zclamp hj hn]; exact hU) hdg kk
theorem zasO (hC : Cx G p c m s args own cc nL) (hd : Dy G ad ow Z s H locs) {o i n j k : Nat} {f : Nat → Option Nat} {fs : List Value} (he : ent G ad Z o i = some (rfA (gO G) n f)) (hv : ent G ad Z 1 k = some (.inr (1, fs))) (hj : j < n) (hn : n ≤ 2147483647) (hU : Up G ad Z Z' o i (rfA (gO G) n (va_up f j (some (ad 1 k))))) (hdg : decode cc pc = .ok (.aastore, 1))
    (kk : ∀ (H1 : Heap) (locs1 : List Loc), Dy G ad ow Z' s H1 locs1 → W p l e R s m args below meth c H1 locs1 cells slots Q (F0 m (pc + 1) ls rest)) : W p l e R s m args below meth c H locs cells slots Q (F0 m pc ls (.ref (ad 1 k) :: .int (nI j) :: .ref (ad o i) :: rest)) :=
  zaastO hC hd he hv (zin hj hn) (by rw [zclamp hj hn]; exact hU) hdg kk
theorem zasN (hC : Cx G p c m s args own cc nL) (hd : Dy G ad ow Z s H locs) {o i n j : Nat} {f : Nat → Option Nat} (he : ent G ad Z o i = some (rfA (gO G) n f)) (hj : j < n) (hn : n ≤ 2147483647) (hU : Up G ad Z Z' o i (rfA (gO G) n (va_up f j none))) (hdg : decode cc pc = .ok (.aastore, 1))
    (kk : ∀ (H1 : Heap) (locs1 : List Loc), Dy G ad ow Z' s H1 locs1 → W p l e R s m args below meth c H1 locs1 cells slots Q (F0 m (pc + 1) ls rest)) : W p l e R s m args below meth c H locs cells slots Q (F0 m pc ls (.null :: .int (nI j) :: .ref (ad o i) :: rest)) :=
  zaastN hC hd he (zin hj hn) (by rw [zclamp hj hn]; exact hU) hdg kk
variable {y x : MethodName} {bytes : ByteArray} {maxL mc ms n index : Nat} {ret : Option FieldType} {rm : Room} {Qc : Array Value → State → Outcome → State → Prop} {As st0 : List Value}
/-- a call of a method that the receiver's class inherits: named x, found y -/
theorem zrunU (hC : Cx G p c m s args own cc nL) (hd : Dy G ad ow Z s H locs) {o i ci : Nat} {fs : List Value} (he : ent G ad Z o i = some (.inr (ci, fs))) {C : String} {T : u_T} {N : Nat} (hc : cls[ci]? = some (C, T, N)) (hM : Met l y (Cond.code y bytes maxL ret :: TT) rm (zPc G ad ow Z (.ref (ad o i) :: As)) Qc mc ms (zA G)) {owner : String} (h1 : Cond.methodLink own index x ∈ TT) (h2 : Cond.sameMethod x.cls owner x.name x.desc ∈ TT) (h3 : Cond.selects C x y ∈ TT) (h4 : Cond.instanceMethod y ∈ TT) (h6 : Cond.initialized y.cls ∈ TT) (h5 : Cond.code y bytes maxL ret ∈ TT) (hyx : y = ⟨owner, x.name, x.desc⟩) (hrc : rm.cells = mc) (hrs : rm.slots = ms) (hn : As.length = n)
    (hdd : owner ≠ "java/lang/invoke/MethodHandle" ∧ owner ≠ "java/lang/invoke/VarHandle" ∧ (parseMethodDescriptor x.desc).map (fun d => d.parameters.length) = some n) (hR : rm.frames + 1 ≤ R.frames ∧ 8 + (maxL + 11) + rm.locals ≤ R.locals) (hstack : st0 = As.reverse ++ .ref (ad o i) :: rest) (hls : ls.size = nL) (hW : (rest.map fun v => v.category).sum ≤ 8) (hdg : decode cc pc = .ok (.invokevirtual index, 3)) (hf : cells + mc ≤ R.cells ∧ slots + ms ≤ R.slots) :
    va_Run p l e R s m args below meth c H locs cells slots mc ms (F0 m pc ls st0) rest (Qc (Value.ref (ad o i) :: As).toArray) (zA G) :=
  va_runU (As := As) (rest := rest) ⟨hC.1, hC.2.1, hC.2.2.1, hC.2.2.2.1, hC.2.2.2.2.1⟩ hM (va_cwU (owner := owner) n hC.2.2.2.2.1 (gd_app (by intro w hw; simp only [List.mem_cons, List.not_mem_nil, or_false] at hw; rcases hw with rfl | rfl | rfl | rfl | rfl <;> assumption) (gd_TT h5)) rfl hrc hrs hyx hdd hR) ⟨zPc.blind, va_recv (q := (C, T, N)) hC.2.2.2.2.2.1 (hd.1.one he) hc (q0 := 0) rfl, fun U hU hW => zPc.of hC hd _ U hU hW⟩ rfl hn hls hstack (lv_room hW) hdg hf
/-- .. overridden by the receiver's class: named x, found y -/
theorem zrunO (hC : Cx G p c m s args own cc nL) (hd : Dy G ad ow Z s H locs) {o i ci : Nat} {fs : List Value} (he : ent G ad Z o i = some (.inr (ci, fs))) {C : String} {T : u_T} {N : Nat} (hc : cls[ci]? = some (C, T, N)) (hM : Met l y (Cond.code y bytes maxL ret :: TT) rm (zPc G ad ow Z (.ref (ad o i) :: As)) Qc mc ms (zA G)) {owner : String} (h1 : Cond.methodLink own index x ∈ TT) (h2 : Cond.sameMethod x.cls owner x.name x.desc ∈ TT) (h7 : Cond.instanceMethod ⟨owner, x.name, x.desc⟩ ∈ TT) (h3 : Cond.selects C x y ∈ TT) (h4 : Cond.instanceMethod y ∈ TT) (h6 : Cond.initialized y.cls ∈ TT) (h5 : Cond.code y bytes maxL ret ∈ TT) {b0 : ByteArray} {m0 : Nat} {r0 : Option FieldType} (h0 : Cond.code ⟨owner, x.name, x.desc⟩ b0 m0 r0 ∈ TT) (hrc : rm.cells = mc) (hrs : rm.slots = ms) (hn : As.length = n)
    (hdd : owner ≠ "java/lang/invoke/MethodHandle" ∧ owner ≠ "java/lang/invoke/VarHandle" ∧ (parseMethodDescriptor x.desc).map (fun d => d.parameters.length) = some n) (hR : rm.frames + 1 ≤ R.frames ∧ 8 + (maxL + 11) + rm.locals ≤ R.locals) (hstack : st0 = As.reverse ++ .ref (ad o i) :: rest) (hls : ls.size = nL) (hW : (rest.map fun v => v.category).sum ≤ 8) (hdg : decode cc pc = .ok (.invokevirtual index, 3)) (hf : cells + mc ≤ R.cells ∧ slots + ms ≤ R.slots) :
    va_Run p l e R s m args below meth c H locs cells slots mc ms (F0 m pc ls st0) rest (Qc (Value.ref (ad o i) :: As).toArray) (zA G) :=
  va_runU (As := As) (rest := rest) ⟨hC.1, hC.2.1, hC.2.2.1, hC.2.2.2.1, hC.2.2.2.2.1⟩ hM (va_cwO (owner := owner) n hC.2.2.2.2.1 (gd_app (by intro w hw; simp only [List.mem_cons, List.not_mem_nil, or_false] at hw; rcases hw with rfl | rfl | rfl | rfl | rfl | rfl <;> assumption) (gd_TT h5)) rfl hrc hrs h0 hdd hR) ⟨zPc.blind, va_recv (q := (C, T, N)) hC.2.2.2.2.2.1 (hd.1.one he) hc (q0 := 0) rfl, fun U hU hW => zPc.of hC hd _ U hU hW⟩ rfl hn hls hstack (lv_room hW) hdg hf
/-- .. abstract where it is named -/
theorem zrunA (hC : Cx G p c m s args own cc nL) (hd : Dy G ad ow Z s H locs) {o i ci : Nat} {fs : List Value} (he : ent G ad Z o i = some (.inr (ci, fs))) {C : String} {T : u_T} {N : Nat} (hc : cls[ci]? = some (C, T, N)) (hM : Met l y (Cond.code y bytes maxL ret :: TT) rm (zPc G ad ow Z (.ref (ad o i) :: As)) Qc mc ms (zA G)) {owner : String} (h1 : Cond.methodLink own index x ∈ TT) (h2 : Cond.sameMethod x.cls owner x.name x.desc ∈ TT) (h7 : Cond.declares ⟨owner, x.name, x.desc⟩ ∈ NW) (h3 : Cond.selects C x y ∈ TT) (h4 : Cond.instanceMethod y ∈ TT) (h6 : Cond.initialized y.cls ∈ TT) (h5 : Cond.code y bytes maxL ret ∈ TT) (hrc : rm.cells = mc) (hrs : rm.slots = ms) (hn : As.length = n)
    (hdd : owner ≠ "java/lang/invoke/MethodHandle" ∧ owner ≠ "java/lang/invoke/VarHandle" ∧ (parseMethodDescriptor x.desc).map (fun d => d.parameters.length) = some n) (hR : rm.frames + 1 ≤ R.frames ∧ 8 + (maxL + 11) + rm.locals ≤ R.locals) (hstack : st0 = As.reverse ++ .ref (ad o i) :: rest) (hls : ls.size = nL) (hW : (rest.map fun v => v.category).sum ≤ 8) (hdg : decode cc pc = .ok (.invokevirtual index, 3)) (hf : cells + mc ≤ R.cells ∧ slots + ms ≤ R.slots) :
    va_Run p l e R s m args below meth c H locs cells slots mc ms (F0 m pc ls st0) rest (Qc (Value.ref (ad o i) :: As).toArray) (zA G) :=
  va_runU (As := As) (rest := rest) ⟨hC.1, hC.2.1, hC.2.2.1, hC.2.2.2.1, hC.2.2.2.2.1⟩ hM (va_cwA (owner := owner) n hC.2.2.2.2.1 (gd_app (by intro w hw; simp only [List.mem_cons, List.not_mem_nil, or_false] at hw; rcases hw with rfl | rfl | rfl | rfl | rfl <;> assumption) (gd_TT h5)) rfl hrc hrs (hC.2.2.2.2.2.2.1 _ h7) hdd hR) ⟨zPc.blind, va_recv (q := (C, T, N)) hC.2.2.2.2.2.1 (hd.1.one he) hc (q0 := 0) rfl, fun U hU hW => zPc.of hC hd _ U hU hW⟩ rfl hn hls hstack (lv_room hW) hdg hf
/-- super.m(..) -/
theorem zrunP (hC : Cx G p c m s args own cc nL) (hd : Dy G ad ow Z s H locs) {o i ci : Nat} {fs : List Value} (he : ent G ad Z o i = some (.inr (ci, fs))) {C : String} {T : u_T} {N : Nat} (hc : cls[ci]? = some (C, T, N)) (hM : Met l y (Cond.code y bytes maxL ret :: TT) rm (zPc G ad ow Z (.ref (ad o i) :: As)) Qc mc ms (zA G)) (h1 : Cond.methodLink own index y ∈ TT) (h2 : Cond.sameMethod y.cls y.cls y.name y.desc ∈ TT) (h7 : Cond.superclass own y.cls ∈ TT) (h4 : Cond.instanceMethod y ∈ TT) (h6 : Cond.initialized y.cls ∈ TT) (h5 : Cond.code y bytes maxL ret ∈ TT) (hrc : rm.cells = mc) (hrs : rm.slots = ms) (hn : As.length = n)
    (hdd : y.name ≠ "<init>" ∧ (parseMethodDescriptor y.desc).map (fun d => d.parameters.length) = some n) (hR : rm.frames + 1 ≤ R.frames ∧ 8 + (maxL + 11) + rm.locals ≤ R.locals) (hstack : st0 = As.reverse ++ .ref (ad o i) :: rest) (hls : ls.size = nL) (hW : (rest.map fun v => v.category).sum ≤ 8) (hdg : decode cc pc = .ok (.invokespecial index, 3)) (hf : cells + mc ≤ R.cells ∧ slots + ms ≤ R.slots) :
    va_Run p l e R s m args below meth c H locs cells slots mc ms (F0 m pc ls st0) rest (Qc (Value.ref (ad o i) :: As).toArray) (zA G) :=
  va_runSU (As := As) (rest := rest) (hC.2.2.2.2.2.1.1 ci _ hc).2 ⟨hC.1, hC.2.1, hC.2.2.1, hC.2.2.2.1, hC.2.2.2.2.1⟩ hM (va_cwSU n hC.2.2.2.2.1 (gd_app (by intro w hw; simp only [List.mem_cons, List.not_mem_nil, or_false] at hw; rcases hw with rfl | rfl | rfl | rfl | rfl <;> assumption) (gd_TT h5)) rfl hrc hrs hdd hR) ⟨zPc.blind, va_recv (q := (C, T, N)) hC.2.2.2.2.2.1 (hd.1.one he) hc (q0 := 0) rfl, fun U hU hW => zPc.of hC hd _ U hU hW⟩ rfl hn hls hstack (lv_room hW) hdg hf
end
end
section
theorem d_KG_init_0 : decode b_KG_init 0 = .ok (.aload_n 0, 1) := by decide +kernel
theorem d_KG_init_1 : decode b_KG_init 1 = .ok (.invokespecial 26, 3) := by decide +kernel
theorem d_KG_init_4 : decode b_KG_init 4 = .ok (.aload_n 0, 1) := by decide +kernel
theorem d_KG_init_5 : decode b_KG_init 5 = .ok (.new 29, 3) := by decide +kernel
theorem d_KG_init_8 : decode b_KG_init 8 = .ok (.dup, 1) := by decide +kernel
theorem d_KG_init_9 : decode b_KG_init 9 = .ok (.invokespecial 31, 3) := by decide +kernel
theorem d_KG_init_12 : decode b_KG_init 12 = .ok (.putfield 32, 3) := by decide +kernel
theorem d_KG_init_15 : decode b_KG_init 15 = .ok (.aload_n 0, 1) := by decide +kernel
theorem d_KG_init_16 : decode b_KG_init 16 = .ok (.invokestatic 36, 3) := by decide +kernel
theorem d_KG_init_19 : decode b_KG_init 19 = .ok (.putfield 40, 3) := by decide +kernel
theorem d_KG_init_22 : decode b_KG_init 22 = .ok (.aload_n 0, 1) := by decide +kernel
theorem d_KG_init_23 : decode b_KG_init 23 = .ok (.new 29, 3) := by decide +kernel
theorem d_KG_init_26 : decode b_KG_init 26 = .ok (.dup, 1) := by decide +kernel
theorem d_KG_init_27 : decode b_KG_init 27 = .ok (.invokespecial 31, 3) := by decide +kernel
theorem d_KG_init_30 : decode b_KG_init 30 = .ok (.putfield 43, 3) := by decide +kernel
theorem d_KG_init_33 : decode b_KG_init 33 = .ok (.aload_n 0, 1) := by decide +kernel
theorem d_KG_init_34 : decode b_KG_init 34 = .ok (.bipush 40, 2) := by decide +kernel
theorem d_KG_init_36 : decode b_KG_init 36 = .ok (.newarray .boolean, 2) := by decide +kernel
theorem d_KG_init_38 : decode b_KG_init 38 = .ok (.putfield 46, 3) := by decide +kernel
theorem d_KG_init_41 : decode b_KG_init 41 = .ok (.return_, 1) := by decide +kernel
theorem d_Obj_init_0 : decode b_Obj_init 0 = .ok (.return_, 1) := by decide +kernel
theorem d_AL_init_0 : decode b_AL_init 0 = .ok (.aload_n 0, 1) := by decide +kernel
theorem d_AL_init_1 : decode b_AL_init 1 = .ok (.invokespecial 1, 3) := by decide +kernel
theorem d_AL_init_4 : decode b_AL_init 4 = .ok (.aload_n 0, 1) := by decide +kernel
theorem d_AL_init_5 : decode b_AL_init 5 = .ok (.getstatic 39, 3) := by decide +kernel
theorem d_AL_init_8 : decode b_AL_init 8 = .ok (.putfield 9, 3) := by decide +kernel
theorem d_AL_init_11 : decode b_AL_init 11 = .ok (.return_, 1) := by decide +kernel
theorem d_AbsL_init_0 : decode b_AbsL_init 0 = .ok (.aload_n 0, 1) := by decide +kernel
theorem d_AbsL_init_1 : decode b_AbsL_init 1 = .ok (.invokespecial 1, 3) := by decide +kernel
theorem d_AbsL_init_4 : decode b_AbsL_init 4 = .ok (.aload_n 0, 1) := by decide +kernel
theorem d_AbsL_init_5 : decode b_AbsL_init 5 = .ok (.iconst 0, 1) := by decide +kernel
theorem d_AbsL_init_6 : decode b_AbsL_init 6 = .ok (.putfield 7, 3) := by decide +kernel
theorem d_AbsL_init_9 : decode b_AbsL_init 9 = .ok (.return_, 1) := by decide +kernel
theorem d_AbsC_init_0 : decode b_AbsC_init 0 = .ok (.aload_n 0, 1) := by decide +kernel
theorem d_AbsC_init_1 : decode b_AbsC_init 1 = .ok (.invokespecial 1, 3) := by decide +kernel
theorem d_AbsC_init_4 : decode b_AbsC_init 4 = .ok (.return_, 1) := by decide +kernel
theorem d_KG_piles_0 : decode b_KG_piles 0 = .ok (.iconst 5, 1) := by decide +kernel
theorem d_KG_piles_1 : decode b_KG_piles 1 = .ok (.anewarray 23, 3) := by decide +kernel
theorem d_KG_piles_4 : decode b_KG_piles 4 = .ok (.astore_n 0, 1) := by decide +kernel
theorem d_KG_piles_5 : decode b_KG_piles 5 = .ok (.iconst 0, 1) := by decide +kernel
theorem d_KG_piles_6 : decode b_KG_piles 6 = .ok (.istore_n 1, 1) := by decide +kernel
theorem d_KG_piles_7 : decode b_KG_piles 7 = .ok (.iload_n 1, 1) := by decide +kernel
theorem d_KG_piles_8 : decode b_KG_piles 8 = .ok (.iconst 4, 1) := by decide +kernel
theorem d_KG_piles_9 : decode b_KG_piles 9 = .ok (.if_icmp .gt 19, 3) := by decide +kernel
theorem d_KG_piles_12 : decode b_KG_piles 12 = .ok (.aload_n 0, 1) := by decide +kernel
theorem d_KG_piles_13 : decode b_KG_piles 13 = .ok (.iload_n 1, 1) := by decide +kernel
theorem d_KG_piles_14 : decode b_KG_piles 14 = .ok (.new 23, 3) := by decide +kernel
theorem d_KG_piles_17 : decode b_KG_piles 17 = .ok (.dup, 1) := by decide +kernel
theorem d_KG_piles_18 : decode b_KG_piles 18 = .ok (.invokespecial 25, 3) := by decide +kernel
theorem d_KG_piles_21 : decode b_KG_piles 21 = .ok (.aastore, 1) := by decide +kernel
theorem d_KG_piles_22 : decode b_KG_piles 22 = .ok (.iinc 1 1, 3) := by decide +kernel
theorem d_KG_piles_25 : decode b_KG_piles 25 = .ok (.goto (-18), 3) := by decide +kernel
theorem d_KG_piles_28 : decode b_KG_piles 28 = .ok (.aload_n 0, 1) := by decide +kernel
theorem d_KG_piles_29 : decode b_KG_piles 29 = .ok (.areturn, 1) := by decide +kernel
theorem d_Pile_init_0 : decode b_Pile_init 0 = .ok (.aload_n 0, 1) := by decide +kernel
theorem d_Pile_init_1 : decode b_Pile_init 1 = .ok (.invokespecial 3, 3) := by decide +kernel
theorem d_Pile_init_4 : decode b_Pile_init 4 = .ok (.aload_n 0, 1) := by decide +kernel
theorem d_Pile_init_5 : decode b_Pile_init 5 = .ok (.bipush 40, 2) := by decide +kernel
theorem d_Pile_init_7 : decode b_Pile_init 7 = .ok (.anewarray 9, 3) := by decide +kernel
theorem d_Pile_init_10 : decode b_Pile_init 10 = .ok (.putfield 11, 3) := by decide +kernel
theorem d_Pile_init_13 : decode b_Pile_init 13 = .ok (.return_, 1) := by decide +kernel
theorem d_KG_leaf_0 : decode b_KG_leaf 0 = .ok (.aload_n 0, 1) := by decide +kernel
theorem d_KG_leaf_1 : decode b_KG_leaf 1 = .ok (.getfield 32, 3) := by decide +kernel
theorem d_KG_leaf_4 : decode b_KG_leaf 4 = .ok (.invokevirtual 50, 3) := by decide +kernel
theorem d_KG_leaf_7 : decode b_KG_leaf 7 = .ok (.bipush 40, 2) := by decide +kernel
theorem d_KG_leaf_9 : decode b_KG_leaf 9 = .ok (.if_icmp .ne 5, 3) := by decide +kernel
theorem d_KG_leaf_12 : decode b_KG_leaf 12 = .ok (.iconst (-1), 1) := by decide +kernel
theorem d_KG_leaf_13 : decode b_KG_leaf 13 = .ok (.ireturn, 1) := by decide +kernel
theorem d_KG_leaf_14 : decode b_KG_leaf 14 = .ok (.new 62, 3) := by decide +kernel
theorem d_KG_leaf_17 : decode b_KG_leaf 17 = .ok (.dup, 1) := by decide +kernel
theorem d_KG_leaf_18 : decode b_KG_leaf 18 = .ok (.aload_n 0, 1) := by decide +kernel
theorem d_KG_leaf_19 : decode b_KG_leaf 19 = .ok (.getfield 32, 3) := by decide +kernel
theorem d_KG_leaf_22 : decode b_KG_leaf 22 = .ok (.invokevirtual 50, 3) := by decide +kernel
theorem d_KG_leaf_25 : decode b_KG_leaf 25 = .ok (.aconst_null, 1) := by decide +kernel
theorem d_KG_leaf_26 : decode b_KG_leaf 26 = .ok (.invokespecial 78, 3) := by decide +kernel
theorem d_KG_leaf_29 : decode b_KG_leaf 29 = .ok (.astore_n 3, 1) := by decide +kernel
theorem d_KG_leaf_30 : decode b_KG_leaf 30 = .ok (.aload_n 3, 1) := by decide +kernel
theorem d_KG_leaf_31 : decode b_KG_leaf 31 = .ok (.iconst 1, 1) := by decide +kernel
theorem d_KG_leaf_32 : decode b_KG_leaf 32 = .ok (.putfield 68, 3) := by decide +kernel
theorem d_KG_leaf_35 : decode b_KG_leaf 35 = .ok (.aload_n 3, 1) := by decide +kernel
theorem d_KG_leaf_36 : decode b_KG_leaf 36 = .ok (.lload_n 1, 1) := by decide +kernel
theorem d_KG_leaf_37 : decode b_KG_leaf 37 = .ok (.putfield 81, 3) := by decide +kernel
theorem d_KG_leaf_40 : decode b_KG_leaf 40 = .ok (.aload_n 3, 1) := by decide +kernel
theorem d_KG_leaf_41 : decode b_KG_leaf 41 = .ok (.aload_n 0, 1) := by decide +kernel
theorem d_KG_leaf_42 : decode b_KG_leaf 42 = .ok (.getfield 75, 3) := by decide +kernel
theorem d_KG_leaf_45 : decode b_KG_leaf 45 = .ok (.putfield 85, 3) := by decide +kernel
theorem d_KG_leaf_48 : decode b_KG_leaf 48 = .ok (.aload_n 0, 1) := by decide +kernel
theorem d_KG_leaf_49 : decode b_KG_leaf 49 = .ok (.getfield 32, 3) := by decide +kernel
theorem d_KG_leaf_52 : decode b_KG_leaf 52 = .ok (.aload_n 3, 1) := by decide +kernel
theorem d_KG_leaf_53 : decode b_KG_leaf 53 = .ok (.invokevirtual 88, 3) := by decide +kernel
theorem d_KG_leaf_56 : decode b_KG_leaf 56 = .ok (.pop, 1) := by decide +kernel
theorem d_KG_leaf_57 : decode b_KG_leaf 57 = .ok (.aload_n 3, 1) := by decide +kernel
theorem d_KG_leaf_58 : decode b_KG_leaf 58 = .ok (.getfield 92, 3) := by decide +kernel
theorem d_KG_leaf_61 : decode b_KG_leaf 61 = .ok (.ireturn, 1) := by decide +kernel
theorem d_AL_size_0 : decode b_AL_size 0 = .ok (.aload_n 0, 1) := by decide +kernel
theorem d_AL_size_1 : decode b_AL_size 1 = .ok (.getfield 48, 3) := by decide +kernel
theorem d_AL_size_4 : decode b_AL_size 4 = .ok (.ireturn, 1) := by decide +kernel
theorem d_Key_init_0 : decode b_Key_init 0 = .ok (.aload_n 0, 1) := by decide +kernel
theorem d_Key_init_1 : decode b_Key_init 1 = .ok (.invokespecial 3, 3) := by decide +kernel
theorem d_Key_init_4 : decode b_Key_init 4 = .ok (.aload_n 0, 1) := by decide +kernel
theorem d_Key_init_5 : decode b_Key_init 5 = .ok (.new 9, 3) := by decide +kernel
theorem d_Key_init_8 : decode b_Key_init 8 = .ok (.dup, 1) := by decide +kernel
theorem d_Key_init_9 : decode b_Key_init 9 = .ok (.invokespecial 11, 3) := by decide +kernel
theorem d_Key_init_12 : decode b_Key_init 12 = .ok (.putfield 12, 3) := by decide +kernel
theorem d_Key_init_15 : decode b_Key_init 15 = .ok (.aload_n 0, 1) := by decide +kernel
theorem d_Key_init_16 : decode b_Key_init 16 = .ok (.iconst (-1), 1) := by decide +kernel
theorem d_Key_init_17 : decode b_Key_init 17 = .ok (.putfield 18, 3) := by decide +kernel
theorem d_Key_init_20 : decode b_Key_init 20 = .ok (.aload_n 0, 1) := by decide +kernel
theorem d_Key_init_21 : decode b_Key_init 21 = .ok (.bipush 8, 2) := by decide +kernel
theorem d_Key_init_23 : decode b_Key_init 23 = .ok (.newarray .int, 2) := by decide +kernel
theorem d_Key_init_25 : decode b_Key_init 25 = .ok (.putfield 22, 3) := by decide +kernel
theorem d_Key_init_28 : decode b_Key_init 28 = .ok (.aload_n 0, 1) := by decide +kernel
theorem d_Key_init_29 : decode b_Key_init 29 = .ok (.bipush 8, 2) := by decide +kernel
theorem d_Key_init_31 : decode b_Key_init 31 = .ok (.newarray .int, 2) := by decide +kernel
theorem d_Key_init_33 : decode b_Key_init 33 = .ok (.putfield 26, 3) := by decide +kernel
theorem d_Key_init_36 : decode b_Key_init 36 = .ok (.aload_n 0, 1) := by decide +kernel
theorem d_Key_init_37 : decode b_Key_init 37 = .ok (.iconst (-1), 1) := by decide +kernel
theorem d_Key_init_38 : decode b_Key_init 38 = .ok (.putfield 29, 3) := by decide +kernel
theorem d_Key_init_41 : decode b_Key_init 41 = .ok (.aload_n 0, 1) := by decide +kernel
theorem d_Key_init_42 : decode b_Key_init 42 = .ok (.iload_n 1, 1) := by decide +kernel
theorem d_Key_init_43 : decode b_Key_init 43 = .ok (.putfield 32, 3) := by decide +kernel
theorem d_Key_init_46 : decode b_Key_init 46 = .ok (.aload_n 0, 1) := by decide +kernel
theorem d_Key_init_47 : decode b_Key_init 47 = .ok (.aload_n 2, 1) := by decide +kernel
theorem d_Key_init_48 : decode b_Key_init 48 = .ok (.putfield 35, 3) := by decide +kernel
theorem d_Key_init_51 : decode b_Key_init 51 = .ok (.return_, 1) := by decide +kernel
theorem d_AL_add1_0 : decode b_AL_add1 0 = .ok (.aload_n 0, 1) := by decide +kernel
theorem d_AL_add1_1 : decode b_AL_add1 1 = .ok (.dup, 1) := by decide +kernel
theorem d_AL_add1_2 : decode b_AL_add1 2 = .ok (.getfield 63, 3) := by decide +kernel
theorem d_AL_add1_5 : decode b_AL_add1 5 = .ok (.iconst 1, 1) := by decide +kernel
theorem d_AL_add1_6 : decode b_AL_add1 6 = .ok (.iadd, 1) := by decide +kernel
theorem d_AL_add1_7 : decode b_AL_add1 7 = .ok (.putfield 63, 3) := by decide +kernel
theorem d_AL_add1_10 : decode b_AL_add1 10 = .ok (.aload_n 0, 1) := by decide +kernel
theorem d_AL_add1_11 : decode b_AL_add1 11 = .ok (.aload_n 1, 1) := by decide +kernel
theorem d_AL_add1_12 : decode b_AL_add1 12 = .ok (.aload_n 0, 1) := by decide +kernel
theorem d_AL_add1_13 : decode b_AL_add1 13 = .ok (.getfield 9, 3) := by decide +kernel
theorem d_AL_add1_16 : decode b_AL_add1 16 = .ok (.aload_n 0, 1) := by decide +kernel
theorem d_AL_add1_17 : decode b_AL_add1 17 = .ok (.getfield 48, 3) := by decide +kernel
theorem d_AL_add1_20 : decode b_AL_add1 20 = .ok (.invokevirtual 131, 3) := by decide +kernel
theorem d_AL_add1_23 : decode b_AL_add1 23 = .ok (.iconst 1, 1) := by decide +kernel
theorem d_AL_add1_24 : decode b_AL_add1 24 = .ok (.ireturn, 1) := by decide +kernel
theorem d_AL_add3_0 : decode b_AL_add3 0 = .ok (.iload_n 3, 1) := by decide +kernel
theorem d_AL_add3_1 : decode b_AL_add3 1 = .ok (.aload_n 2, 1) := by decide +kernel
theorem d_AL_add3_2 : decode b_AL_add3 2 = .ok (.arraylength, 1) := by decide +kernel
theorem d_AL_add3_3 : decode b_AL_add3 3 = .ok (.if_icmp .ne 8, 3) := by decide +kernel
theorem d_AL_add3_6 : decode b_AL_add3 6 = .ok (.aload_n 0, 1) := by decide +kernel
theorem d_AL_add3_7 : decode b_AL_add3 7 = .ok (.invokevirtual 129, 3) := by decide +kernel
theorem d_AL_add3_10 : decode b_AL_add3 10 = .ok (.astore_n 2, 1) := by decide +kernel
theorem d_AL_add3_11 : decode b_AL_add3 11 = .ok (.aload_n 2, 1) := by decide +kernel
theorem d_AL_add3_12 : decode b_AL_add3 12 = .ok (.iload_n 3, 1) := by decide +kernel
theorem d_AL_add3_13 : decode b_AL_add3 13 = .ok (.aload_n 1, 1) := by decide +kernel
theorem d_AL_add3_14 : decode b_AL_add3 14 = .ok (.aastore, 1) := by decide +kernel
theorem d_AL_add3_15 : decode b_AL_add3 15 = .ok (.aload_n 0, 1) := by decide +kernel
theorem d_AL_add3_16 : decode b_AL_add3 16 = .ok (.iload_n 3, 1) := by decide +kernel
theorem d_AL_add3_17 : decode b_AL_add3 17 = .ok (.iconst 1, 1) := by decide +kernel
theorem d_AL_add3_18 : decode b_AL_add3 18 = .ok (.iadd, 1) := by decide +kernel
theorem d_AL_add3_19 : decode b_AL_add3 19 = .ok (.putfield 48, 3) := by decide +kernel
theorem d_AL_add3_22 : decode b_AL_add3 22 = .ok (.return_, 1) := by decide +kernel
theorem d_AL_grow0_0 : decode b_AL_grow0 0 = .ok (.aload_n 0, 1) := by decide +kernel
theorem d_AL_grow0_1 : decode b_AL_grow0 1 = .ok (.aload_n 0, 1) := by decide +kernel
theorem d_AL_grow0_2 : decode b_AL_grow0 2 = .ok (.getfield 48, 3) := by decide +kernel
theorem d_AL_grow0_5 : decode b_AL_grow0 5 = .ok (.iconst 1, 1) := by decide +kernel
theorem d_AL_grow0_6 : decode b_AL_grow0 6 = .ok (.iadd, 1) := by decide +kernel
theorem d_AL_grow0_7 : decode b_AL_grow0 7 = .ok (.invokevirtual 69, 3) := by decide +kernel
theorem d_AL_grow0_10 : decode b_AL_grow0 10 = .ok (.areturn, 1) := by decide +kernel
theorem d_AL_grow1_0 : decode b_AL_grow1 0 = .ok (.aload_n 0, 1) := by decide +kernel
theorem d_AL_grow1_1 : decode b_AL_grow1 1 = .ok (.getfield 9, 3) := by decide +kernel
theorem d_AL_grow1_4 : decode b_AL_grow1 4 = .ok (.arraylength, 1) := by decide +kernel
theorem d_AL_grow1_5 : decode b_AL_grow1 5 = .ok (.istore_n 2, 1) := by decide +kernel
theorem d_AL_grow1_6 : decode b_AL_grow1 6 = .ok (.iload_n 2, 1) := by decide +kernel
theorem d_AL_grow1_7 : decode b_AL_grow1 7 = .ok (.ifCond .gt 13, 3) := by decide +kernel
theorem d_AL_grow1_10 : decode b_AL_grow1 10 = .ok (.aload_n 0, 1) := by decide +kernel
theorem d_AL_grow1_11 : decode b_AL_grow1 11 = .ok (.getfield 9, 3) := by decide +kernel
theorem d_AL_grow1_14 : decode b_AL_grow1 14 = .ok (.getstatic 39, 3) := by decide +kernel
theorem d_AL_grow1_17 : decode b_AL_grow1 17 = .ok (.if_acmp .eq 28, 3) := by decide +kernel
theorem d_AL_grow1_20 : decode b_AL_grow1 20 = .ok (.iload_n 2, 1) := by decide +kernel
theorem d_AL_grow1_21 : decode b_AL_grow1 21 = .ok (.iload_n 1, 1) := by decide +kernel
theorem d_AL_grow1_22 : decode b_AL_grow1 22 = .ok (.iload_n 2, 1) := by decide +kernel
theorem d_AL_grow1_23 : decode b_AL_grow1 23 = .ok (.isub, 1) := by decide +kernel
theorem d_AL_grow1_24 : decode b_AL_grow1 24 = .ok (.iload_n 2, 1) := by decide +kernel
theorem d_AL_grow1_25 : decode b_AL_grow1 25 = .ok (.iconst 1, 1) := by decide +kernel
theorem d_AL_grow1_26 : decode b_AL_grow1 26 = .ok (.ishr, 1) := by decide +kernel
theorem d_AL_grow1_27 : decode b_AL_grow1 27 = .ok (.invokestatic 73, 3) := by decide +kernel
theorem d_AL_grow1_30 : decode b_AL_grow1 30 = .ok (.istore_n 3, 1) := by decide +kernel
theorem d_AL_grow1_31 : decode b_AL_grow1 31 = .ok (.aload_n 0, 1) := by decide +kernel
theorem d_AL_grow1_32 : decode b_AL_grow1 32 = .ok (.aload_n 0, 1) := by decide +kernel
theorem d_AL_grow1_33 : decode b_AL_grow1 33 = .ok (.getfield 9, 3) := by decide +kernel
theorem d_AL_grow1_36 : decode b_AL_grow1 36 = .ok (.iload_n 3, 1) := by decide +kernel
theorem d_AL_grow1_37 : decode b_AL_grow1 37 = .ok (.invokestatic 66, 3) := by decide +kernel
theorem d_AL_grow1_40 : decode b_AL_grow1 40 = .ok (.dup_x1, 1) := by decide +kernel
theorem d_AL_grow1_41 : decode b_AL_grow1 41 = .ok (.putfield 9, 3) := by decide +kernel
theorem d_AL_grow1_44 : decode b_AL_grow1 44 = .ok (.areturn, 1) := by decide +kernel
theorem d_AL_grow1_45 : decode b_AL_grow1 45 = .ok (.aload_n 0, 1) := by decide +kernel
theorem d_AL_grow1_46 : decode b_AL_grow1 46 = .ok (.bipush 10, 2) := by decide +kernel
theorem d_AL_grow1_48 : decode b_AL_grow1 48 = .ok (.iload_n 1, 1) := by decide +kernel
theorem d_AL_grow1_49 : decode b_AL_grow1 49 = .ok (.invokestatic 79, 3) := by decide +kernel
theorem d_AL_grow1_52 : decode b_AL_grow1 52 = .ok (.anewarray 7, 3) := by decide +kernel
theorem d_AL_grow1_55 : decode b_AL_grow1 55 = .ok (.dup_x1, 1) := by decide +kernel
theorem d_AL_grow1_56 : decode b_AL_grow1 56 = .ok (.putfield 9, 3) := by decide +kernel
theorem d_AL_grow1_59 : decode b_AL_grow1 59 = .ok (.areturn, 1) := by decide +kernel
theorem d_ASup_newLength_0 : decode b_ASup_newLength 0 = .ok (.iload_n 0, 1) := by decide +kernel
theorem d_ASup_newLength_1 : decode b_ASup_newLength 1 = .ok (.iload_n 1, 1) := by decide +kernel
theorem d_ASup_newLength_2 : decode b_ASup_newLength 2 = .ok (.iload_n 2, 1) := by decide +kernel
theorem d_ASup_newLength_3 : decode b_ASup_newLength 3 = .ok (.invokestatic 194, 3) := by decide +kernel
theorem d_ASup_newLength_6 : decode b_ASup_newLength 6 = .ok (.iadd, 1) := by decide +kernel
theorem d_ASup_newLength_7 : decode b_ASup_newLength 7 = .ok (.istore_n 3, 1) := by decide +kernel
theorem d_ASup_newLength_8 : decode b_ASup_newLength 8 = .ok (.iconst 0, 1) := by decide +kernel
theorem d_ASup_newLength_9 : decode b_ASup_newLength 9 = .ok (.iload_n 3, 1) := by decide +kernel
theorem d_ASup_newLength_10 : decode b_ASup_newLength 10 = .ok (.if_icmp .ge 11, 3) := by decide +kernel
theorem d_ASup_newLength_13 : decode b_ASup_newLength 13 = .ok (.iload_n 3, 1) := by decide +kernel
theorem d_ASup_newLength_14 : decode b_ASup_newLength 14 = .ok (.ldc 200, 2) := by decide +kernel
theorem d_ASup_newLength_16 : decode b_ASup_newLength 16 = .ok (.if_icmp .gt 5, 3) := by decide +kernel
theorem d_ASup_newLength_19 : decode b_ASup_newLength 19 = .ok (.iload_n 3, 1) := by decide +kernel
theorem d_ASup_newLength_20 : decode b_ASup_newLength 20 = .ok (.ireturn, 1) := by decide +kernel
theorem d_ASup_newLength_21 : decode b_ASup_newLength 21 = .ok (.iload_n 0, 1) := by decide +kernel
theorem d_ASup_newLength_22 : decode b_ASup_newLength 22 = .ok (.iload_n 1, 1) := by decide +kernel
theorem d_ASup_newLength_23 : decode b_ASup_newLength 23 = .ok (.invokestatic 201, 3) := by decide +kernel
theorem d_ASup_newLength_26 : decode b_ASup_newLength 26 = .ok (.ireturn, 1) := by decide +kernel
theorem d_Math_max_0 : decode b_Math_max 0 = .ok (.iload_n 0, 1) := by decide +kernel
theorem d_Math_max_1 : decode b_Math_max 1 = .ok (.iload_n 1, 1) := by decide +kernel
theorem d_Math_max_2 : decode b_Math_max 2 = .ok (.if_icmp .lt 7, 3) := by decide +kernel
theorem d_Math_max_5 : decode b_Math_max 5 = .ok (.iload_n 0, 1) := by decide +kernel
theorem d_Math_max_6 : decode b_Math_max 6 = .ok (.goto 4, 3) := by decide +kernel
theorem d_Math_max_9 : decode b_Math_max 9 = .ok (.iload_n 1, 1) := by decide +kernel
theorem d_Math_max_10 : decode b_Math_max 10 = .ok (.ireturn, 1) := by decide +kernel
theorem d_Arrs_copyOf2_0 : decode b_Arrs_copyOf2 0 = .ok (.aload_n 0, 1) := by decide +kernel
theorem d_Arrs_copyOf2_1 : decode b_Arrs_copyOf2 1 = .ok (.iload_n 1, 1) := by decide +kernel
theorem d_Arrs_copyOf2_2 : decode b_Arrs_copyOf2 2 = .ok (.aload_n 0, 1) := by decide +kernel
theorem d_Arrs_copyOf2_3 : decode b_Arrs_copyOf2 3 = .ok (.invokevirtual 86, 3) := by decide +kernel
theorem d_Arrs_copyOf2_6 : decode b_Arrs_copyOf2 6 = .ok (.invokestatic 300, 3) := by decide +kernel
theorem d_Arrs_copyOf2_9 : decode b_Arrs_copyOf2 9 = .ok (.areturn, 1) := by decide +kernel
theorem d_Arrs_copyOf3_0 : decode b_Arrs_copyOf3 0 = .ok (.aload_n 2, 1) := by decide +kernel
theorem d_Arrs_copyOf3_1 : decode b_Arrs_copyOf3 1 = .ok (.ldc 110, 2) := by decide +kernel
theorem d_Arrs_copyOf3_3 : decode b_Arrs_copyOf3 3 = .ok (.if_acmp .ne 10, 3) := by decide +kernel
theorem d_Arrs_copyOf3_6 : decode b_Arrs_copyOf3 6 = .ok (.iload_n 1, 1) := by decide +kernel
theorem d_Arrs_copyOf3_7 : decode b_Arrs_copyOf3 7 = .ok (.anewarray 2, 3) := by decide +kernel
theorem d_Arrs_copyOf3_10 : decode b_Arrs_copyOf3 10 = .ok (.goto 14, 3) := by decide +kernel
theorem d_Arrs_copyOf3_13 : decode b_Arrs_copyOf3 13 = .ok (.aload_n 2, 1) := by decide +kernel
theorem d_Arrs_copyOf3_14 : decode b_Arrs_copyOf3 14 = .ok (.invokevirtual 90, 3) := by decide +kernel
theorem d_Arrs_copyOf3_17 : decode b_Arrs_copyOf3 17 = .ok (.iload_n 1, 1) := by decide +kernel
theorem d_Arrs_copyOf3_18 : decode b_Arrs_copyOf3 18 = .ok (.invokestatic 95, 3) := by decide +kernel
theorem d_Arrs_copyOf3_21 : decode b_Arrs_copyOf3 21 = .ok (.checkcast 110, 3) := by decide +kernel
theorem d_Arrs_copyOf3_24 : decode b_Arrs_copyOf3 24 = .ok (.astore_n 3, 1) := by decide +kernel
theorem d_Arrs_copyOf3_25 : decode b_Arrs_copyOf3 25 = .ok (.aload_n 0, 1) := by decide +kernel
theorem d_Arrs_copyOf3_26 : decode b_Arrs_copyOf3 26 = .ok (.iconst 0, 1) := by decide +kernel
theorem d_Arrs_copyOf3_27 : decode b_Arrs_copyOf3 27 = .ok (.aload_n 3, 1) := by decide +kernel
theorem d_Arrs_copyOf3_28 : decode b_Arrs_copyOf3 28 = .ok (.iconst 0, 1) := by decide +kernel
theorem d_Arrs_copyOf3_29 : decode b_Arrs_copyOf3 29 = .ok (.aload_n 0, 1) := by decide +kernel
theorem d_Arrs_copyOf3_30 : decode b_Arrs_copyOf3 30 = .ok (.arraylength, 1) := by decide +kernel
theorem d_Arrs_copyOf3_31 : decode b_Arrs_copyOf3 31 = .ok (.iload_n 1, 1) := by decide +kernel
theorem d_Arrs_copyOf3_32 : decode b_Arrs_copyOf3 32 = .ok (.invokestatic 304, 3) := by decide +kernel
theorem d_Arrs_copyOf3_35 : decode b_Arrs_copyOf3 35 = .ok (.invokestatic 150, 3) := by decide +kernel
theorem d_Arrs_copyOf3_38 : decode b_Arrs_copyOf3 38 = .ok (.aload_n 3, 1) := by decide +kernel
theorem d_Arrs_copyOf3_39 : decode b_Arrs_copyOf3 39 = .ok (.areturn, 1) := by decide +kernel
theorem d_Math_min_0 : decode b_Math_min 0 = .ok (.iload_n 0, 1) := by decide +kernel
theorem d_Math_min_1 : decode b_Math_min 1 = .ok (.iload_n 1, 1) := by decide +kernel
theorem d_Math_min_2 : decode b_Math_min 2 = .ok (.if_icmp .gt 7, 3) := by decide +kernel
theorem d_Math_min_5 : decode b_Math_min 5 = .ok (.iload_n 0, 1) := by decide +kernel
theorem d_Math_min_6 : decode b_Math_min 6 = .ok (.goto 4, 3) := by decide +kernel
theorem d_Math_min_9 : decode b_Math_min 9 = .ok (.iload_n 1, 1) := by decide +kernel
theorem d_Math_min_10 : decode b_Math_min 10 = .ok (.ireturn, 1) := by decide +kernel
theorem d_KG_key_0 : decode b_KG_key 0 = .ok (.aload_n 0, 1) := by decide +kernel
theorem d_KG_key_1 : decode b_KG_key 1 = .ok (.getfield 32, 3) := by decide +kernel
theorem d_KG_key_4 : decode b_KG_key 4 = .ok (.invokevirtual 50, 3) := by decide +kernel
theorem d_KG_key_7 : decode b_KG_key 7 = .ok (.bipush 40, 2) := by decide +kernel
theorem d_KG_key_9 : decode b_KG_key 9 = .ok (.if_icmp .eq 13, 3) := by decide +kernel
theorem d_KG_key_12 : decode b_KG_key 12 = .ok (.iload_n 1, 1) := by decide +kernel
theorem d_KG_key_13 : decode b_KG_key 13 = .ok (.ifCond .lt 9, 3) := by decide +kernel
theorem d_KG_key_16 : decode b_KG_key 16 = .ok (.iload_n 1, 1) := by decide +kernel
theorem d_KG_key_17 : decode b_KG_key 17 = .ok (.bipush 6, 2) := by decide +kernel
theorem d_KG_key_19 : decode b_KG_key 19 = .ok (.if_icmp .lt 5, 3) := by decide +kernel
theorem d_KG_key_22 : decode b_KG_key 22 = .ok (.iconst (-1), 1) := by decide +kernel
theorem d_KG_key_23 : decode b_KG_key 23 = .ok (.ireturn, 1) := by decide +kernel
theorem d_KG_key_24 : decode b_KG_key 24 = .ok (.aload_n 0, 1) := by decide +kernel
theorem d_KG_key_25 : decode b_KG_key 25 = .ok (.getfield 32, 3) := by decide +kernel
theorem d_KG_key_28 : decode b_KG_key 28 = .ok (.new 62, 3) := by decide +kernel
theorem d_KG_key_31 : decode b_KG_key 31 = .ok (.dup, 1) := by decide +kernel
theorem d_KG_key_32 : decode b_KG_key 32 = .ok (.aload_n 0, 1) := by decide +kernel
theorem d_KG_key_33 : decode b_KG_key 33 = .ok (.getfield 32, 3) := by decide +kernel
theorem d_KG_key_36 : decode b_KG_key 36 = .ok (.invokevirtual 50, 3) := by decide +kernel
theorem d_KG_key_39 : decode b_KG_key 39 = .ok (.iload_n 1, 1) := by decide +kernel
theorem d_KG_key_40 : decode b_KG_key 40 = .ok (.invokestatic 95, 3) := by decide +kernel
theorem d_KG_key_43 : decode b_KG_key 43 = .ok (.invokespecial 78, 3) := by decide +kernel
theorem d_KG_key_46 : decode b_KG_key 46 = .ok (.invokevirtual 88, 3) := by decide +kernel
theorem d_KG_key_49 : decode b_KG_key 49 = .ok (.pop, 1) := by decide +kernel
theorem d_KG_key_50 : decode b_KG_key 50 = .ok (.aload_n 0, 1) := by decide +kernel
theorem d_KG_key_51 : decode b_KG_key 51 = .ok (.getfield 32, 3) := by decide +kernel
theorem d_KG_key_54 : decode b_KG_key 54 = .ok (.invokevirtual 50, 3) := by decide +kernel
theorem d_KG_key_57 : decode b_KG_key 57 = .ok (.iconst 1, 1) := by decide +kernel
theorem d_KG_key_58 : decode b_KG_key 58 = .ok (.isub, 1) := by decide +kernel
theorem d_KG_key_59 : decode b_KG_key 59 = .ok (.ireturn, 1) := by decide +kernel
theorem d_KG_made_0 : decode b_KG_made 0 = .ok (.iload_n 0, 1) := by decide +kernel
theorem d_KG_made_1 : decode b_KG_made 1 = .ok (.tableswitch 77 0 4 #[35, 44, 52, 60, 68], 35) := by decide +kernel
theorem d_KG_made_36 : decode b_KG_made 36 = .ok (.new 1, 3) := by decide +kernel
theorem d_KG_made_39 : decode b_KG_made 39 = .ok (.dup, 1) := by decide +kernel
theorem d_KG_made_40 : decode b_KG_made 40 = .ok (.iconst 0, 1) := by decide +kernel
theorem d_KG_made_41 : decode b_KG_made 41 = .ok (.invokespecial 3, 3) := by decide +kernel
theorem d_KG_made_44 : decode b_KG_made 44 = .ok (.areturn, 1) := by decide +kernel
theorem d_KG_made_45 : decode b_KG_made 45 = .ok (.new 7, 3) := by decide +kernel
theorem d_KG_made_48 : decode b_KG_made 48 = .ok (.dup, 1) := by decide +kernel
theorem d_KG_made_49 : decode b_KG_made 49 = .ok (.invokespecial 9, 3) := by decide +kernel
theorem d_KG_made_52 : decode b_KG_made 52 = .ok (.areturn, 1) := by decide +kernel
theorem d_KG_made_53 : decode b_KG_made 53 = .ok (.new 12, 3) := by decide +kernel
theorem d_KG_made_56 : decode b_KG_made 56 = .ok (.dup, 1) := by decide +kernel
theorem d_KG_made_57 : decode b_KG_made 57 = .ok (.invokespecial 14, 3) := by decide +kernel
theorem d_KG_made_60 : decode b_KG_made 60 = .ok (.areturn, 1) := by decide +kernel
theorem d_KG_made_61 : decode b_KG_made 61 = .ok (.new 15, 3) := by decide +kernel
theorem d_KG_made_64 : decode b_KG_made 64 = .ok (.dup, 1) := by decide +kernel
theorem d_KG_made_65 : decode b_KG_made 65 = .ok (.invokespecial 17, 3) := by decide +kernel
theorem d_KG_made_68 : decode b_KG_made 68 = .ok (.areturn, 1) := by decide +kernel
theorem d_KG_made_69 : decode b_KG_made 69 = .ok (.new 1, 3) := by decide +kernel
theorem d_KG_made_72 : decode b_KG_made 72 = .ok (.dup, 1) := by decide +kernel
theorem d_KG_made_73 : decode b_KG_made 73 = .ok (.iconst 1, 1) := by decide +kernel
theorem d_KG_made_74 : decode b_KG_made 74 = .ok (.invokespecial 3, 3) := by decide +kernel
theorem d_KG_made_77 : decode b_KG_made 77 = .ok (.areturn, 1) := by decide +kernel
theorem d_KG_made_78 : decode b_KG_made 78 = .ok (.new 18, 3) := by decide +kernel
theorem d_KG_made_81 : decode b_KG_made 81 = .ok (.dup, 1) := by decide +kernel
theorem d_KG_made_82 : decode b_KG_made 82 = .ok (.invokespecial 20, 3) := by decide +kernel
theorem d_KG_made_85 : decode b_KG_made 85 = .ok (.areturn, 1) := by decide +kernel
theorem d_Sum_init_0 : decode b_Sum_init 0 = .ok (.aload_n 0, 1) := by decide +kernel
theorem d_Sum_init_1 : decode b_Sum_init 1 = .ok (.invokespecial 1, 3) := by decide +kernel
theorem d_Sum_init_4 : decode b_Sum_init 4 = .ok (.aload_n 0, 1) := by decide +kernel
theorem d_Sum_init_5 : decode b_Sum_init 5 = .ok (.iload_n 1, 1) := by decide +kernel
theorem d_Sum_init_6 : decode b_Sum_init 6 = .ok (.putfield 7, 3) := by decide +kernel
theorem d_Sum_init_9 : decode b_Sum_init 9 = .ok (.return_, 1) := by decide +kernel
theorem d_Fun_init_0 : decode b_Fun_init 0 = .ok (.aload_n 0, 1) := by decide +kernel
theorem d_Fun_init_1 : decode b_Fun_init 1 = .ok (.invokespecial 3, 3) := by decide +kernel
theorem d_Fun_init_4 : decode b_Fun_init 4 = .ok (.return_, 1) := by decide +kernel
theorem d_First_init_0 : decode b_First_init 0 = .ok (.aload_n 0, 1) := by decide +kernel
theorem d_First_init_1 : decode b_First_init 1 = .ok (.invokespecial 1, 3) := by decide +kernel
theorem d_First_init_4 : decode b_First_init 4 = .ok (.return_, 1) := by decide +kernel
theorem d_Choice_init_0 : decode b_Choice_init 0 = .ok (.aload_n 0, 1) := by decide +kernel
theorem d_Choice_init_1 : decode b_Choice_init 1 = .ok (.invokespecial 3, 3) := by decide +kernel
theorem d_Choice_init_4 : decode b_Choice_init 4 = .ok (.return_, 1) := by decide +kernel
theorem d_Quot_init_0 : decode b_Quot_init 0 = .ok (.aload_n 0, 1) := by decide +kernel
theorem d_Quot_init_1 : decode b_Quot_init 1 = .ok (.invokespecial 1, 3) := by decide +kernel
theorem d_Quot_init_4 : decode b_Quot_init 4 = .ok (.return_, 1) := by decide +kernel
theorem d_Great_init_0 : decode b_Great_init 0 = .ok (.aload_n 0, 1) := by decide +kernel
theorem d_Great_init_1 : decode b_Great_init 1 = .ok (.invokespecial 1, 3) := by decide +kernel
theorem d_Great_init_4 : decode b_Great_init 4 = .ok (.return_, 1) := by decide +kernel
theorem d_KG_asks_0 : decode b_KG_asks 0 = .ok (.aload_n 0, 1) := by decide +kernel
theorem d_KG_asks_1 : decode b_KG_asks 1 = .ok (.iload_n 1, 1) := by decide +kernel
theorem d_KG_asks_2 : decode b_KG_asks 2 = .ok (.invokevirtual 109, 3) := by decide +kernel
theorem d_KG_asks_5 : decode b_KG_asks 5 = .ok (.ifCond .eq 11, 3) := by decide +kernel
theorem d_KG_asks_8 : decode b_KG_asks 8 = .ok (.aload_n 0, 1) := by decide +kernel
theorem d_KG_asks_9 : decode b_KG_asks 9 = .ok (.iload_n 2, 1) := by decide +kernel
theorem d_KG_asks_10 : decode b_KG_asks 10 = .ok (.invokevirtual 54, 3) := by decide +kernel
theorem d_KG_asks_13 : decode b_KG_asks 13 = .ok (.ifCond .ne 5, 3) := by decide +kernel
theorem d_KG_asks_16 : decode b_KG_asks 16 = .ok (.iconst (-1), 1) := by decide +kernel
theorem d_KG_asks_17 : decode b_KG_asks 17 = .ok (.ireturn, 1) := by decide +kernel
theorem d_KG_asks_18 : decode b_KG_asks 18 = .ok (.aload_n 0, 1) := by decide +kernel
theorem d_KG_asks_19 : decode b_KG_asks 19 = .ok (.getfield 32, 3) := by decide +kernel
theorem d_KG_asks_22 : decode b_KG_asks 22 = .ok (.iload_n 1, 1) := by decide +kernel
theorem d_KG_asks_23 : decode b_KG_asks 23 = .ok (.invokevirtual 58, 3) := by decide +kernel
theorem d_KG_asks_26 : decode b_KG_asks 26 = .ok (.checkcast 62, 3) := by decide +kernel
theorem d_KG_asks_29 : decode b_KG_asks 29 = .ok (.astore_n 3, 1) := by decide +kernel
theorem d_KG_asks_30 : decode b_KG_asks 30 = .ok (.aload_n 0, 1) := by decide +kernel
theorem d_KG_asks_31 : decode b_KG_asks 31 = .ok (.getfield 32, 3) := by decide +kernel
theorem d_KG_asks_34 : decode b_KG_asks 34 = .ok (.iload_n 2, 1) := by decide +kernel
theorem d_KG_asks_35 : decode b_KG_asks 35 = .ok (.invokevirtual 58, 3) := by decide +kernel
theorem d_KG_asks_38 : decode b_KG_asks 38 = .ok (.checkcast 62, 3) := by decide +kernel
theorem d_KG_asks_41 : decode b_KG_asks 41 = .ok (.astore 4, 2) := by decide +kernel
theorem d_KG_asks_43 : decode b_KG_asks 43 = .ok (.aload_n 3, 1) := by decide +kernel
theorem d_KG_asks_44 : decode b_KG_asks 44 = .ok (.getfield 99, 3) := by decide +kernel
theorem d_KG_asks_47 : decode b_KG_asks 47 = .ok (.invokevirtual 50, 3) := by decide +kernel
theorem d_KG_asks_50 : decode b_KG_asks 50 = .ok (.bipush 8, 2) := by decide +kernel
theorem d_KG_asks_52 : decode b_KG_asks 52 = .ok (.if_icmp .ne 5, 3) := by decide +kernel
theorem d_KG_asks_55 : decode b_KG_asks 55 = .ok (.iconst (-1), 1) := by decide +kernel
theorem d_KG_asks_56 : decode b_KG_asks 56 = .ok (.ireturn, 1) := by decide +kernel
theorem d_KG_asks_57 : decode b_KG_asks 57 = .ok (.aload_n 0, 1) := by decide +kernel
theorem d_KG_asks_58 : decode b_KG_asks 58 = .ok (.aload_n 3, 1) := by decide +kernel
theorem d_KG_asks_59 : decode b_KG_asks 59 = .ok (.invokevirtual 112, 3) := by decide +kernel
theorem d_KG_asks_62 : decode b_KG_asks 62 = .ok (.aload_n 0, 1) := by decide +kernel
theorem d_KG_asks_63 : decode b_KG_asks 63 = .ok (.aload 4, 2) := by decide +kernel
theorem d_KG_asks_65 : decode b_KG_asks 65 = .ok (.invokevirtual 102, 3) := by decide +kernel
theorem d_KG_asks_68 : decode b_KG_asks 68 = .ok (.ifCond .eq 89, 3) := by decide +kernel
theorem d_KG_asks_71 : decode b_KG_asks 71 = .ok (.aload_n 0, 1) := by decide +kernel
theorem d_KG_asks_72 : decode b_KG_asks 72 = .ok (.getfield 43, 3) := by decide +kernel
theorem d_KG_asks_75 : decode b_KG_asks 75 = .ok (.invokevirtual 116, 3) := by decide +kernel
theorem d_KG_asks_78 : decode b_KG_asks 78 = .ok (.aload_n 0, 1) := by decide +kernel
theorem d_KG_asks_79 : decode b_KG_asks 79 = .ok (.getfield 43, 3) := by decide +kernel
theorem d_KG_asks_82 : decode b_KG_asks 82 = .ok (.aload_n 3, 1) := by decide +kernel
theorem d_KG_asks_83 : decode b_KG_asks 83 = .ok (.invokevirtual 88, 3) := by decide +kernel
theorem d_KG_asks_86 : decode b_KG_asks 86 = .ok (.pop, 1) := by decide +kernel
theorem d_KG_asks_87 : decode b_KG_asks 87 = .ok (.aload 4, 2) := by decide +kernel
theorem d_KG_asks_89 : decode b_KG_asks 89 = .ok (.astore 5, 2) := by decide +kernel
theorem d_KG_asks_91 : decode b_KG_asks 91 = .ok (.aload 5, 2) := by decide +kernel
theorem d_KG_asks_93 : decode b_KG_asks 93 = .ok (.aload_n 3, 1) := by decide +kernel
theorem d_KG_asks_94 : decode b_KG_asks 94 = .ok (.if_acmp .eq 60, 3) := by decide +kernel
theorem d_KG_asks_97 : decode b_KG_asks 97 = .ok (.aload_n 0, 1) := by decide +kernel
theorem d_KG_asks_98 : decode b_KG_asks 98 = .ok (.getfield 43, 3) := by decide +kernel
theorem d_KG_asks_101 : decode b_KG_asks 101 = .ok (.aload 5, 2) := by decide +kernel
theorem d_KG_asks_103 : decode b_KG_asks 103 = .ok (.invokevirtual 88, 3) := by decide +kernel
theorem d_KG_asks_106 : decode b_KG_asks 106 = .ok (.pop, 1) := by decide +kernel
theorem d_KG_asks_107 : decode b_KG_asks 107 = .ok (.iconst 0, 1) := by decide +kernel
theorem d_KG_asks_108 : decode b_KG_asks 108 = .ok (.istore 6, 2) := by decide +kernel
theorem d_KG_asks_110 : decode b_KG_asks 110 = .ok (.aload_n 0, 1) := by decide +kernel
theorem d_KG_asks_111 : decode b_KG_asks 111 = .ok (.aload 5, 2) := by decide +kernel
theorem d_KG_asks_113 : decode b_KG_asks 113 = .ok (.getfield 99, 3) := by decide +kernel
theorem d_KG_asks_116 : decode b_KG_asks 116 = .ok (.iload 6, 2) := by decide +kernel
theorem d_KG_asks_118 : decode b_KG_asks 118 = .ok (.invokevirtual 58, 3) := by decide +kernel
theorem d_KG_asks_121 : decode b_KG_asks 121 = .ok (.checkcast 62, 3) := by decide +kernel
theorem d_KG_asks_124 : decode b_KG_asks 124 = .ok (.invokevirtual 102, 3) := by decide +kernel
theorem d_KG_asks_127 : decode b_KG_asks 127 = .ok (.ifCond .ne 9, 3) := by decide +kernel
theorem d_KG_asks_130 : decode b_KG_asks 130 = .ok (.iinc 6 1, 3) := by decide +kernel
theorem d_KG_asks_133 : decode b_KG_asks 133 = .ok (.goto (-23), 3) := by decide +kernel
theorem d_KG_asks_136 : decode b_KG_asks 136 = .ok (.aload 5, 2) := by decide +kernel
theorem d_KG_asks_138 : decode b_KG_asks 138 = .ok (.getfield 99, 3) := by decide +kernel
theorem d_KG_asks_141 : decode b_KG_asks 141 = .ok (.iload 6, 2) := by decide +kernel
theorem d_KG_asks_143 : decode b_KG_asks 143 = .ok (.invokevirtual 58, 3) := by decide +kernel
theorem d_KG_asks_146 : decode b_KG_asks 146 = .ok (.checkcast 62, 3) := by decide +kernel
theorem d_KG_asks_149 : decode b_KG_asks 149 = .ok (.astore 5, 2) := by decide +kernel
theorem d_KG_asks_151 : decode b_KG_asks 151 = .ok (.goto (-60), 3) := by decide +kernel
theorem d_KG_asks_154 : decode b_KG_asks 154 = .ok (.bipush (-2), 2) := by decide +kernel
theorem d_KG_asks_156 : decode b_KG_asks 156 = .ok (.ireturn, 1) := by decide +kernel
theorem d_KG_asks_157 : decode b_KG_asks 157 = .ok (.aload_n 0, 1) := by decide +kernel
theorem d_KG_asks_158 : decode b_KG_asks 158 = .ok (.invokevirtual 119, 3) := by decide +kernel
theorem d_KG_asks_161 : decode b_KG_asks 161 = .ok (.aload_n 3, 1) := by decide +kernel
theorem d_KG_asks_162 : decode b_KG_asks 162 = .ok (.getfield 99, 3) := by decide +kernel
theorem d_KG_asks_165 : decode b_KG_asks 165 = .ok (.aload 4, 2) := by decide +kernel
theorem d_KG_asks_167 : decode b_KG_asks 167 = .ok (.invokevirtual 88, 3) := by decide +kernel
theorem d_KG_asks_170 : decode b_KG_asks 170 = .ok (.pop, 1) := by decide +kernel
theorem d_KG_asks_171 : decode b_KG_asks 171 = .ok (.aload_n 3, 1) := by decide +kernel
theorem d_KG_asks_172 : decode b_KG_asks 172 = .ok (.aload_n 0, 1) := by decide +kernel
theorem d_KG_asks_173 : decode b_KG_asks 173 = .ok (.getfield 75, 3) := by decide +kernel
theorem d_KG_asks_176 : decode b_KG_asks 176 = .ok (.putfield 122, 3) := by decide +kernel
theorem d_KG_asks_179 : decode b_KG_asks 179 = .ok (.iconst 1, 1) := by decide +kernel
theorem d_KG_asks_180 : decode b_KG_asks 180 = .ok (.ireturn, 1) := by decide +kernel
theorem d_KG_isFunction_0 : decode b_KG_isFunction 0 = .ok (.aload_n 0, 1) := by decide +kernel
theorem d_KG_isFunction_1 : decode b_KG_isFunction 1 = .ok (.iload_n 1, 1) := by decide +kernel
theorem d_KG_isFunction_2 : decode b_KG_isFunction 2 = .ok (.invokevirtual 54, 3) := by decide +kernel
theorem d_KG_isFunction_5 : decode b_KG_isFunction 5 = .ok (.ifCond .eq 24, 3) := by decide +kernel
theorem d_KG_isFunction_8 : decode b_KG_isFunction 8 = .ok (.aload_n 0, 1) := by decide +kernel
theorem d_KG_isFunction_9 : decode b_KG_isFunction 9 = .ok (.getfield 32, 3) := by decide +kernel
theorem d_KG_isFunction_12 : decode b_KG_isFunction 12 = .ok (.iload_n 1, 1) := by decide +kernel
theorem d_KG_isFunction_13 : decode b_KG_isFunction 13 = .ok (.invokevirtual 58, 3) := by decide +kernel
theorem d_KG_isFunction_16 : decode b_KG_isFunction 16 = .ok (.checkcast 62, 3) := by decide +kernel
theorem d_KG_isFunction_19 : decode b_KG_isFunction 19 = .ok (.invokevirtual 64, 3) := by decide +kernel
theorem d_KG_isFunction_22 : decode b_KG_isFunction 22 = .ok (.ifCond .ne 7, 3) := by decide +kernel
theorem d_KG_isFunction_25 : decode b_KG_isFunction 25 = .ok (.iconst 1, 1) := by decide +kernel
theorem d_KG_isFunction_26 : decode b_KG_isFunction 26 = .ok (.goto 4, 3) := by decide +kernel
theorem d_KG_isFunction_29 : decode b_KG_isFunction 29 = .ok (.iconst 0, 1) := by decide +kernel
theorem d_KG_isFunction_30 : decode b_KG_isFunction 30 = .ok (.ireturn, 1) := by decide +kernel
theorem d_KG_isKey_0 : decode b_KG_isKey 0 = .ok (.iload_n 1, 1) := by decide +kernel
theorem d_KG_isKey_1 : decode b_KG_isKey 1 = .ok (.ifCond .lt 18, 3) := by decide +kernel
theorem d_KG_isKey_4 : decode b_KG_isKey 4 = .ok (.iload_n 1, 1) := by decide +kernel
theorem d_KG_isKey_5 : decode b_KG_isKey 5 = .ok (.aload_n 0, 1) := by decide +kernel
theorem d_KG_isKey_6 : decode b_KG_isKey 6 = .ok (.getfield 32, 3) := by decide +kernel
theorem d_KG_isKey_9 : decode b_KG_isKey 9 = .ok (.invokevirtual 50, 3) := by decide +kernel
theorem d_KG_isKey_12 : decode b_KG_isKey 12 = .ok (.if_icmp .ge 7, 3) := by decide +kernel
theorem d_KG_isKey_15 : decode b_KG_isKey 15 = .ok (.iconst 1, 1) := by decide +kernel
theorem d_KG_isKey_16 : decode b_KG_isKey 16 = .ok (.goto 4, 3) := by decide +kernel
theorem d_KG_isKey_19 : decode b_KG_isKey 19 = .ok (.iconst 0, 1) := by decide +kernel
theorem d_KG_isKey_20 : decode b_KG_isKey 20 = .ok (.ireturn, 1) := by decide +kernel
theorem d_AL_get_0 : decode b_AL_get 0 = .ok (.iload_n 1, 1) := by decide +kernel
theorem d_AL_get_1 : decode b_AL_get 1 = .ok (.aload_n 0, 1) := by decide +kernel
theorem d_AL_get_2 : decode b_AL_get 2 = .ok (.getfield 48, 3) := by decide +kernel
theorem d_AL_get_5 : decode b_AL_get 5 = .ok (.invokestatic 118, 3) := by decide +kernel
theorem d_AL_get_8 : decode b_AL_get 8 = .ok (.pop, 1) := by decide +kernel
theorem d_AL_get_9 : decode b_AL_get 9 = .ok (.aload_n 0, 1) := by decide +kernel
theorem d_AL_get_10 : decode b_AL_get 10 = .ok (.iload_n 1, 1) := by decide +kernel
theorem d_AL_get_11 : decode b_AL_get 11 = .ok (.invokevirtual 123, 3) := by decide +kernel
theorem d_AL_get_14 : decode b_AL_get 14 = .ok (.areturn, 1) := by decide +kernel
theorem d_Objs_checkIndex_0 : decode b_Objs_checkIndex 0 = .ok (.iload_n 0, 1) := by decide +kernel
theorem d_Objs_checkIndex_1 : decode b_Objs_checkIndex 1 = .ok (.iload_n 1, 1) := by decide +kernel
theorem d_Objs_checkIndex_2 : decode b_Objs_checkIndex 2 = .ok (.aconst_null, 1) := by decide +kernel
theorem d_Objs_checkIndex_3 : decode b_Objs_checkIndex 3 = .ok (.invokestatic 105, 3) := by decide +kernel
theorem d_Objs_checkIndex_6 : decode b_Objs_checkIndex 6 = .ok (.ireturn, 1) := by decide +kernel
theorem d_Prec_checkIndex_0 : decode b_Prec_checkIndex 0 = .ok (.iload_n 0, 1) := by decide +kernel
theorem d_Prec_checkIndex_1 : decode b_Prec_checkIndex 1 = .ok (.ifCond .lt 8, 3) := by decide +kernel
theorem d_Prec_checkIndex_4 : decode b_Prec_checkIndex 4 = .ok (.iload_n 0, 1) := by decide +kernel
theorem d_Prec_checkIndex_5 : decode b_Prec_checkIndex 5 = .ok (.iload_n 1, 1) := by decide +kernel
theorem d_Prec_checkIndex_6 : decode b_Prec_checkIndex 6 = .ok (.if_icmp .lt 10, 3) := by decide +kernel
theorem d_Prec_checkIndex_9 : decode b_Prec_checkIndex 9 = .ok (.aload_n 2, 1) := by decide +kernel
theorem d_Prec_checkIndex_10 : decode b_Prec_checkIndex 10 = .ok (.iload_n 0, 1) := by decide +kernel
theorem d_Prec_checkIndex_11 : decode b_Prec_checkIndex 11 = .ok (.iload_n 1, 1) := by decide +kernel
theorem d_Prec_checkIndex_12 : decode b_Prec_checkIndex 12 = .ok (.invokestatic 95, 3) := by decide +kernel
theorem d_Prec_checkIndex_15 : decode b_Prec_checkIndex 15 = .ok (.athrow, 1) := by decide +kernel
theorem d_Prec_checkIndex_16 : decode b_Prec_checkIndex 16 = .ok (.iload_n 0, 1) := by decide +kernel
theorem d_Prec_checkIndex_17 : decode b_Prec_checkIndex 17 = .ok (.ireturn, 1) := by decide +kernel
theorem d_AL_elementData_0 : decode b_AL_elementData 0 = .ok (.aload_n 0, 1) := by decide +kernel
theorem d_AL_elementData_1 : decode b_AL_elementData 1 = .ok (.getfield 9, 3) := by decide +kernel
theorem d_AL_elementData_4 : decode b_AL_elementData 4 = .ok (.iload_n 1, 1) := by decide +kernel
theorem d_AL_elementData_5 : decode b_AL_elementData 5 = .ok (.aaload, 1) := by decide +kernel
theorem d_AL_elementData_6 : decode b_AL_elementData 6 = .ok (.areturn, 1) := by decide +kernel
theorem d_Key_isLeaf_0 : decode b_Key_isLeaf 0 = .ok (.aload_n 0, 1) := by decide +kernel
theorem d_Key_isLeaf_1 : decode b_Key_isLeaf 1 = .ok (.getfield 35, 3) := by decide +kernel
theorem d_Key_isLeaf_4 : decode b_Key_isLeaf 4 = .ok (.ifnonnull 7, 3) := by decide +kernel
theorem d_Key_isLeaf_7 : decode b_Key_isLeaf 7 = .ok (.iconst 1, 1) := by decide +kernel
theorem d_Key_isLeaf_8 : decode b_Key_isLeaf 8 = .ok (.goto 4, 3) := by decide +kernel
theorem d_Key_isLeaf_11 : decode b_Key_isLeaf 11 = .ok (.iconst 0, 1) := by decide +kernel
theorem d_Key_isLeaf_12 : decode b_Key_isLeaf 12 = .ok (.ireturn, 1) := by decide +kernel
theorem d_KG_leadTo_0 : decode b_KG_leadTo 0 = .ok (.iconst 0, 1) := by decide +kernel
theorem d_KG_leadTo_1 : decode b_KG_leadTo 1 = .ok (.istore_n 2, 1) := by decide +kernel
theorem d_KG_leadTo_2 : decode b_KG_leadTo 2 = .ok (.iload_n 2, 1) := by decide +kernel
theorem d_KG_leadTo_3 : decode b_KG_leadTo 3 = .ok (.bipush 40, 2) := by decide +kernel
theorem d_KG_leadTo_5 : decode b_KG_leadTo 5 = .ok (.if_icmp .ge 28, 3) := by decide +kernel
theorem d_KG_leadTo_8 : decode b_KG_leadTo 8 = .ok (.aload_n 0, 1) := by decide +kernel
theorem d_KG_leadTo_9 : decode b_KG_leadTo 9 = .ok (.getfield 46, 3) := by decide +kernel
theorem d_KG_leadTo_12 : decode b_KG_leadTo 12 = .ok (.iload_n 2, 1) := by decide +kernel
theorem d_KG_leadTo_13 : decode b_KG_leadTo 13 = .ok (.iload_n 2, 1) := by decide +kernel
theorem d_KG_leadTo_14 : decode b_KG_leadTo 14 = .ok (.aload_n 1, 1) := by decide +kernel
theorem d_KG_leadTo_15 : decode b_KG_leadTo 15 = .ok (.getfield 92, 3) := by decide +kernel
theorem d_KG_leadTo_18 : decode b_KG_leadTo 18 = .ok (.if_icmp .ne 7, 3) := by decide +kernel
theorem d_KG_leadTo_21 : decode b_KG_leadTo 21 = .ok (.iconst 1, 1) := by decide +kernel
theorem d_KG_leadTo_22 : decode b_KG_leadTo 22 = .ok (.goto 4, 3) := by decide +kernel
theorem d_KG_leadTo_25 : decode b_KG_leadTo 25 = .ok (.iconst 0, 1) := by decide +kernel
theorem d_KG_leadTo_26 : decode b_KG_leadTo 26 = .ok (.bastore, 1) := by decide +kernel
theorem d_KG_leadTo_27 : decode b_KG_leadTo 27 = .ok (.iinc 2 1, 3) := by decide +kernel
theorem d_KG_leadTo_30 : decode b_KG_leadTo 30 = .ok (.goto (-28), 3) := by decide +kernel
theorem d_KG_leadTo_33 : decode b_KG_leadTo 33 = .ok (.iconst 1, 1) := by decide +kernel
theorem d_KG_leadTo_34 : decode b_KG_leadTo 34 = .ok (.istore_n 2, 1) := by decide +kernel
theorem d_KG_leadTo_35 : decode b_KG_leadTo 35 = .ok (.iload_n 2, 1) := by decide +kernel
theorem d_KG_leadTo_36 : decode b_KG_leadTo 36 = .ok (.ifCond .eq 66, 3) := by decide +kernel
theorem d_KG_leadTo_39 : decode b_KG_leadTo 39 = .ok (.iconst 0, 1) := by decide +kernel
theorem d_KG_leadTo_40 : decode b_KG_leadTo 40 = .ok (.istore_n 2, 1) := by decide +kernel
theorem d_KG_leadTo_41 : decode b_KG_leadTo 41 = .ok (.iconst 0, 1) := by decide +kernel
theorem d_KG_leadTo_42 : decode b_KG_leadTo 42 = .ok (.istore_n 3, 1) := by decide +kernel
theorem d_KG_leadTo_43 : decode b_KG_leadTo 43 = .ok (.iload_n 3, 1) := by decide +kernel
theorem d_KG_leadTo_44 : decode b_KG_leadTo 44 = .ok (.aload_n 0, 1) := by decide +kernel
theorem d_KG_leadTo_45 : decode b_KG_leadTo 45 = .ok (.getfield 32, 3) := by decide +kernel
theorem d_KG_leadTo_48 : decode b_KG_leadTo 48 = .ok (.invokevirtual 50, 3) := by decide +kernel
theorem d_KG_leadTo_51 : decode b_KG_leadTo 51 = .ok (.if_icmp .ge 48, 3) := by decide +kernel
theorem d_KG_leadTo_54 : decode b_KG_leadTo 54 = .ok (.aload_n 0, 1) := by decide +kernel
theorem d_KG_leadTo_55 : decode b_KG_leadTo 55 = .ok (.getfield 46, 3) := by decide +kernel
theorem d_KG_leadTo_58 : decode b_KG_leadTo 58 = .ok (.iload_n 3, 1) := by decide +kernel
theorem d_KG_leadTo_59 : decode b_KG_leadTo 59 = .ok (.baload, 1) := by decide +kernel
theorem d_KG_leadTo_60 : decode b_KG_leadTo 60 = .ok (.ifCond .ne 33, 3) := by decide +kernel
theorem d_KG_leadTo_63 : decode b_KG_leadTo 63 = .ok (.aload_n 0, 1) := by decide +kernel
theorem d_KG_leadTo_64 : decode b_KG_leadTo 64 = .ok (.aload_n 0, 1) := by decide +kernel
theorem d_KG_leadTo_65 : decode b_KG_leadTo 65 = .ok (.getfield 32, 3) := by decide +kernel
theorem d_KG_leadTo_68 : decode b_KG_leadTo 68 = .ok (.iload_n 3, 1) := by decide +kernel
theorem d_KG_leadTo_69 : decode b_KG_leadTo 69 = .ok (.invokevirtual 58, 3) := by decide +kernel
theorem d_KG_leadTo_72 : decode b_KG_leadTo 72 = .ok (.checkcast 62, 3) := by decide +kernel
theorem d_KG_leadTo_75 : decode b_KG_leadTo 75 = .ok (.invokevirtual 106, 3) := by decide +kernel
theorem d_KG_leadTo_78 : decode b_KG_leadTo 78 = .ok (.ifCond .ne 6, 3) := by decide +kernel
theorem d_KG_leadTo_81 : decode b_KG_leadTo 81 = .ok (.goto 12, 3) := by decide +kernel
theorem d_KG_leadTo_84 : decode b_KG_leadTo 84 = .ok (.aload_n 0, 1) := by decide +kernel
theorem d_KG_leadTo_85 : decode b_KG_leadTo 85 = .ok (.getfield 46, 3) := by decide +kernel
theorem d_KG_leadTo_88 : decode b_KG_leadTo 88 = .ok (.iload_n 3, 1) := by decide +kernel
theorem d_KG_leadTo_89 : decode b_KG_leadTo 89 = .ok (.iconst 1, 1) := by decide +kernel
theorem d_KG_leadTo_90 : decode b_KG_leadTo 90 = .ok (.bastore, 1) := by decide +kernel
theorem d_KG_leadTo_91 : decode b_KG_leadTo 91 = .ok (.iconst 1, 1) := by decide +kernel
theorem d_KG_leadTo_92 : decode b_KG_leadTo 92 = .ok (.istore_n 2, 1) := by decide +kernel
theorem d_KG_leadTo_93 : decode b_KG_leadTo 93 = .ok (.iinc 3 1, 3) := by decide +kernel
theorem d_KG_leadTo_96 : decode b_KG_leadTo 96 = .ok (.goto (-53), 3) := by decide +kernel
theorem d_KG_leadTo_99 : decode b_KG_leadTo 99 = .ok (.goto (-64), 3) := by decide +kernel
theorem d_KG_leadTo_102 : decode b_KG_leadTo 102 = .ok (.return_, 1) := by decide +kernel
theorem d_KG_asksOne_0 : decode b_KG_asksOne 0 = .ok (.iconst 0, 1) := by decide +kernel
theorem d_KG_asksOne_1 : decode b_KG_asksOne 1 = .ok (.istore_n 2, 1) := by decide +kernel
theorem d_KG_asksOne_2 : decode b_KG_asksOne 2 = .ok (.iconst 0, 1) := by decide +kernel
theorem d_KG_asksOne_3 : decode b_KG_asksOne 3 = .ok (.istore_n 3, 1) := by decide +kernel
theorem d_KG_asksOne_4 : decode b_KG_asksOne 4 = .ok (.iload_n 3, 1) := by decide +kernel
theorem d_KG_asksOne_5 : decode b_KG_asksOne 5 = .ok (.aload_n 1, 1) := by decide +kernel
theorem d_KG_asksOne_6 : decode b_KG_asksOne 6 = .ok (.getfield 99, 3) := by decide +kernel
theorem d_KG_asksOne_9 : decode b_KG_asksOne 9 = .ok (.invokevirtual 50, 3) := by decide +kernel
theorem d_KG_asksOne_12 : decode b_KG_asksOne 12 = .ok (.if_icmp .ge 29, 3) := by decide +kernel
theorem d_KG_asksOne_15 : decode b_KG_asksOne 15 = .ok (.iload_n 2, 1) := by decide +kernel
theorem d_KG_asksOne_16 : decode b_KG_asksOne 16 = .ok (.ifCond .ne 25, 3) := by decide +kernel
theorem d_KG_asksOne_19 : decode b_KG_asksOne 19 = .ok (.aload_n 0, 1) := by decide +kernel
theorem d_KG_asksOne_20 : decode b_KG_asksOne 20 = .ok (.aload_n 1, 1) := by decide +kernel
theorem d_KG_asksOne_21 : decode b_KG_asksOne 21 = .ok (.getfield 99, 3) := by decide +kernel
theorem d_KG_asksOne_24 : decode b_KG_asksOne 24 = .ok (.iload_n 3, 1) := by decide +kernel
theorem d_KG_asksOne_25 : decode b_KG_asksOne 25 = .ok (.invokevirtual 58, 3) := by decide +kernel
theorem d_KG_asksOne_28 : decode b_KG_asksOne 28 = .ok (.checkcast 62, 3) := by decide +kernel
theorem d_KG_asksOne_31 : decode b_KG_asksOne 31 = .ok (.invokevirtual 102, 3) := by decide +kernel
theorem d_KG_asksOne_34 : decode b_KG_asksOne 34 = .ok (.istore_n 2, 1) := by decide +kernel
theorem d_KG_asksOne_35 : decode b_KG_asksOne 35 = .ok (.iinc 3 1, 3) := by decide +kernel
theorem d_KG_asksOne_38 : decode b_KG_asksOne 38 = .ok (.goto (-34), 3) := by decide +kernel
theorem d_KG_asksOne_41 : decode b_KG_asksOne 41 = .ok (.iload_n 2, 1) := by decide +kernel
theorem d_KG_asksOne_42 : decode b_KG_asksOne 42 = .ok (.ireturn, 1) := by decide +kernel
theorem d_KG_isLeading_0 : decode b_KG_isLeading 0 = .ok (.aload_n 0, 1) := by decide +kernel
theorem d_KG_isLeading_1 : decode b_KG_isLeading 1 = .ok (.getfield 46, 3) := by decide +kernel
theorem d_KG_isLeading_4 : decode b_KG_isLeading 4 = .ok (.aload_n 1, 1) := by decide +kernel
theorem d_KG_isLeading_5 : decode b_KG_isLeading 5 = .ok (.getfield 92, 3) := by decide +kernel
theorem d_KG_isLeading_8 : decode b_KG_isLeading 8 = .ok (.baload, 1) := by decide +kernel
theorem d_KG_isLeading_9 : decode b_KG_isLeading 9 = .ok (.ireturn, 1) := by decide +kernel
theorem d_AL_clear_0 : decode b_AL_clear 0 = .ok (.aload_n 0, 1) := by decide +kernel
theorem d_AL_clear_1 : decode b_AL_clear 1 = .ok (.dup, 1) := by decide +kernel
theorem d_AL_clear_2 : decode b_AL_clear 2 = .ok (.getfield 63, 3) := by decide +kernel
theorem d_AL_clear_5 : decode b_AL_clear 5 = .ok (.iconst 1, 1) := by decide +kernel
theorem d_AL_clear_6 : decode b_AL_clear 6 = .ok (.iadd, 1) := by decide +kernel
theorem d_AL_clear_7 : decode b_AL_clear 7 = .ok (.putfield 63, 3) := by decide +kernel
theorem d_AL_clear_10 : decode b_AL_clear 10 = .ok (.aload_n 0, 1) := by decide +kernel
theorem d_AL_clear_11 : decode b_AL_clear 11 = .ok (.getfield 9, 3) := by decide +kernel
theorem d_AL_clear_14 : decode b_AL_clear 14 = .ok (.astore_n 1, 1) := by decide +kernel
theorem d_AL_clear_15 : decode b_AL_clear 15 = .ok (.aload_n 0, 1) := by decide +kernel
theorem d_AL_clear_16 : decode b_AL_clear 16 = .ok (.getfield 48, 3) := by decide +kernel
theorem d_AL_clear_19 : decode b_AL_clear 19 = .ok (.istore_n 2, 1) := by decide +kernel
theorem d_AL_clear_20 : decode b_AL_clear 20 = .ok (.aload_n 0, 1) := by decide +kernel
theorem d_AL_clear_21 : decode b_AL_clear 21 = .ok (.iconst 0, 1) := by decide +kernel
theorem d_AL_clear_22 : decode b_AL_clear 22 = .ok (.dup_x1, 1) := by decide +kernel
theorem d_AL_clear_23 : decode b_AL_clear 23 = .ok (.putfield 48, 3) := by decide +kernel
theorem d_AL_clear_26 : decode b_AL_clear 26 = .ok (.istore_n 3, 1) := by decide +kernel
theorem d_AL_clear_27 : decode b_AL_clear 27 = .ok (.iload_n 3, 1) := by decide +kernel
theorem d_AL_clear_28 : decode b_AL_clear 28 = .ok (.iload_n 2, 1) := by decide +kernel
theorem d_AL_clear_29 : decode b_AL_clear 29 = .ok (.if_icmp .ge 13, 3) := by decide +kernel
theorem d_AL_clear_32 : decode b_AL_clear 32 = .ok (.aload_n 1, 1) := by decide +kernel
theorem d_AL_clear_33 : decode b_AL_clear 33 = .ok (.iload_n 3, 1) := by decide +kernel
theorem d_AL_clear_34 : decode b_AL_clear 34 = .ok (.aconst_null, 1) := by decide +kernel
theorem d_AL_clear_35 : decode b_AL_clear 35 = .ok (.aastore, 1) := by decide +kernel
theorem d_AL_clear_36 : decode b_AL_clear 36 = .ok (.iinc 3 1, 3) := by decide +kernel
theorem d_AL_clear_39 : decode b_AL_clear 39 = .ok (.goto (-12), 3) := by decide +kernel
theorem d_AL_clear_42 : decode b_AL_clear 42 = .ok (.return_, 1) := by decide +kernel
theorem d_KG_raise_0 : decode b_KG_raise 0 = .ok (.aload_n 0, 1) := by decide +kernel
theorem d_KG_raise_1 : decode b_KG_raise 1 = .ok (.invokevirtual 125, 3) := by decide +kernel
theorem d_KG_raise_4 : decode b_KG_raise 4 = .ok (.pop, 1) := by decide +kernel
theorem d_KG_raise_5 : decode b_KG_raise 5 = .ok (.aload_n 0, 1) := by decide +kernel
theorem d_KG_raise_6 : decode b_KG_raise 6 = .ok (.dup, 1) := by decide +kernel
theorem d_KG_raise_7 : decode b_KG_raise 7 = .ok (.getfield 75, 3) := by decide +kernel
theorem d_KG_raise_10 : decode b_KG_raise 10 = .ok (.iconst 1, 1) := by decide +kernel
theorem d_KG_raise_11 : decode b_KG_raise 11 = .ok (.iadd, 1) := by decide +kernel
theorem d_KG_raise_12 : decode b_KG_raise 12 = .ok (.putfield 75, 3) := by decide +kernel
theorem d_KG_raise_15 : decode b_KG_raise 15 = .ok (.return_, 1) := by decide +kernel
theorem d_KG_cancel_0 : decode b_KG_cancel 0 = .ok (.iconst 0, 1) := by decide +kernel
theorem d_KG_cancel_1 : decode b_KG_cancel 1 = .ok (.istore_n 1, 1) := by decide +kernel
theorem d_KG_cancel_2 : decode b_KG_cancel 2 = .ok (.iconst 0, 1) := by decide +kernel
theorem d_KG_cancel_3 : decode b_KG_cancel 3 = .ok (.istore_n 2, 1) := by decide +kernel
theorem d_KG_cancel_4 : decode b_KG_cancel 4 = .ok (.iload_n 2, 1) := by decide +kernel
theorem d_KG_cancel_5 : decode b_KG_cancel 5 = .ok (.iconst 4, 1) := by decide +kernel
theorem d_KG_cancel_6 : decode b_KG_cancel 6 = .ok (.if_icmp .gt 47, 3) := by decide +kernel
theorem d_KG_cancel_9 : decode b_KG_cancel 9 = .ok (.aload_n 0, 1) := by decide +kernel
theorem d_KG_cancel_10 : decode b_KG_cancel 10 = .ok (.getfield 40, 3) := by decide +kernel
theorem d_KG_cancel_13 : decode b_KG_cancel 13 = .ok (.iload_n 2, 1) := by decide +kernel
theorem d_KG_cancel_14 : decode b_KG_cancel 14 = .ok (.aaload, 1) := by decide +kernel
theorem d_KG_cancel_15 : decode b_KG_cancel 15 = .ok (.astore_n 3, 1) := by decide +kernel
theorem d_KG_cancel_16 : decode b_KG_cancel 16 = .ok (.aload_n 3, 1) := by decide +kernel
theorem d_KG_cancel_17 : decode b_KG_cancel 17 = .ok (.getfield 135, 3) := by decide +kernel
theorem d_KG_cancel_20 : decode b_KG_cancel 20 = .ok (.ifCond .le 27, 3) := by decide +kernel
theorem d_KG_cancel_23 : decode b_KG_cancel 23 = .ok (.aload_n 3, 1) := by decide +kernel
theorem d_KG_cancel_24 : decode b_KG_cancel 24 = .ok (.invokevirtual 169, 3) := by decide +kernel
theorem d_KG_cancel_27 : decode b_KG_cancel 27 = .ok (.iconst (-1), 1) := by decide +kernel
theorem d_KG_cancel_28 : decode b_KG_cancel 28 = .ok (.putfield 137, 3) := by decide +kernel
theorem d_KG_cancel_31 : decode b_KG_cancel 31 = .ok (.iinc 1 1, 3) := by decide +kernel
theorem d_KG_cancel_34 : decode b_KG_cancel 34 = .ok (.aload_n 3, 1) := by decide +kernel
theorem d_KG_cancel_35 : decode b_KG_cancel 35 = .ok (.dup, 1) := by decide +kernel
theorem d_KG_cancel_36 : decode b_KG_cancel 36 = .ok (.getfield 135, 3) := by decide +kernel
theorem d_KG_cancel_39 : decode b_KG_cancel 39 = .ok (.iconst 1, 1) := by decide +kernel
theorem d_KG_cancel_40 : decode b_KG_cancel 40 = .ok (.isub, 1) := by decide +kernel
theorem d_KG_cancel_41 : decode b_KG_cancel 41 = .ok (.putfield 135, 3) := by decide +kernel
theorem d_KG_cancel_44 : decode b_KG_cancel 44 = .ok (.goto (-28), 3) := by decide +kernel
theorem d_KG_cancel_47 : decode b_KG_cancel 47 = .ok (.iinc 2 1, 3) := by decide +kernel
theorem d_KG_cancel_50 : decode b_KG_cancel 50 = .ok (.goto (-46), 3) := by decide +kernel
theorem d_KG_cancel_53 : decode b_KG_cancel 53 = .ok (.iload_n 1, 1) := by decide +kernel
theorem d_KG_cancel_54 : decode b_KG_cancel 54 = .ok (.ireturn, 1) := by decide +kernel
theorem d_Pile_top_0 : decode b_Pile_top 0 = .ok (.aload_n 0, 1) := by decide +kernel
theorem d_Pile_top_1 : decode b_Pile_top 1 = .ok (.getfield 11, 3) := by decide +kernel
theorem d_Pile_top_4 : decode b_Pile_top 4 = .ok (.aload_n 0, 1) := by decide +kernel
theorem d_Pile_top_5 : decode b_Pile_top 5 = .ok (.getfield 17, 3) := by decide +kernel
theorem d_Pile_top_8 : decode b_Pile_top 8 = .ok (.iconst 1, 1) := by decide +kernel
theorem d_Pile_top_9 : decode b_Pile_top 9 = .ok (.isub, 1) := by decide +kernel
theorem d_Pile_top_10 : decode b_Pile_top 10 = .ok (.aaload, 1) := by decide +kernel
theorem d_Pile_top_11 : decode b_Pile_top 11 = .ok (.areturn, 1) := by decide +kernel
theorem d_KG_ring_0 : decode b_KG_ring 0 = .ok (.iload_n 1, 1) := by decide +kernel
theorem d_KG_ring_1 : decode b_KG_ring 1 = .ok (.ifCond .lt 14, 3) := by decide +kernel
theorem d_KG_ring_4 : decode b_KG_ring 4 = .ok (.iload_n 1, 1) := by decide +kernel
theorem d_KG_ring_5 : decode b_KG_ring 5 = .ok (.aload_n 0, 1) := by decide +kernel
theorem d_KG_ring_6 : decode b_KG_ring 6 = .ok (.getfield 43, 3) := by decide +kernel
theorem d_KG_ring_9 : decode b_KG_ring 9 = .ok (.invokevirtual 50, 3) := by decide +kernel
theorem d_KG_ring_12 : decode b_KG_ring 12 = .ok (.if_icmp .lt 7, 3) := by decide +kernel
theorem d_KG_ring_15 : decode b_KG_ring 15 = .ok (.iconst (-1), 1) := by decide +kernel
theorem d_KG_ring_16 : decode b_KG_ring 16 = .ok (.goto 17, 3) := by decide +kernel
theorem d_KG_ring_19 : decode b_KG_ring 19 = .ok (.aload_n 0, 1) := by decide +kernel
theorem d_KG_ring_20 : decode b_KG_ring 20 = .ok (.getfield 43, 3) := by decide +kernel
theorem d_KG_ring_23 : decode b_KG_ring 23 = .ok (.iload_n 1, 1) := by decide +kernel
theorem d_KG_ring_24 : decode b_KG_ring 24 = .ok (.invokevirtual 58, 3) := by decide +kernel
theorem d_KG_ring_27 : decode b_KG_ring 27 = .ok (.checkcast 62, 3) := by decide +kernel
theorem d_KG_ring_30 : decode b_KG_ring 30 = .ok (.getfield 92, 3) := by decide +kernel
theorem d_KG_ring_33 : decode b_KG_ring 33 = .ok (.ireturn, 1) := by decide +kernel
theorem d_KG_change_0 : decode b_KG_change 0 = .ok (.aload_n 0, 1) := by decide +kernel
theorem d_KG_change_1 : decode b_KG_change 1 = .ok (.iload_n 1, 1) := by decide +kernel
theorem d_KG_change_2 : decode b_KG_change 2 = .ok (.invokevirtual 54, 3) := by decide +kernel
theorem d_KG_change_5 : decode b_KG_change 5 = .ok (.ifCond .eq 20, 3) := by decide +kernel
theorem d_KG_change_8 : decode b_KG_change 8 = .ok (.aload_n 0, 1) := by decide +kernel
theorem d_KG_change_9 : decode b_KG_change 9 = .ok (.getfield 32, 3) := by decide +kernel
theorem d_KG_change_12 : decode b_KG_change 12 = .ok (.iload_n 1, 1) := by decide +kernel
theorem d_KG_change_13 : decode b_KG_change 13 = .ok (.invokevirtual 58, 3) := by decide +kernel
theorem d_KG_change_16 : decode b_KG_change 16 = .ok (.checkcast 62, 3) := by decide +kernel
theorem d_KG_change_19 : decode b_KG_change 19 = .ok (.invokevirtual 64, 3) := by decide +kernel
theorem d_KG_change_22 : decode b_KG_change 22 = .ok (.ifCond .ne 5, 3) := by decide +kernel
theorem d_KG_change_25 : decode b_KG_change 25 = .ok (.iconst (-1), 1) := by decide +kernel
theorem d_KG_change_26 : decode b_KG_change 26 = .ok (.ireturn, 1) := by decide +kernel
theorem d_KG_change_27 : decode b_KG_change 27 = .ok (.aload_n 0, 1) := by decide +kernel
theorem d_KG_change_28 : decode b_KG_change 28 = .ok (.getfield 32, 3) := by decide +kernel
theorem d_KG_change_31 : decode b_KG_change 31 = .ok (.iload_n 1, 1) := by decide +kernel
theorem d_KG_change_32 : decode b_KG_change 32 = .ok (.invokevirtual 58, 3) := by decide +kernel
theorem d_KG_change_35 : decode b_KG_change 35 = .ok (.checkcast 62, 3) := by decide +kernel
theorem d_KG_change_38 : decode b_KG_change 38 = .ok (.astore 4, 2) := by decide +kernel
theorem d_KG_change_40 : decode b_KG_change 40 = .ok (.aload 4, 2) := by decide +kernel
theorem d_KG_change_42 : decode b_KG_change 42 = .ok (.getfield 81, 3) := by decide +kernel
theorem d_KG_change_45 : decode b_KG_change 45 = .ok (.lload_n 2, 1) := by decide +kernel
theorem d_KG_change_46 : decode b_KG_change 46 = .ok (.lcmp, 1) := by decide +kernel
theorem d_KG_change_47 : decode b_KG_change 47 = .ok (.ifCond .ne 8, 3) := by decide +kernel
theorem d_KG_change_50 : decode b_KG_change 50 = .ok (.aload_n 0, 1) := by decide +kernel
theorem d_KG_change_51 : decode b_KG_change 51 = .ok (.getfield 75, 3) := by decide +kernel
theorem d_KG_change_54 : decode b_KG_change 54 = .ok (.ireturn, 1) := by decide +kernel
theorem d_KG_change_55 : decode b_KG_change 55 = .ok (.aload_n 0, 1) := by decide +kernel
theorem d_KG_change_56 : decode b_KG_change 56 = .ok (.invokevirtual 119, 3) := by decide +kernel
theorem d_KG_change_59 : decode b_KG_change 59 = .ok (.aload 4, 2) := by decide +kernel
theorem d_KG_change_61 : decode b_KG_change 61 = .ok (.lload_n 2, 1) := by decide +kernel
theorem d_KG_change_62 : decode b_KG_change 62 = .ok (.putfield 81, 3) := by decide +kernel
theorem d_KG_change_65 : decode b_KG_change 65 = .ok (.aload 4, 2) := by decide +kernel
theorem d_KG_change_67 : decode b_KG_change 67 = .ok (.aload_n 0, 1) := by decide +kernel
theorem d_KG_change_68 : decode b_KG_change 68 = .ok (.getfield 75, 3) := by decide +kernel
theorem d_KG_change_71 : decode b_KG_change 71 = .ok (.putfield 85, 3) := by decide +kernel
theorem d_KG_change_74 : decode b_KG_change 74 = .ok (.aload_n 0, 1) := by decide +kernel
theorem d_KG_change_75 : decode b_KG_change 75 = .ok (.getfield 75, 3) := by decide +kernel
theorem d_KG_change_78 : decode b_KG_change 78 = .ok (.ireturn, 1) := by decide +kernel
theorem d_KG_spoil_0 : decode b_KG_spoil 0 = .ok (.aload_n 0, 1) := by decide +kernel
theorem d_KG_spoil_1 : decode b_KG_spoil 1 = .ok (.iload_n 1, 1) := by decide +kernel
theorem d_KG_spoil_2 : decode b_KG_spoil 2 = .ok (.invokevirtual 109, 3) := by decide +kernel
theorem d_KG_spoil_5 : decode b_KG_spoil 5 = .ok (.ifCond .ne 5, 3) := by decide +kernel
theorem d_KG_spoil_8 : decode b_KG_spoil 8 = .ok (.iconst (-1), 1) := by decide +kernel
theorem d_KG_spoil_9 : decode b_KG_spoil 9 = .ok (.ireturn, 1) := by decide +kernel
theorem d_KG_spoil_10 : decode b_KG_spoil 10 = .ok (.aload_n 0, 1) := by decide +kernel
theorem d_KG_spoil_11 : decode b_KG_spoil 11 = .ok (.getfield 32, 3) := by decide +kernel
theorem d_KG_spoil_14 : decode b_KG_spoil 14 = .ok (.iload_n 1, 1) := by decide +kernel
theorem d_KG_spoil_15 : decode b_KG_spoil 15 = .ok (.invokevirtual 58, 3) := by decide +kernel
theorem d_KG_spoil_18 : decode b_KG_spoil 18 = .ok (.checkcast 62, 3) := by decide +kernel
theorem d_KG_spoil_21 : decode b_KG_spoil 21 = .ok (.astore_n 3, 1) := by decide +kernel
theorem d_KG_spoil_22 : decode b_KG_spoil 22 = .ok (.aload_n 3, 1) := by decide +kernel
theorem d_KG_spoil_23 : decode b_KG_spoil 23 = .ok (.getfield 128, 3) := by decide +kernel
theorem d_KG_spoil_26 : decode b_KG_spoil 26 = .ok (.iload_n 2, 1) := by decide +kernel
theorem d_KG_spoil_27 : decode b_KG_spoil 27 = .ok (.if_icmp .ne 8, 3) := by decide +kernel
theorem d_KG_spoil_30 : decode b_KG_spoil 30 = .ok (.aload_n 0, 1) := by decide +kernel
theorem d_KG_spoil_31 : decode b_KG_spoil 31 = .ok (.getfield 75, 3) := by decide +kernel
theorem d_KG_spoil_34 : decode b_KG_spoil 34 = .ok (.ireturn, 1) := by decide +kernel
theorem d_KG_spoil_35 : decode b_KG_spoil 35 = .ok (.aload_n 0, 1) := by decide +kernel
theorem d_KG_spoil_36 : decode b_KG_spoil 36 = .ok (.invokevirtual 119, 3) := by decide +kernel
theorem d_KG_spoil_39 : decode b_KG_spoil 39 = .ok (.aload_n 3, 1) := by decide +kernel
theorem d_KG_spoil_40 : decode b_KG_spoil 40 = .ok (.iload_n 2, 1) := by decide +kernel
theorem d_KG_spoil_41 : decode b_KG_spoil 41 = .ok (.putfield 128, 3) := by decide +kernel
theorem d_KG_spoil_44 : decode b_KG_spoil 44 = .ok (.aload_n 3, 1) := by decide +kernel
theorem d_KG_spoil_45 : decode b_KG_spoil 45 = .ok (.aload_n 0, 1) := by decide +kernel
theorem d_KG_spoil_46 : decode b_KG_spoil 46 = .ok (.getfield 75, 3) := by decide +kernel
theorem d_KG_spoil_49 : decode b_KG_spoil 49 = .ok (.putfield 122, 3) := by decide +kernel
theorem d_KG_spoil_52 : decode b_KG_spoil 52 = .ok (.aload_n 0, 1) := by decide +kernel
theorem d_KG_spoil_53 : decode b_KG_spoil 53 = .ok (.getfield 75, 3) := by decide +kernel
theorem d_KG_spoil_56 : decode b_KG_spoil 56 = .ok (.ireturn, 1) := by decide +kernel
theorem d_KG_version_0 : decode b_KG_version 0 = .ok (.aload_n 0, 1) := by decide +kernel
theorem d_KG_version_1 : decode b_KG_version 1 = .ok (.getfield 75, 3) := by decide +kernel
theorem d_KG_version_4 : decode b_KG_version 4 = .ok (.ireturn, 1) := by decide +kernel
theorem d_KG_begin_0 : decode b_KG_begin 0 = .ok (.iload_n 1, 1) := by decide +kernel
theorem d_KG_begin_1 : decode b_KG_begin 1 = .ok (.invokestatic 159, 3) := by decide +kernel
theorem d_KG_begin_4 : decode b_KG_begin 4 = .ok (.ifCond .eq 23, 3) := by decide +kernel
theorem d_KG_begin_7 : decode b_KG_begin 7 = .ok (.aload_n 0, 1) := by decide +kernel
theorem d_KG_begin_8 : decode b_KG_begin 8 = .ok (.iload_n 2, 1) := by decide +kernel
theorem d_KG_begin_9 : decode b_KG_begin 9 = .ok (.invokevirtual 54, 3) := by decide +kernel
theorem d_KG_begin_12 : decode b_KG_begin 12 = .ok (.ifCond .eq 15, 3) := by decide +kernel
theorem d_KG_begin_15 : decode b_KG_begin 15 = .ok (.aload_n 0, 1) := by decide +kernel
theorem d_KG_begin_16 : decode b_KG_begin 16 = .ok (.getfield 40, 3) := by decide +kernel
theorem d_KG_begin_19 : decode b_KG_begin 19 = .ok (.iload_n 1, 1) := by decide +kernel
theorem d_KG_begin_20 : decode b_KG_begin 20 = .ok (.aaload, 1) := by decide +kernel
theorem d_KG_begin_21 : decode b_KG_begin 21 = .ok (.getfield 135, 3) := by decide +kernel
theorem d_KG_begin_24 : decode b_KG_begin 24 = .ok (.ifCond .le 5, 3) := by decide +kernel
theorem d_KG_begin_27 : decode b_KG_begin 27 = .ok (.iconst (-1), 1) := by decide +kernel
theorem d_KG_begin_28 : decode b_KG_begin 28 = .ok (.ireturn, 1) := by decide +kernel
theorem d_KG_begin_29 : decode b_KG_begin 29 = .ok (.aload_n 0, 1) := by decide +kernel
theorem d_KG_begin_30 : decode b_KG_begin 30 = .ok (.getfield 32, 3) := by decide +kernel
theorem d_KG_begin_33 : decode b_KG_begin 33 = .ok (.iload_n 2, 1) := by decide +kernel
theorem d_KG_begin_34 : decode b_KG_begin 34 = .ok (.invokevirtual 58, 3) := by decide +kernel
theorem d_KG_begin_37 : decode b_KG_begin 37 = .ok (.checkcast 62, 3) := by decide +kernel
theorem d_KG_begin_40 : decode b_KG_begin 40 = .ok (.astore_n 3, 1) := by decide +kernel
theorem d_KG_begin_41 : decode b_KG_begin 41 = .ok (.aload_n 0, 1) := by decide +kernel
theorem d_KG_begin_42 : decode b_KG_begin 42 = .ok (.aload_n 3, 1) := by decide +kernel
theorem d_KG_begin_43 : decode b_KG_begin 43 = .ok (.invokevirtual 162, 3) := by decide +kernel
theorem d_KG_begin_46 : decode b_KG_begin 46 = .ok (.ifCond .eq 5, 3) := by decide +kernel
theorem d_KG_begin_49 : decode b_KG_begin 49 = .ok (.iconst 0, 1) := by decide +kernel
theorem d_KG_begin_50 : decode b_KG_begin 50 = .ok (.ireturn, 1) := by decide +kernel
theorem d_KG_begin_51 : decode b_KG_begin 51 = .ok (.aload_n 3, 1) := by decide +kernel
theorem d_KG_begin_52 : decode b_KG_begin 52 = .ok (.getfield 137, 3) := by decide +kernel
theorem d_KG_begin_55 : decode b_KG_begin 55 = .ok (.ifCond .lt 6, 3) := by decide +kernel
theorem d_KG_begin_58 : decode b_KG_begin 58 = .ok (.bipush (-2), 2) := by decide +kernel
theorem d_KG_begin_60 : decode b_KG_begin 60 = .ok (.ireturn, 1) := by decide +kernel
theorem d_KG_begin_61 : decode b_KG_begin 61 = .ok (.aload_n 0, 1) := by decide +kernel
theorem d_KG_begin_62 : decode b_KG_begin 62 = .ok (.iload_n 1, 1) := by decide +kernel
theorem d_KG_begin_63 : decode b_KG_begin 63 = .ok (.aload_n 3, 1) := by decide +kernel
theorem d_KG_begin_64 : decode b_KG_begin 64 = .ok (.invokevirtual 165, 3) := by decide +kernel
theorem d_KG_begin_67 : decode b_KG_begin 67 = .ok (.iconst 1, 1) := by decide +kernel
theorem d_KG_begin_68 : decode b_KG_begin 68 = .ok (.ireturn, 1) := by decide +kernel
theorem d_KG_isWorker_0 : decode b_KG_isWorker 0 = .ok (.iload_n 0, 1) := by decide +kernel
theorem d_KG_isWorker_1 : decode b_KG_isWorker 1 = .ok (.ifCond .lt 12, 3) := by decide +kernel
theorem d_KG_isWorker_4 : decode b_KG_isWorker 4 = .ok (.iload_n 0, 1) := by decide +kernel
theorem d_KG_isWorker_5 : decode b_KG_isWorker 5 = .ok (.iconst 4, 1) := by decide +kernel
theorem d_KG_isWorker_6 : decode b_KG_isWorker 6 = .ok (.if_icmp .ge 7, 3) := by decide +kernel
theorem d_KG_isWorker_9 : decode b_KG_isWorker 9 = .ok (.iconst 1, 1) := by decide +kernel
theorem d_KG_isWorker_10 : decode b_KG_isWorker 10 = .ok (.goto 4, 3) := by decide +kernel
theorem d_KG_isWorker_13 : decode b_KG_isWorker 13 = .ok (.iconst 0, 1) := by decide +kernel
theorem d_KG_isWorker_14 : decode b_KG_isWorker 14 = .ok (.ireturn, 1) := by decide +kernel
theorem d_KG_isSure_0 : decode b_KG_isSure 0 = .ok (.aload_n 1, 1) := by decide +kernel
theorem d_KG_isSure_1 : decode b_KG_isSure 1 = .ok (.invokevirtual 64, 3) := by decide +kernel
theorem d_KG_isSure_4 : decode b_KG_isSure 4 = .ok (.ifCond .ne 21, 3) := by decide +kernel
theorem d_KG_isSure_7 : decode b_KG_isSure 7 = .ok (.aload_n 1, 1) := by decide +kernel
theorem d_KG_isSure_8 : decode b_KG_isSure 8 = .ok (.getfield 68, 3) := by decide +kernel
theorem d_KG_isSure_11 : decode b_KG_isSure 11 = .ok (.ifCond .le 18, 3) := by decide +kernel
theorem d_KG_isSure_14 : decode b_KG_isSure 14 = .ok (.aload_n 1, 1) := by decide +kernel
theorem d_KG_isSure_15 : decode b_KG_isSure 15 = .ok (.getfield 72, 3) := by decide +kernel
theorem d_KG_isSure_18 : decode b_KG_isSure 18 = .ok (.aload_n 0, 1) := by decide +kernel
theorem d_KG_isSure_19 : decode b_KG_isSure 19 = .ok (.getfield 75, 3) := by decide +kernel
theorem d_KG_isSure_22 : decode b_KG_isSure 22 = .ok (.if_icmp .ne 7, 3) := by decide +kernel
theorem d_KG_isSure_25 : decode b_KG_isSure 25 = .ok (.iconst 1, 1) := by decide +kernel
theorem d_KG_isSure_26 : decode b_KG_isSure 26 = .ok (.goto 4, 3) := by decide +kernel
theorem d_KG_isSure_29 : decode b_KG_isSure 29 = .ok (.iconst 0, 1) := by decide +kernel
theorem d_KG_isSure_30 : decode b_KG_isSure 30 = .ok (.ireturn, 1) := by decide +kernel
theorem d_KG_put_0 : decode b_KG_put 0 = .ok (.aload_n 0, 1) := by decide +kernel
theorem d_KG_put_1 : decode b_KG_put 1 = .ok (.getfield 40, 3) := by decide +kernel
theorem d_KG_put_4 : decode b_KG_put 4 = .ok (.iload_n 1, 1) := by decide +kernel
theorem d_KG_put_5 : decode b_KG_put 5 = .ok (.aaload, 1) := by decide +kernel
theorem d_KG_put_6 : decode b_KG_put 6 = .ok (.astore_n 3, 1) := by decide +kernel
theorem d_KG_put_7 : decode b_KG_put 7 = .ok (.aload_n 3, 1) := by decide +kernel
theorem d_KG_put_8 : decode b_KG_put 8 = .ok (.getfield 132, 3) := by decide +kernel
theorem d_KG_put_11 : decode b_KG_put 11 = .ok (.aload_n 3, 1) := by decide +kernel
theorem d_KG_put_12 : decode b_KG_put 12 = .ok (.getfield 135, 3) := by decide +kernel
theorem d_KG_put_15 : decode b_KG_put 15 = .ok (.aload_n 2, 1) := by decide +kernel
theorem d_KG_put_16 : decode b_KG_put 16 = .ok (.aastore, 1) := by decide +kernel
theorem d_KG_put_17 : decode b_KG_put 17 = .ok (.aload_n 3, 1) := by decide +kernel
theorem d_KG_put_18 : decode b_KG_put 18 = .ok (.dup, 1) := by decide +kernel
theorem d_KG_put_19 : decode b_KG_put 19 = .ok (.getfield 135, 3) := by decide +kernel
theorem d_KG_put_22 : decode b_KG_put 22 = .ok (.iconst 1, 1) := by decide +kernel
theorem d_KG_put_23 : decode b_KG_put 23 = .ok (.iadd, 1) := by decide +kernel
theorem d_KG_put_24 : decode b_KG_put 24 = .ok (.putfield 135, 3) := by decide +kernel
theorem d_KG_put_27 : decode b_KG_put 27 = .ok (.aload_n 2, 1) := by decide +kernel
theorem d_KG_put_28 : decode b_KG_put 28 = .ok (.iload_n 1, 1) := by decide +kernel
theorem d_KG_put_29 : decode b_KG_put 29 = .ok (.putfield 137, 3) := by decide +kernel
theorem d_KG_put_32 : decode b_KG_put 32 = .ok (.aload_n 2, 1) := by decide +kernel
theorem d_KG_put_33 : decode b_KG_put 33 = .ok (.iconst 0, 1) := by decide +kernel
theorem d_KG_put_34 : decode b_KG_put 34 = .ok (.putfield 140, 3) := by decide +kernel
theorem d_KG_put_37 : decode b_KG_put 37 = .ok (.aload_n 2, 1) := by decide +kernel
theorem d_KG_put_38 : decode b_KG_put 38 = .ok (.aload_n 2, 1) := by decide +kernel
theorem d_KG_put_39 : decode b_KG_put 39 = .ok (.getfield 68, 3) := by decide +kernel
theorem d_KG_put_42 : decode b_KG_put 42 = .ok (.ifCond .le 18, 3) := by decide +kernel
theorem d_KG_put_45 : decode b_KG_put 45 = .ok (.aload_n 2, 1) := by decide +kernel
theorem d_KG_put_46 : decode b_KG_put 46 = .ok (.getfield 122, 3) := by decide +kernel
theorem d_KG_put_49 : decode b_KG_put 49 = .ok (.aload_n 2, 1) := by decide +kernel
theorem d_KG_put_50 : decode b_KG_put 50 = .ok (.getfield 72, 3) := by decide +kernel
theorem d_KG_put_53 : decode b_KG_put 53 = .ok (.if_icmp .gt 7, 3) := by decide +kernel
theorem d_KG_put_56 : decode b_KG_put 56 = .ok (.iconst 1, 1) := by decide +kernel
theorem d_KG_put_57 : decode b_KG_put 57 = .ok (.goto 4, 3) := by decide +kernel
theorem d_KG_put_60 : decode b_KG_put 60 = .ok (.iconst 0, 1) := by decide +kernel
theorem d_KG_put_61 : decode b_KG_put 61 = .ok (.putfield 143, 3) := by decide +kernel
theorem d_KG_put_64 : decode b_KG_put 64 = .ok (.aload_n 2, 1) := by decide +kernel
theorem d_KG_put_65 : decode b_KG_put 65 = .ok (.iconst 0, 1) := by decide +kernel
theorem d_KG_put_66 : decode b_KG_put 66 = .ok (.putfield 146, 3) := by decide +kernel
theorem d_KG_put_69 : decode b_KG_put 69 = .ok (.aload_n 2, 1) := by decide +kernel
theorem d_KG_put_70 : decode b_KG_put 70 = .ok (.getfield 149, 3) := by decide +kernel
theorem d_KG_put_73 : decode b_KG_put 73 = .ok (.aload_n 2, 1) := by decide +kernel
theorem d_KG_put_74 : decode b_KG_put 74 = .ok (.getfield 99, 3) := by decide +kernel
theorem d_KG_put_77 : decode b_KG_put 77 = .ok (.invokevirtual 50, 3) := by decide +kernel
theorem d_KG_put_80 : decode b_KG_put 80 = .ok (.invokevirtual 153, 3) := by decide +kernel
theorem d_KG_put_83 : decode b_KG_put 83 = .ok (.return_, 1) := by decide +kernel
theorem d_Choice_begin_0 : decode b_Choice_begin 0 = .ok (.aload_n 0, 1) := by decide +kernel
theorem d_Choice_begin_1 : decode b_Choice_begin 1 = .ok (.iload_n 1, 1) := by decide +kernel
theorem d_Choice_begin_2 : decode b_Choice_begin 2 = .ok (.invokespecial 9, 3) := by decide +kernel
theorem d_Choice_begin_5 : decode b_Choice_begin 5 = .ok (.aload_n 0, 1) := by decide +kernel
theorem d_Choice_begin_6 : decode b_Choice_begin 6 = .ok (.iconst 0, 1) := by decide +kernel
theorem d_Choice_begin_7 : decode b_Choice_begin 7 = .ok (.putfield 13, 3) := by decide +kernel
theorem d_Choice_begin_10 : decode b_Choice_begin 10 = .ok (.return_, 1) := by decide +kernel
theorem d_Great_begin_0 : decode b_Great_begin 0 = .ok (.aload_n 0, 1) := by decide +kernel
theorem d_Great_begin_1 : decode b_Great_begin 1 = .ok (.iload_n 1, 1) := by decide +kernel
theorem d_Great_begin_2 : decode b_Great_begin 2 = .ok (.invokespecial 7, 3) := by decide +kernel
theorem d_Great_begin_5 : decode b_Great_begin 5 = .ok (.aload_n 0, 1) := by decide +kernel
theorem d_Great_begin_6 : decode b_Great_begin 6 = .ok (.iload_n 1, 1) := by decide +kernel
theorem d_Great_begin_7 : decode b_Great_begin 7 = .ok (.ifCond .ne 7, 3) := by decide +kernel
theorem d_Great_begin_10 : decode b_Great_begin 10 = .ok (.iconst 1, 1) := by decide +kernel
theorem d_Great_begin_11 : decode b_Great_begin 11 = .ok (.goto 4, 3) := by decide +kernel
theorem d_Great_begin_14 : decode b_Great_begin 14 = .ok (.iconst 0, 1) := by decide +kernel
theorem d_Great_begin_15 : decode b_Great_begin 15 = .ok (.putfield 11, 3) := by decide +kernel
theorem d_Great_begin_18 : decode b_Great_begin 18 = .ok (.return_, 1) := by decide +kernel
theorem d_Fun_begin_0 : decode b_Fun_begin 0 = .ok (.aload_n 0, 1) := by decide +kernel
theorem d_Fun_begin_1 : decode b_Fun_begin 1 = .ok (.iload_n 1, 1) := by decide +kernel
theorem d_Fun_begin_2 : decode b_Fun_begin 2 = .ok (.putfield 9, 3) := by decide +kernel
theorem d_Fun_begin_5 : decode b_Fun_begin 5 = .ok (.aload_n 0, 1) := by decide +kernel
theorem d_Fun_begin_6 : decode b_Fun_begin 6 = .ok (.iconst 0, 1) := by decide +kernel
theorem d_Fun_begin_7 : decode b_Fun_begin 7 = .ok (.putfield 15, 3) := by decide +kernel
theorem d_Fun_begin_10 : decode b_Fun_begin 10 = .ok (.aload_n 0, 1) := by decide +kernel
theorem d_Fun_begin_11 : decode b_Fun_begin 11 = .ok (.lconst 0, 1) := by decide +kernel
theorem d_Fun_begin_12 : decode b_Fun_begin 12 = .ok (.putfield 18, 3) := by decide +kernel
theorem d_Fun_begin_15 : decode b_Fun_begin 15 = .ok (.aload_n 0, 1) := by decide +kernel
theorem d_Fun_begin_16 : decode b_Fun_begin 16 = .ok (.iconst 0, 1) := by decide +kernel
theorem d_Fun_begin_17 : decode b_Fun_begin 17 = .ok (.putfield 22, 3) := by decide +kernel
theorem d_Fun_begin_20 : decode b_Fun_begin 20 = .ok (.return_, 1) := by decide +kernel
theorem d_KG_step_0 : decode b_KG_step 0 = .ok (.iload_n 1, 1) := by decide +kernel
theorem d_KG_step_1 : decode b_KG_step 1 = .ok (.invokestatic 159, 3) := by decide +kernel
theorem d_KG_step_4 : decode b_KG_step 4 = .ok (.ifCond .eq 11, 3) := by decide +kernel
theorem d_KG_step_7 : decode b_KG_step 7 = .ok (.aload_n 0, 1) := by decide +kernel
theorem d_KG_step_8 : decode b_KG_step 8 = .ok (.iload_n 1, 1) := by decide +kernel
theorem d_KG_step_9 : decode b_KG_step 9 = .ok (.invokevirtual 219, 3) := by decide +kernel
theorem d_KG_step_12 : decode b_KG_step 12 = .ok (.goto 4, 3) := by decide +kernel
theorem d_KG_step_15 : decode b_KG_step 15 = .ok (.iconst (-1), 1) := by decide +kernel
theorem d_KG_step_16 : decode b_KG_step 16 = .ok (.ireturn, 1) := by decide +kernel
theorem d_KG_stepOf_0 : decode b_KG_stepOf 0 = .ok (.aload_n 0, 1) := by decide +kernel
theorem d_KG_stepOf_1 : decode b_KG_stepOf 1 = .ok (.getfield 40, 3) := by decide +kernel
theorem d_KG_stepOf_4 : decode b_KG_stepOf 4 = .ok (.iload_n 1, 1) := by decide +kernel
theorem d_KG_stepOf_5 : decode b_KG_stepOf 5 = .ok (.aaload, 1) := by decide +kernel
theorem d_KG_stepOf_6 : decode b_KG_stepOf 6 = .ok (.astore_n 2, 1) := by decide +kernel
theorem d_KG_stepOf_7 : decode b_KG_stepOf 7 = .ok (.aload_n 2, 1) := by decide +kernel
theorem d_KG_stepOf_8 : decode b_KG_stepOf 8 = .ok (.getfield 135, 3) := by decide +kernel
theorem d_KG_stepOf_11 : decode b_KG_stepOf 11 = .ok (.ifCond .ne 5, 3) := by decide +kernel
theorem d_KG_stepOf_14 : decode b_KG_stepOf 14 = .ok (.iconst 0, 1) := by decide +kernel
theorem d_KG_stepOf_15 : decode b_KG_stepOf 15 = .ok (.ireturn, 1) := by decide +kernel
theorem d_KG_stepOf_16 : decode b_KG_stepOf 16 = .ok (.aload_n 2, 1) := by decide +kernel
theorem d_KG_stepOf_17 : decode b_KG_stepOf 17 = .ok (.invokevirtual 169, 3) := by decide +kernel
theorem d_KG_stepOf_20 : decode b_KG_stepOf 20 = .ok (.astore_n 3, 1) := by decide +kernel
theorem d_KG_stepOf_21 : decode b_KG_stepOf 21 = .ok (.aload_n 3, 1) := by decide +kernel
theorem d_KG_stepOf_22 : decode b_KG_stepOf 22 = .ok (.getfield 143, 3) := by decide +kernel
theorem d_KG_stepOf_25 : decode b_KG_stepOf 25 = .ok (.ifCond .eq 11, 3) := by decide +kernel
theorem d_KG_stepOf_28 : decode b_KG_stepOf 28 = .ok (.aload_n 0, 1) := by decide +kernel
theorem d_KG_stepOf_29 : decode b_KG_stepOf 29 = .ok (.iload_n 1, 1) := by decide +kernel
theorem d_KG_stepOf_30 : decode b_KG_stepOf 30 = .ok (.aload_n 2, 1) := by decide +kernel
theorem d_KG_stepOf_31 : decode b_KG_stepOf 31 = .ok (.aload_n 3, 1) := by decide +kernel
theorem d_KG_stepOf_32 : decode b_KG_stepOf 32 = .ok (.invokevirtual 190, 3) := by decide +kernel
theorem d_KG_stepOf_35 : decode b_KG_stepOf 35 = .ok (.ireturn, 1) := by decide +kernel
theorem d_KG_stepOf_36 : decode b_KG_stepOf 36 = .ok (.aload_n 3, 1) := by decide +kernel
theorem d_KG_stepOf_37 : decode b_KG_stepOf 37 = .ok (.getfield 128, 3) := by decide +kernel
theorem d_KG_stepOf_40 : decode b_KG_stepOf 40 = .ok (.ifCond .eq 11, 3) := by decide +kernel
theorem d_KG_stepOf_43 : decode b_KG_stepOf 43 = .ok (.aload_n 0, 1) := by decide +kernel
theorem d_KG_stepOf_44 : decode b_KG_stepOf 44 = .ok (.aload_n 2, 1) := by decide +kernel
theorem d_KG_stepOf_45 : decode b_KG_stepOf 45 = .ok (.iconst 2, 1) := by decide +kernel
theorem d_KG_stepOf_46 : decode b_KG_stepOf 46 = .ok (.lconst 0, 1) := by decide +kernel
theorem d_KG_stepOf_47 : decode b_KG_stepOf 47 = .ok (.invokevirtual 194, 3) := by decide +kernel
theorem d_KG_stepOf_50 : decode b_KG_stepOf 50 = .ok (.ireturn, 1) := by decide +kernel
theorem d_KG_stepOf_51 : decode b_KG_stepOf 51 = .ok (.aload_n 3, 1) := by decide +kernel
theorem d_KG_stepOf_52 : decode b_KG_stepOf 52 = .ok (.getfield 149, 3) := by decide +kernel
theorem d_KG_stepOf_55 : decode b_KG_stepOf 55 = .ok (.invokevirtual 198, 3) := by decide +kernel
theorem d_KG_stepOf_58 : decode b_KG_stepOf 58 = .ok (.ifCond .eq 11, 3) := by decide +kernel
theorem d_KG_stepOf_61 : decode b_KG_stepOf 61 = .ok (.aload_n 0, 1) := by decide +kernel
theorem d_KG_stepOf_62 : decode b_KG_stepOf 62 = .ok (.aload_n 2, 1) := by decide +kernel
theorem d_KG_stepOf_63 : decode b_KG_stepOf 63 = .ok (.iconst 2, 1) := by decide +kernel
theorem d_KG_stepOf_64 : decode b_KG_stepOf 64 = .ok (.lconst 0, 1) := by decide +kernel
theorem d_KG_stepOf_65 : decode b_KG_stepOf 65 = .ok (.invokevirtual 194, 3) := by decide +kernel
theorem d_KG_stepOf_68 : decode b_KG_stepOf 68 = .ok (.ireturn, 1) := by decide +kernel
theorem d_KG_stepOf_69 : decode b_KG_stepOf 69 = .ok (.aload_n 3, 1) := by decide +kernel
theorem d_KG_stepOf_70 : decode b_KG_stepOf 70 = .ok (.getfield 149, 3) := by decide +kernel
theorem d_KG_stepOf_73 : decode b_KG_stepOf 73 = .ok (.invokevirtual 201, 3) := by decide +kernel
theorem d_KG_stepOf_76 : decode b_KG_stepOf 76 = .ok (.istore 4, 2) := by decide +kernel
theorem d_KG_stepOf_78 : decode b_KG_stepOf 78 = .ok (.iload 4, 2) := by decide +kernel
theorem d_KG_stepOf_80 : decode b_KG_stepOf 80 = .ok (.ifCond .ge 17, 3) := by decide +kernel
theorem d_KG_stepOf_83 : decode b_KG_stepOf 83 = .ok (.aload_n 0, 1) := by decide +kernel
theorem d_KG_stepOf_84 : decode b_KG_stepOf 84 = .ok (.aload_n 2, 1) := by decide +kernel
theorem d_KG_stepOf_85 : decode b_KG_stepOf 85 = .ok (.iconst 1, 1) := by decide +kernel
theorem d_KG_stepOf_86 : decode b_KG_stepOf 86 = .ok (.aload_n 3, 1) := by decide +kernel
theorem d_KG_stepOf_87 : decode b_KG_stepOf 87 = .ok (.getfield 149, 3) := by decide +kernel
theorem d_KG_stepOf_90 : decode b_KG_stepOf 90 = .ok (.invokevirtual 204, 3) := by decide +kernel
theorem d_KG_stepOf_93 : decode b_KG_stepOf 93 = .ok (.invokevirtual 194, 3) := by decide +kernel
theorem d_KG_stepOf_96 : decode b_KG_stepOf 96 = .ok (.ireturn, 1) := by decide +kernel
theorem d_KG_stepOf_97 : decode b_KG_stepOf 97 = .ok (.aload_n 3, 1) := by decide +kernel
theorem d_KG_stepOf_98 : decode b_KG_stepOf 98 = .ok (.getfield 99, 3) := by decide +kernel
theorem d_KG_stepOf_101 : decode b_KG_stepOf 101 = .ok (.iload 4, 2) := by decide +kernel
theorem d_KG_stepOf_103 : decode b_KG_stepOf 103 = .ok (.invokevirtual 58, 3) := by decide +kernel
theorem d_KG_stepOf_106 : decode b_KG_stepOf 106 = .ok (.checkcast 62, 3) := by decide +kernel
theorem d_KG_stepOf_109 : decode b_KG_stepOf 109 = .ok (.astore 5, 2) := by decide +kernel
theorem d_KG_stepOf_111 : decode b_KG_stepOf 111 = .ok (.aload_n 0, 1) := by decide +kernel
theorem d_KG_stepOf_112 : decode b_KG_stepOf 112 = .ok (.aload 5, 2) := by decide +kernel
theorem d_KG_stepOf_114 : decode b_KG_stepOf 114 = .ok (.invokevirtual 162, 3) := by decide +kernel
theorem d_KG_stepOf_117 : decode b_KG_stepOf 117 = .ok (.ifCond .ne 11, 3) := by decide +kernel
theorem d_KG_stepOf_120 : decode b_KG_stepOf 120 = .ok (.aload_n 0, 1) := by decide +kernel
theorem d_KG_stepOf_121 : decode b_KG_stepOf 121 = .ok (.iload_n 1, 1) := by decide +kernel
theorem d_KG_stepOf_122 : decode b_KG_stepOf 122 = .ok (.aload 5, 2) := by decide +kernel
theorem d_KG_stepOf_124 : decode b_KG_stepOf 124 = .ok (.invokevirtual 208, 3) := by decide +kernel
theorem d_KG_stepOf_127 : decode b_KG_stepOf 127 = .ok (.ireturn, 1) := by decide +kernel
theorem d_KG_stepOf_128 : decode b_KG_stepOf 128 = .ok (.aload_n 3, 1) := by decide +kernel
theorem d_KG_stepOf_129 : decode b_KG_stepOf 129 = .ok (.getfield 177, 3) := by decide +kernel
theorem d_KG_stepOf_132 : decode b_KG_stepOf 132 = .ok (.aload_n 3, 1) := by decide +kernel
theorem d_KG_stepOf_133 : decode b_KG_stepOf 133 = .ok (.getfield 146, 3) := by decide +kernel
theorem d_KG_stepOf_136 : decode b_KG_stepOf 136 = .ok (.iload 4, 2) := by decide +kernel
theorem d_KG_stepOf_138 : decode b_KG_stepOf 138 = .ok (.iastore, 1) := by decide +kernel
theorem d_KG_stepOf_139 : decode b_KG_stepOf 139 = .ok (.aload_n 3, 1) := by decide +kernel
theorem d_KG_stepOf_140 : decode b_KG_stepOf 140 = .ok (.dup, 1) := by decide +kernel
theorem d_KG_stepOf_141 : decode b_KG_stepOf 141 = .ok (.getfield 146, 3) := by decide +kernel
theorem d_KG_stepOf_144 : decode b_KG_stepOf 144 = .ok (.iconst 1, 1) := by decide +kernel
theorem d_KG_stepOf_145 : decode b_KG_stepOf 145 = .ok (.iadd, 1) := by decide +kernel
theorem d_KG_stepOf_146 : decode b_KG_stepOf 146 = .ok (.putfield 146, 3) := by decide +kernel
theorem d_KG_stepOf_149 : decode b_KG_stepOf 149 = .ok (.aload 5, 2) := by decide +kernel
theorem d_KG_stepOf_151 : decode b_KG_stepOf 151 = .ok (.getfield 68, 3) := by decide +kernel
theorem d_KG_stepOf_154 : decode b_KG_stepOf 154 = .ok (.iconst 1, 1) := by decide +kernel
theorem d_KG_stepOf_155 : decode b_KG_stepOf 155 = .ok (.if_icmp .eq 11, 3) := by decide +kernel
theorem d_KG_stepOf_158 : decode b_KG_stepOf 158 = .ok (.aload_n 0, 1) := by decide +kernel
theorem d_KG_stepOf_159 : decode b_KG_stepOf 159 = .ok (.aload_n 2, 1) := by decide +kernel
theorem d_KG_stepOf_160 : decode b_KG_stepOf 160 = .ok (.iconst 3, 1) := by decide +kernel
theorem d_KG_stepOf_161 : decode b_KG_stepOf 161 = .ok (.lconst 0, 1) := by decide +kernel
theorem d_KG_stepOf_162 : decode b_KG_stepOf 162 = .ok (.invokevirtual 194, 3) := by decide +kernel
theorem d_KG_stepOf_165 : decode b_KG_stepOf 165 = .ok (.ireturn, 1) := by decide +kernel
theorem d_KG_stepOf_166 : decode b_KG_stepOf 166 = .ok (.aload_n 3, 1) := by decide +kernel
theorem d_KG_stepOf_167 : decode b_KG_stepOf 167 = .ok (.getfield 149, 3) := by decide +kernel
theorem d_KG_stepOf_170 : decode b_KG_stepOf 170 = .ok (.aload 5, 2) := by decide +kernel
theorem d_KG_stepOf_172 : decode b_KG_stepOf 172 = .ok (.getfield 81, 3) := by decide +kernel
theorem d_KG_stepOf_175 : decode b_KG_stepOf 175 = .ok (.invokevirtual 212, 3) := by decide +kernel
theorem d_KG_stepOf_178 : decode b_KG_stepOf 178 = .ok (.bipush 6, 2) := by decide +kernel
theorem d_KG_stepOf_180 : decode b_KG_stepOf 180 = .ok (.ireturn, 1) := by decide +kernel
theorem d_KG_check_0 : decode b_KG_check 0 = .ok (.aload_n 3, 1) := by decide +kernel
theorem d_KG_check_1 : decode b_KG_check 1 = .ok (.getfield 140, 3) := by decide +kernel
theorem d_KG_check_4 : decode b_KG_check 4 = .ok (.aload_n 3, 1) := by decide +kernel
theorem d_KG_check_5 : decode b_KG_check 5 = .ok (.getfield 180, 3) := by decide +kernel
theorem d_KG_check_8 : decode b_KG_check 8 = .ok (.if_icmp .ne 19, 3) := by decide +kernel
theorem d_KG_check_11 : decode b_KG_check 11 = .ok (.aload_n 3, 1) := by decide +kernel
theorem d_KG_check_12 : decode b_KG_check 12 = .ok (.dup, 1) := by decide +kernel
theorem d_KG_check_13 : decode b_KG_check 13 = .ok (.getfield 216, 3) := by decide +kernel
theorem d_KG_check_16 : decode b_KG_check 16 = .ok (.iconst 1, 1) := by decide +kernel
theorem d_KG_check_17 : decode b_KG_check 17 = .ok (.iadd, 1) := by decide +kernel
theorem d_KG_check_18 : decode b_KG_check 18 = .ok (.putfield 216, 3) := by decide +kernel
theorem d_KG_check_21 : decode b_KG_check 21 = .ok (.aload_n 0, 1) := by decide +kernel
theorem d_KG_check_22 : decode b_KG_check 22 = .ok (.aload_n 2, 1) := by decide +kernel
theorem d_KG_check_23 : decode b_KG_check 23 = .ok (.invokevirtual 186, 3) := by decide +kernel
theorem d_KG_check_26 : decode b_KG_check 26 = .ok (.ireturn, 1) := by decide +kernel
theorem d_KG_check_27 : decode b_KG_check 27 = .ok (.aload_n 3, 1) := by decide +kernel
theorem d_KG_check_28 : decode b_KG_check 28 = .ok (.getfield 99, 3) := by decide +kernel
theorem d_KG_check_31 : decode b_KG_check 31 = .ok (.aload_n 3, 1) := by decide +kernel
theorem d_KG_check_32 : decode b_KG_check 32 = .ok (.getfield 173, 3) := by decide +kernel
theorem d_KG_check_35 : decode b_KG_check 35 = .ok (.aload_n 3, 1) := by decide +kernel
theorem d_KG_check_36 : decode b_KG_check 36 = .ok (.getfield 140, 3) := by decide +kernel
theorem d_KG_check_39 : decode b_KG_check 39 = .ok (.iaload, 1) := by decide +kernel
theorem d_KG_check_40 : decode b_KG_check 40 = .ok (.invokevirtual 58, 3) := by decide +kernel
theorem d_KG_check_43 : decode b_KG_check 43 = .ok (.checkcast 62, 3) := by decide +kernel
theorem d_KG_check_46 : decode b_KG_check 46 = .ok (.astore 4, 2) := by decide +kernel
theorem d_KG_check_48 : decode b_KG_check 48 = .ok (.aload_n 0, 1) := by decide +kernel
theorem d_KG_check_49 : decode b_KG_check 49 = .ok (.aload 4, 2) := by decide +kernel
theorem d_KG_check_51 : decode b_KG_check 51 = .ok (.invokevirtual 162, 3) := by decide +kernel
theorem d_KG_check_54 : decode b_KG_check 54 = .ok (.ifCond .ne 11, 3) := by decide +kernel
theorem d_KG_check_57 : decode b_KG_check 57 = .ok (.aload_n 0, 1) := by decide +kernel
theorem d_KG_check_58 : decode b_KG_check 58 = .ok (.iload_n 1, 1) := by decide +kernel
theorem d_KG_check_59 : decode b_KG_check 59 = .ok (.aload 4, 2) := by decide +kernel
theorem d_KG_check_61 : decode b_KG_check 61 = .ok (.invokevirtual 208, 3) := by decide +kernel
theorem d_KG_check_64 : decode b_KG_check 64 = .ok (.ireturn, 1) := by decide +kernel
theorem d_KG_check_65 : decode b_KG_check 65 = .ok (.aload 4, 2) := by decide +kernel
theorem d_KG_check_67 : decode b_KG_check 67 = .ok (.getfield 85, 3) := by decide +kernel
theorem d_KG_check_70 : decode b_KG_check 70 = .ok (.aload_n 3, 1) := by decide +kernel
theorem d_KG_check_71 : decode b_KG_check 71 = .ok (.getfield 72, 3) := by decide +kernel
theorem d_KG_check_74 : decode b_KG_check 74 = .ok (.if_icmp .le 10, 3) := by decide +kernel
theorem d_KG_check_77 : decode b_KG_check 77 = .ok (.aload_n 3, 1) := by decide +kernel
theorem d_KG_check_78 : decode b_KG_check 78 = .ok (.iconst 0, 1) := by decide +kernel
theorem d_KG_check_79 : decode b_KG_check 79 = .ok (.putfield 143, 3) := by decide +kernel
theorem d_KG_check_82 : decode b_KG_check 82 = .ok (.iconst 5, 1) := by decide +kernel
theorem d_KG_check_83 : decode b_KG_check 83 = .ok (.ireturn, 1) := by decide +kernel
theorem d_KG_check_84 : decode b_KG_check 84 = .ok (.aload_n 3, 1) := by decide +kernel
theorem d_KG_check_85 : decode b_KG_check 85 = .ok (.dup, 1) := by decide +kernel
theorem d_KG_check_86 : decode b_KG_check 86 = .ok (.getfield 140, 3) := by decide +kernel
theorem d_KG_check_89 : decode b_KG_check 89 = .ok (.iconst 1, 1) := by decide +kernel
theorem d_KG_check_90 : decode b_KG_check 90 = .ok (.iadd, 1) := by decide +kernel
theorem d_KG_check_91 : decode b_KG_check 91 = .ok (.putfield 140, 3) := by decide +kernel
theorem d_KG_check_94 : decode b_KG_check 94 = .ok (.iconst 4, 1) := by decide +kernel
theorem d_KG_check_95 : decode b_KG_check 95 = .ok (.ireturn, 1) := by decide +kernel
theorem d_KG_found_0 : decode b_KG_found 0 = .ok (.aload_n 1, 1) := by decide +kernel
theorem d_KG_found_1 : decode b_KG_found 1 = .ok (.invokevirtual 169, 3) := by decide +kernel
theorem d_KG_found_4 : decode b_KG_found 4 = .ok (.astore_n 2, 1) := by decide +kernel
theorem d_KG_found_5 : decode b_KG_found 5 = .ok (.aload_n 2, 1) := by decide +kernel
theorem d_KG_found_6 : decode b_KG_found 6 = .ok (.aload_n 0, 1) := by decide +kernel
theorem d_KG_found_7 : decode b_KG_found 7 = .ok (.getfield 75, 3) := by decide +kernel
theorem d_KG_found_10 : decode b_KG_found 10 = .ok (.putfield 72, 3) := by decide +kernel
theorem d_KG_found_13 : decode b_KG_found 13 = .ok (.aload_n 2, 1) := by decide +kernel
theorem d_KG_found_14 : decode b_KG_found 14 = .ok (.iconst (-1), 1) := by decide +kernel
theorem d_KG_found_15 : decode b_KG_found 15 = .ok (.putfield 137, 3) := by decide +kernel
theorem d_KG_found_18 : decode b_KG_found 18 = .ok (.aload_n 1, 1) := by decide +kernel
theorem d_KG_found_19 : decode b_KG_found 19 = .ok (.dup, 1) := by decide +kernel
theorem d_KG_found_20 : decode b_KG_found 20 = .ok (.getfield 135, 3) := by decide +kernel
theorem d_KG_found_23 : decode b_KG_found 23 = .ok (.iconst 1, 1) := by decide +kernel
theorem d_KG_found_24 : decode b_KG_found 24 = .ok (.isub, 1) := by decide +kernel
theorem d_KG_found_25 : decode b_KG_found 25 = .ok (.putfield 135, 3) := by decide +kernel
theorem d_KG_found_28 : decode b_KG_found 28 = .ok (.iconst 2, 1) := by decide +kernel
theorem d_KG_found_29 : decode b_KG_found 29 = .ok (.ireturn, 1) := by decide +kernel
theorem d_KG_goesDown_0 : decode b_KG_goesDown 0 = .ok (.aload_n 2, 1) := by decide +kernel
theorem d_KG_goesDown_1 : decode b_KG_goesDown 1 = .ok (.getfield 137, 3) := by decide +kernel
theorem d_KG_goesDown_4 : decode b_KG_goesDown 4 = .ok (.ifCond .lt 5, 3) := by decide +kernel
theorem d_KG_goesDown_7 : decode b_KG_goesDown 7 = .ok (.iconst 3, 1) := by decide +kernel
theorem d_KG_goesDown_8 : decode b_KG_goesDown 8 = .ok (.ireturn, 1) := by decide +kernel
theorem d_KG_goesDown_9 : decode b_KG_goesDown 9 = .ok (.aload_n 0, 1) := by decide +kernel
theorem d_KG_goesDown_10 : decode b_KG_goesDown 10 = .ok (.iload_n 1, 1) := by decide +kernel
theorem d_KG_goesDown_11 : decode b_KG_goesDown 11 = .ok (.aload_n 2, 1) := by decide +kernel
theorem d_KG_goesDown_12 : decode b_KG_goesDown 12 = .ok (.invokevirtual 165, 3) := by decide +kernel
theorem d_KG_goesDown_15 : decode b_KG_goesDown 15 = .ok (.iconst 1, 1) := by decide +kernel
theorem d_KG_goesDown_16 : decode b_KG_goesDown 16 = .ok (.ireturn, 1) := by decide +kernel
theorem d_KG_ends_0 : decode b_KG_ends 0 = .ok (.aload_n 1, 1) := by decide +kernel
theorem d_KG_ends_1 : decode b_KG_ends 1 = .ok (.invokevirtual 169, 3) := by decide +kernel
theorem d_KG_ends_4 : decode b_KG_ends 4 = .ok (.astore 5, 2) := by decide +kernel
theorem d_KG_ends_6 : decode b_KG_ends 6 = .ok (.aload 5, 2) := by decide +kernel
theorem d_KG_ends_8 : decode b_KG_ends 8 = .ok (.getfield 68, 3) := by decide +kernel
theorem d_KG_ends_11 : decode b_KG_ends 11 = .ok (.iload_n 2, 1) := by decide +kernel
theorem d_KG_ends_12 : decode b_KG_ends 12 = .ok (.if_icmp .ne 13, 3) := by decide +kernel
theorem d_KG_ends_15 : decode b_KG_ends 15 = .ok (.aload 5, 2) := by decide +kernel
theorem d_KG_ends_17 : decode b_KG_ends 17 = .ok (.getfield 81, 3) := by decide +kernel
theorem d_KG_ends_20 : decode b_KG_ends 20 = .ok (.lload_n 3, 1) := by decide +kernel
theorem d_KG_ends_21 : decode b_KG_ends 21 = .ok (.lcmp, 1) := by decide +kernel
theorem d_KG_ends_22 : decode b_KG_ends 22 = .ok (.ifCond .eq 12, 3) := by decide +kernel
theorem d_KG_ends_25 : decode b_KG_ends 25 = .ok (.aload 5, 2) := by decide +kernel
theorem d_KG_ends_27 : decode b_KG_ends 27 = .ok (.aload_n 0, 1) := by decide +kernel
theorem d_KG_ends_28 : decode b_KG_ends 28 = .ok (.getfield 75, 3) := by decide +kernel
theorem d_KG_ends_31 : decode b_KG_ends 31 = .ok (.putfield 85, 3) := by decide +kernel
theorem d_KG_ends_34 : decode b_KG_ends 34 = .ok (.aload 5, 2) := by decide +kernel
theorem d_KG_ends_36 : decode b_KG_ends 36 = .ok (.iload_n 2, 1) := by decide +kernel
theorem d_KG_ends_37 : decode b_KG_ends 37 = .ok (.putfield 68, 3) := by decide +kernel
theorem d_KG_ends_40 : decode b_KG_ends 40 = .ok (.aload 5, 2) := by decide +kernel
theorem d_KG_ends_42 : decode b_KG_ends 42 = .ok (.lload_n 3, 1) := by decide +kernel
theorem d_KG_ends_43 : decode b_KG_ends 43 = .ok (.putfield 81, 3) := by decide +kernel
theorem d_KG_ends_46 : decode b_KG_ends 46 = .ok (.aload 5, 2) := by decide +kernel
theorem d_KG_ends_48 : decode b_KG_ends 48 = .ok (.getfield 173, 3) := by decide +kernel
theorem d_KG_ends_51 : decode b_KG_ends 51 = .ok (.astore 6, 2) := by decide +kernel
theorem d_KG_ends_53 : decode b_KG_ends 53 = .ok (.aload 5, 2) := by decide +kernel
theorem d_KG_ends_55 : decode b_KG_ends 55 = .ok (.aload 5, 2) := by decide +kernel
theorem d_KG_ends_57 : decode b_KG_ends 57 = .ok (.getfield 177, 3) := by decide +kernel
theorem d_KG_ends_60 : decode b_KG_ends 60 = .ok (.putfield 173, 3) := by decide +kernel
theorem d_KG_ends_63 : decode b_KG_ends 63 = .ok (.aload 5, 2) := by decide +kernel
theorem d_KG_ends_65 : decode b_KG_ends 65 = .ok (.aload 6, 2) := by decide +kernel
theorem d_KG_ends_67 : decode b_KG_ends 67 = .ok (.putfield 177, 3) := by decide +kernel
theorem d_KG_ends_70 : decode b_KG_ends 70 = .ok (.aload 5, 2) := by decide +kernel
theorem d_KG_ends_72 : decode b_KG_ends 72 = .ok (.aload 5, 2) := by decide +kernel
theorem d_KG_ends_74 : decode b_KG_ends 74 = .ok (.getfield 146, 3) := by decide +kernel
theorem d_KG_ends_77 : decode b_KG_ends 77 = .ok (.putfield 180, 3) := by decide +kernel
theorem d_KG_ends_80 : decode b_KG_ends 80 = .ok (.aload 5, 2) := by decide +kernel
theorem d_KG_ends_82 : decode b_KG_ends 82 = .ok (.dup, 1) := by decide +kernel
theorem d_KG_ends_83 : decode b_KG_ends 83 = .ok (.getfield 183, 3) := by decide +kernel
theorem d_KG_ends_86 : decode b_KG_ends 86 = .ok (.iconst 1, 1) := by decide +kernel
theorem d_KG_ends_87 : decode b_KG_ends 87 = .ok (.iadd, 1) := by decide +kernel
theorem d_KG_ends_88 : decode b_KG_ends 88 = .ok (.putfield 183, 3) := by decide +kernel
theorem d_KG_ends_91 : decode b_KG_ends 91 = .ok (.aload_n 0, 1) := by decide +kernel
theorem d_KG_ends_92 : decode b_KG_ends 92 = .ok (.aload_n 1, 1) := by decide +kernel
theorem d_KG_ends_93 : decode b_KG_ends 93 = .ok (.invokevirtual 186, 3) := by decide +kernel
theorem d_KG_ends_96 : decode b_KG_ends 96 = .ok (.ireturn, 1) := by decide +kernel
theorem d_Fun_fails_0 : decode b_Fun_fails 0 = .ok (.aload_n 0, 1) := by decide +kernel
theorem d_Fun_fails_1 : decode b_Fun_fails 1 = .ok (.getfield 22, 3) := by decide +kernel
theorem d_Fun_fails_4 : decode b_Fun_fails 4 = .ok (.ireturn, 1) := by decide +kernel
theorem d_Choice_next_0 : decode b_Choice_next 0 = .ok (.aload_n 0, 1) := by decide +kernel
theorem d_Choice_next_1 : decode b_Choice_next 1 = .ok (.getfield 13, 3) := by decide +kernel
theorem d_Choice_next_4 : decode b_Choice_next 4 = .ok (.ifCond .eq 10, 3) := by decide +kernel
theorem d_Choice_next_7 : decode b_Choice_next 7 = .ok (.aload_n 0, 1) := by decide +kernel
theorem d_Choice_next_8 : decode b_Choice_next 8 = .ok (.getfield 19, 3) := by decide +kernel
theorem d_Choice_next_11 : decode b_Choice_next 11 = .ok (.goto 15, 3) := by decide +kernel
theorem d_Choice_next_14 : decode b_Choice_next 14 = .ok (.aload_n 0, 1) := by decide +kernel
theorem d_Choice_next_15 : decode b_Choice_next 15 = .ok (.getfield 23, 3) := by decide +kernel
theorem d_Choice_next_18 : decode b_Choice_next 18 = .ok (.ifCond .le 7, 3) := by decide +kernel
theorem d_Choice_next_21 : decode b_Choice_next 21 = .ok (.iconst 0, 1) := by decide +kernel
theorem d_Choice_next_22 : decode b_Choice_next 22 = .ok (.goto 4, 3) := by decide +kernel
theorem d_Choice_next_25 : decode b_Choice_next 25 = .ok (.iconst (-1), 1) := by decide +kernel
theorem d_Choice_next_26 : decode b_Choice_next 26 = .ok (.ireturn, 1) := by decide +kernel
theorem d_Fun_next_0 : decode b_Fun_next 0 = .ok (.aload_n 0, 1) := by decide +kernel
theorem d_Fun_next_1 : decode b_Fun_next 1 = .ok (.getfield 15, 3) := by decide +kernel
theorem d_Fun_next_4 : decode b_Fun_next 4 = .ok (.aload_n 0, 1) := by decide +kernel
theorem d_Fun_next_5 : decode b_Fun_next 5 = .ok (.getfield 9, 3) := by decide +kernel
theorem d_Fun_next_8 : decode b_Fun_next 8 = .ok (.if_icmp .ge 10, 3) := by decide +kernel
theorem d_Fun_next_11 : decode b_Fun_next 11 = .ok (.aload_n 0, 1) := by decide +kernel
theorem d_Fun_next_12 : decode b_Fun_next 12 = .ok (.getfield 15, 3) := by decide +kernel
theorem d_Fun_next_15 : decode b_Fun_next 15 = .ok (.goto 4, 3) := by decide +kernel
theorem d_Fun_next_18 : decode b_Fun_next 18 = .ok (.iconst (-1), 1) := by decide +kernel
theorem d_Fun_next_19 : decode b_Fun_next 19 = .ok (.ireturn, 1) := by decide +kernel
theorem d_Sum_result_0 : decode b_Sum_result 0 = .ok (.aload_n 0, 1) := by decide +kernel
theorem d_Sum_result_1 : decode b_Sum_result 1 = .ok (.getfield 7, 3) := by decide +kernel
theorem d_Sum_result_4 : decode b_Sum_result 4 = .ok (.ifCond .eq 12, 3) := by decide +kernel
theorem d_Sum_result_7 : decode b_Sum_result 7 = .ok (.aload_n 0, 1) := by decide +kernel
theorem d_Sum_result_8 : decode b_Sum_result 8 = .ok (.getfield 13, 3) := by decide +kernel
theorem d_Sum_result_11 : decode b_Sum_result 11 = .ok (.lconst 1, 1) := by decide +kernel
theorem d_Sum_result_12 : decode b_Sum_result 12 = .ok (.land, 1) := by decide +kernel
theorem d_Sum_result_13 : decode b_Sum_result 13 = .ok (.goto 7, 3) := by decide +kernel
theorem d_Sum_result_16 : decode b_Sum_result 16 = .ok (.aload_n 0, 1) := by decide +kernel
theorem d_Sum_result_17 : decode b_Sum_result 17 = .ok (.getfield 13, 3) := by decide +kernel
theorem d_Sum_result_20 : decode b_Sum_result 20 = .ok (.lreturn, 1) := by decide +kernel
theorem d_Fun_result_0 : decode b_Fun_result 0 = .ok (.aload_n 0, 1) := by decide +kernel
theorem d_Fun_result_1 : decode b_Fun_result 1 = .ok (.getfield 18, 3) := by decide +kernel
theorem d_Fun_result_4 : decode b_Fun_result 4 = .ok (.lreturn, 1) := by decide +kernel
theorem d_Choice_take_0 : decode b_Choice_take 0 = .ok (.aload_n 0, 1) := by decide +kernel
theorem d_Choice_take_1 : decode b_Choice_take 1 = .ok (.lload_n 1, 1) := by decide +kernel
theorem d_Choice_take_2 : decode b_Choice_take 2 = .ok (.invokevirtual 26, 3) := by decide +kernel
theorem d_Choice_take_5 : decode b_Choice_take 5 = .ok (.aload_n 0, 1) := by decide +kernel
theorem d_Choice_take_6 : decode b_Choice_take 6 = .ok (.getfield 13, 3) := by decide +kernel
theorem d_Choice_take_9 : decode b_Choice_take 9 = .ok (.ifCond .ne 11, 3) := by decide +kernel
theorem d_Choice_take_12 : decode b_Choice_take 12 = .ok (.aload_n 0, 1) := by decide +kernel
theorem d_Choice_take_13 : decode b_Choice_take 13 = .ok (.getfield 23, 3) := by decide +kernel
theorem d_Choice_take_16 : decode b_Choice_take 16 = .ok (.iconst 1, 1) := by decide +kernel
theorem d_Choice_take_17 : decode b_Choice_take 17 = .ok (.if_icmp .ne 14, 3) := by decide +kernel
theorem d_Choice_take_20 : decode b_Choice_take 20 = .ok (.aload_n 0, 1) := by decide +kernel
theorem d_Choice_take_21 : decode b_Choice_take 21 = .ok (.iconst 1, 1) := by decide +kernel
theorem d_Choice_take_22 : decode b_Choice_take 22 = .ok (.putfield 13, 3) := by decide +kernel
theorem d_Choice_take_25 : decode b_Choice_take 25 = .ok (.aload_n 0, 1) := by decide +kernel
theorem d_Choice_take_26 : decode b_Choice_take 26 = .ok (.iconst (-1), 1) := by decide +kernel
theorem d_Choice_take_27 : decode b_Choice_take 27 = .ok (.putfield 19, 3) := by decide +kernel
theorem d_Choice_take_30 : decode b_Choice_take 30 = .ok (.return_, 1) := by decide +kernel
theorem d_Choice_take_31 : decode b_Choice_take 31 = .ok (.aload_n 0, 1) := by decide +kernel
theorem d_Choice_take_32 : decode b_Choice_take 32 = .ok (.iconst 1, 1) := by decide +kernel
theorem d_Choice_take_33 : decode b_Choice_take 33 = .ok (.putfield 13, 3) := by decide +kernel
theorem d_Choice_take_36 : decode b_Choice_take 36 = .ok (.lload_n 1, 1) := by decide +kernel
theorem d_Choice_take_37 : decode b_Choice_take 37 = .ok (.aload_n 0, 1) := by decide +kernel
theorem d_Choice_take_38 : decode b_Choice_take 38 = .ok (.getfield 23, 3) := by decide +kernel
theorem d_Choice_take_41 : decode b_Choice_take 41 = .ok (.iconst 1, 1) := by decide +kernel
theorem d_Choice_take_42 : decode b_Choice_take 42 = .ok (.isub, 1) := by decide +kernel
theorem d_Choice_take_43 : decode b_Choice_take 43 = .ok (.i2l, 1) := by decide +kernel
theorem d_Choice_take_44 : decode b_Choice_take 44 = .ok (.lrem, 1) := by decide +kernel
theorem d_Choice_take_45 : decode b_Choice_take 45 = .ok (.lstore_n 3, 1) := by decide +kernel
theorem d_Choice_take_46 : decode b_Choice_take 46 = .ok (.aload_n 0, 1) := by decide +kernel
theorem d_Choice_take_47 : decode b_Choice_take 47 = .ok (.iconst 1, 1) := by decide +kernel
theorem d_Choice_take_48 : decode b_Choice_take 48 = .ok (.lload_n 3, 1) := by decide +kernel
theorem d_Choice_take_49 : decode b_Choice_take 49 = .ok (.lconst 0, 1) := by decide +kernel
theorem d_Choice_take_50 : decode b_Choice_take 50 = .ok (.lcmp, 1) := by decide +kernel
theorem d_Choice_take_51 : decode b_Choice_take 51 = .ok (.ifCond .ge 15, 3) := by decide +kernel
theorem d_Choice_take_54 : decode b_Choice_take 54 = .ok (.lload_n 3, 1) := by decide +kernel
theorem d_Choice_take_55 : decode b_Choice_take 55 = .ok (.aload_n 0, 1) := by decide +kernel
theorem d_Choice_take_56 : decode b_Choice_take 56 = .ok (.getfield 23, 3) := by decide +kernel
theorem d_Choice_take_59 : decode b_Choice_take 59 = .ok (.i2l, 1) := by decide +kernel
theorem d_Choice_take_60 : decode b_Choice_take 60 = .ok (.ladd, 1) := by decide +kernel
theorem d_Choice_take_61 : decode b_Choice_take 61 = .ok (.lconst 1, 1) := by decide +kernel
theorem d_Choice_take_62 : decode b_Choice_take 62 = .ok (.lsub, 1) := by decide +kernel
theorem d_Choice_take_63 : decode b_Choice_take 63 = .ok (.goto 4, 3) := by decide +kernel
theorem d_Choice_take_66 : decode b_Choice_take 66 = .ok (.lload_n 3, 1) := by decide +kernel
theorem d_Choice_take_67 : decode b_Choice_take 67 = .ok (.l2i, 1) := by decide +kernel
theorem d_Choice_take_68 : decode b_Choice_take 68 = .ok (.iadd, 1) := by decide +kernel
theorem d_Choice_take_69 : decode b_Choice_take 69 = .ok (.putfield 19, 3) := by decide +kernel
theorem d_Choice_take_72 : decode b_Choice_take 72 = .ok (.return_, 1) := by decide +kernel
theorem d_Choice_with_0 : decode b_Choice_with 0 = .ok (.aload_n 0, 1) := by decide +kernel
theorem d_Choice_with_1 : decode b_Choice_with 1 = .ok (.lload_n 1, 1) := by decide +kernel
theorem d_Choice_with_2 : decode b_Choice_with 2 = .ok (.putfield 30, 3) := by decide +kernel
theorem d_Choice_with_5 : decode b_Choice_with 5 = .ok (.return_, 1) := by decide +kernel
theorem d_Fun_take_0 : decode b_Fun_take 0 = .ok (.aload_n 0, 1) := by decide +kernel
theorem d_Fun_take_1 : decode b_Fun_take 1 = .ok (.lload_n 1, 1) := by decide +kernel
theorem d_Fun_take_2 : decode b_Fun_take 2 = .ok (.invokevirtual 26, 3) := by decide +kernel
theorem d_Fun_take_5 : decode b_Fun_take 5 = .ok (.aload_n 0, 1) := by decide +kernel
theorem d_Fun_take_6 : decode b_Fun_take 6 = .ok (.dup, 1) := by decide +kernel
theorem d_Fun_take_7 : decode b_Fun_take 7 = .ok (.getfield 15, 3) := by decide +kernel
theorem d_Fun_take_10 : decode b_Fun_take 10 = .ok (.iconst 1, 1) := by decide +kernel
theorem d_Fun_take_11 : decode b_Fun_take 11 = .ok (.iadd, 1) := by decide +kernel
theorem d_Fun_take_12 : decode b_Fun_take 12 = .ok (.putfield 15, 3) := by decide +kernel
theorem d_Fun_take_15 : decode b_Fun_take 15 = .ok (.return_, 1) := by decide +kernel
theorem d_First_with_0 : decode b_First_with 0 = .ok (.aload_n 0, 1) := by decide +kernel
theorem d_First_with_1 : decode b_First_with 1 = .ok (.lload_n 1, 1) := by decide +kernel
theorem d_First_with_2 : decode b_First_with 2 = .ok (.putfield 7, 3) := by decide +kernel
theorem d_First_with_5 : decode b_First_with 5 = .ok (.lload_n 1, 1) := by decide +kernel
theorem d_First_with_6 : decode b_First_with 6 = .ok (.lconst 0, 1) := by decide +kernel
theorem d_First_with_7 : decode b_First_with 7 = .ok (.lcmp, 1) := by decide +kernel
theorem d_First_with_8 : decode b_First_with 8 = .ok (.ifCond .eq 11, 3) := by decide +kernel
theorem d_First_with_11 : decode b_First_with 11 = .ok (.aload_n 0, 1) := by decide +kernel
theorem d_First_with_12 : decode b_First_with 12 = .ok (.aload_n 0, 1) := by decide +kernel
theorem d_First_with_13 : decode b_First_with 13 = .ok (.getfield 13, 3) := by decide +kernel
theorem d_First_with_16 : decode b_First_with 16 = .ok (.putfield 17, 3) := by decide +kernel
theorem d_First_with_19 : decode b_First_with 19 = .ok (.return_, 1) := by decide +kernel
theorem d_Great_with_0 : decode b_Great_with 0 = .ok (.aload_n 0, 1) := by decide +kernel
theorem d_Great_with_1 : decode b_Great_with 1 = .ok (.aload_n 0, 1) := by decide +kernel
theorem d_Great_with_2 : decode b_Great_with 2 = .ok (.getfield 17, 3) := by decide +kernel
theorem d_Great_with_5 : decode b_Great_with 5 = .ok (.ifCond .eq 12, 3) := by decide +kernel
theorem d_Great_with_8 : decode b_Great_with 8 = .ok (.lload_n 1, 1) := by decide +kernel
theorem d_Great_with_9 : decode b_Great_with 9 = .ok (.aload_n 0, 1) := by decide +kernel
theorem d_Great_with_10 : decode b_Great_with 10 = .ok (.getfield 21, 3) := by decide +kernel
theorem d_Great_with_13 : decode b_Great_with 13 = .ok (.lcmp, 1) := by decide +kernel
theorem d_Great_with_14 : decode b_Great_with 14 = .ok (.ifCond .le 7, 3) := by decide +kernel
theorem d_Great_with_17 : decode b_Great_with 17 = .ok (.lload_n 1, 1) := by decide +kernel
theorem d_Great_with_18 : decode b_Great_with 18 = .ok (.goto 7, 3) := by decide +kernel
theorem d_Great_with_21 : decode b_Great_with 21 = .ok (.aload_n 0, 1) := by decide +kernel
theorem d_Great_with_22 : decode b_Great_with 22 = .ok (.getfield 21, 3) := by decide +kernel
theorem d_Great_with_25 : decode b_Great_with 25 = .ok (.putfield 21, 3) := by decide +kernel
theorem d_Great_with_28 : decode b_Great_with 28 = .ok (.return_, 1) := by decide +kernel
theorem d_Quot_with_0 : decode b_Quot_with 0 = .ok (.aload_n 0, 1) := by decide +kernel
theorem d_Quot_with_1 : decode b_Quot_with 1 = .ok (.getfield 7, 3) := by decide +kernel
theorem d_Quot_with_4 : decode b_Quot_with 4 = .ok (.ifCond .ne 9, 3) := by decide +kernel
theorem d_Quot_with_7 : decode b_Quot_with 7 = .ok (.aload_n 0, 1) := by decide +kernel
theorem d_Quot_with_8 : decode b_Quot_with 8 = .ok (.lload_n 1, 1) := by decide +kernel
theorem d_Quot_with_9 : decode b_Quot_with 9 = .ok (.putfield 13, 3) := by decide +kernel
theorem d_Quot_with_12 : decode b_Quot_with 12 = .ok (.return_, 1) := by decide +kernel
theorem d_Quot_with_13 : decode b_Quot_with 13 = .ok (.aload_n 0, 1) := by decide +kernel
theorem d_Quot_with_14 : decode b_Quot_with 14 = .ok (.lload_n 1, 1) := by decide +kernel
theorem d_Quot_with_15 : decode b_Quot_with 15 = .ok (.lconst 0, 1) := by decide +kernel
theorem d_Quot_with_16 : decode b_Quot_with 16 = .ok (.lcmp, 1) := by decide +kernel
theorem d_Quot_with_17 : decode b_Quot_with 17 = .ok (.ifCond .ne 7, 3) := by decide +kernel
theorem d_Quot_with_20 : decode b_Quot_with 20 = .ok (.iconst 1, 1) := by decide +kernel
theorem d_Quot_with_21 : decode b_Quot_with 21 = .ok (.goto 4, 3) := by decide +kernel
theorem d_Quot_with_24 : decode b_Quot_with 24 = .ok (.iconst 0, 1) := by decide +kernel
theorem d_Quot_with_25 : decode b_Quot_with 25 = .ok (.putfield 17, 3) := by decide +kernel
theorem d_Quot_with_28 : decode b_Quot_with 28 = .ok (.aload_n 0, 1) := by decide +kernel
theorem d_Quot_with_29 : decode b_Quot_with 29 = .ok (.aload_n 0, 1) := by decide +kernel
theorem d_Quot_with_30 : decode b_Quot_with 30 = .ok (.getfield 17, 3) := by decide +kernel
theorem d_Quot_with_33 : decode b_Quot_with 33 = .ok (.ifCond .eq 7, 3) := by decide +kernel
theorem d_Quot_with_36 : decode b_Quot_with 36 = .ok (.lconst 0, 1) := by decide +kernel
theorem d_Quot_with_37 : decode b_Quot_with 37 = .ok (.goto 25, 3) := by decide +kernel
theorem d_Quot_with_40 : decode b_Quot_with 40 = .ok (.lload_n 1, 1) := by decide +kernel
theorem d_Quot_with_41 : decode b_Quot_with 41 = .ok (.ldc2_w 21, 3) := by decide +kernel
theorem d_Quot_with_44 : decode b_Quot_with 44 = .ok (.lcmp, 1) := by decide +kernel
theorem d_Quot_with_45 : decode b_Quot_with 45 = .ok (.ifCond .ne 11, 3) := by decide +kernel
theorem d_Quot_with_48 : decode b_Quot_with 48 = .ok (.aload_n 0, 1) := by decide +kernel
theorem d_Quot_with_49 : decode b_Quot_with 49 = .ok (.getfield 13, 3) := by decide +kernel
theorem d_Quot_with_52 : decode b_Quot_with 52 = .ok (.lneg, 1) := by decide +kernel
theorem d_Quot_with_53 : decode b_Quot_with 53 = .ok (.goto 9, 3) := by decide +kernel
theorem d_Quot_with_56 : decode b_Quot_with 56 = .ok (.aload_n 0, 1) := by decide +kernel
theorem d_Quot_with_57 : decode b_Quot_with 57 = .ok (.getfield 13, 3) := by decide +kernel
theorem d_Quot_with_60 : decode b_Quot_with 60 = .ok (.lload_n 1, 1) := by decide +kernel
theorem d_Quot_with_61 : decode b_Quot_with 61 = .ok (.ldiv, 1) := by decide +kernel
theorem d_Quot_with_62 : decode b_Quot_with 62 = .ok (.putfield 13, 3) := by decide +kernel
theorem d_Quot_with_65 : decode b_Quot_with 65 = .ok (.return_, 1) := by decide +kernel
theorem d_Sum_with_0 : decode b_Sum_with 0 = .ok (.aload_n 0, 1) := by decide +kernel
theorem d_Sum_with_1 : decode b_Sum_with 1 = .ok (.dup, 1) := by decide +kernel
theorem d_Sum_with_2 : decode b_Sum_with 2 = .ok (.getfield 13, 3) := by decide +kernel
theorem d_Sum_with_5 : decode b_Sum_with 5 = .ok (.lload_n 1, 1) := by decide +kernel
theorem d_Sum_with_6 : decode b_Sum_with 6 = .ok (.ladd, 1) := by decide +kernel
theorem d_Sum_with_7 : decode b_Sum_with 7 = .ok (.putfield 13, 3) := by decide +kernel
theorem d_Sum_with_10 : decode b_Sum_with 10 = .ok (.return_, 1) := by decide +kernel
theorem d_KG_run_0 : decode b_KG_run 0 = .ok (.aload_n 0, 1) := by decide +kernel
theorem d_KG_run_1 : decode b_KG_run 1 = .ok (.iload_n 1, 1) := by decide +kernel
theorem d_KG_run_2 : decode b_KG_run 2 = .ok (.invokevirtual 54, 3) := by decide +kernel
theorem d_KG_run_5 : decode b_KG_run 5 = .ok (.ifCond .ne 5, 3) := by decide +kernel
theorem d_KG_run_8 : decode b_KG_run 8 = .ok (.iconst (-1), 1) := by decide +kernel
theorem d_KG_run_9 : decode b_KG_run 9 = .ok (.ireturn, 1) := by decide +kernel
theorem d_KG_run_10 : decode b_KG_run 10 = .ok (.aload_n 0, 1) := by decide +kernel
theorem d_KG_run_11 : decode b_KG_run 11 = .ok (.getfield 32, 3) := by decide +kernel
theorem d_KG_run_14 : decode b_KG_run 14 = .ok (.iload_n 1, 1) := by decide +kernel
theorem d_KG_run_15 : decode b_KG_run 15 = .ok (.invokevirtual 58, 3) := by decide +kernel
theorem d_KG_run_18 : decode b_KG_run 18 = .ok (.checkcast 62, 3) := by decide +kernel
theorem d_KG_run_21 : decode b_KG_run 21 = .ok (.astore_n 2, 1) := by decide +kernel
theorem d_KG_run_22 : decode b_KG_run 22 = .ok (.aload_n 0, 1) := by decide +kernel
theorem d_KG_run_23 : decode b_KG_run 23 = .ok (.aload_n 2, 1) := by decide +kernel
theorem d_KG_run_24 : decode b_KG_run 24 = .ok (.invokevirtual 162, 3) := by decide +kernel
theorem d_KG_run_27 : decode b_KG_run 27 = .ok (.ifCond .ne 86, 3) := by decide +kernel
theorem d_KG_run_30 : decode b_KG_run 30 = .ok (.aload_n 2, 1) := by decide +kernel
theorem d_KG_run_31 : decode b_KG_run 31 = .ok (.getfield 137, 3) := by decide +kernel
theorem d_KG_run_34 : decode b_KG_run 34 = .ok (.ifCond .lt 6, 3) := by decide +kernel
theorem d_KG_run_37 : decode b_KG_run 37 = .ok (.bipush (-2), 2) := by decide +kernel
theorem d_KG_run_39 : decode b_KG_run 39 = .ok (.ireturn, 1) := by decide +kernel
theorem d_KG_run_40 : decode b_KG_run 40 = .ok (.aload_n 0, 1) := by decide +kernel
theorem d_KG_run_41 : decode b_KG_run 41 = .ok (.iconst 4, 1) := by decide +kernel
theorem d_KG_run_42 : decode b_KG_run 42 = .ok (.aload_n 2, 1) := by decide +kernel
theorem d_KG_run_43 : decode b_KG_run 43 = .ok (.invokevirtual 165, 3) := by decide +kernel
theorem d_KG_run_46 : decode b_KG_run 46 = .ok (.iconst 1, 1) := by decide +kernel
theorem d_KG_run_47 : decode b_KG_run 47 = .ok (.istore_n 3, 1) := by decide +kernel
theorem d_KG_run_48 : decode b_KG_run 48 = .ok (.iload_n 3, 1) := by decide +kernel
theorem d_KG_run_49 : decode b_KG_run 49 = .ok (.ifCond .eq 17, 3) := by decide +kernel
theorem d_KG_run_52 : decode b_KG_run 52 = .ok (.iload_n 3, 1) := by decide +kernel
theorem d_KG_run_53 : decode b_KG_run 53 = .ok (.iconst 3, 1) := by decide +kernel
theorem d_KG_run_54 : decode b_KG_run 54 = .ok (.if_icmp .eq 12, 3) := by decide +kernel
theorem d_KG_run_57 : decode b_KG_run 57 = .ok (.aload_n 0, 1) := by decide +kernel
theorem d_KG_run_58 : decode b_KG_run 58 = .ok (.iconst 4, 1) := by decide +kernel
theorem d_KG_run_59 : decode b_KG_run 59 = .ok (.invokevirtual 219, 3) := by decide +kernel
theorem d_KG_run_62 : decode b_KG_run 62 = .ok (.istore_n 3, 1) := by decide +kernel
theorem d_KG_run_63 : decode b_KG_run 63 = .ok (.goto (-15), 3) := by decide +kernel
theorem d_KG_run_66 : decode b_KG_run 66 = .ok (.iload_n 3, 1) := by decide +kernel
theorem d_KG_run_67 : decode b_KG_run 67 = .ok (.iconst 3, 1) := by decide +kernel
theorem d_KG_run_68 : decode b_KG_run 68 = .ok (.if_icmp .ne 45, 3) := by decide +kernel
theorem d_KG_run_71 : decode b_KG_run 71 = .ok (.aload_n 0, 1) := by decide +kernel
theorem d_KG_run_72 : decode b_KG_run 72 = .ok (.getfield 40, 3) := by decide +kernel
theorem d_KG_run_75 : decode b_KG_run 75 = .ok (.iconst 4, 1) := by decide +kernel
theorem d_KG_run_76 : decode b_KG_run 76 = .ok (.aaload, 1) := by decide +kernel
theorem d_KG_run_77 : decode b_KG_run 77 = .ok (.astore 4, 2) := by decide +kernel
theorem d_KG_run_79 : decode b_KG_run 79 = .ok (.aload 4, 2) := by decide +kernel
theorem d_KG_run_81 : decode b_KG_run 81 = .ok (.getfield 135, 3) := by decide +kernel
theorem d_KG_run_84 : decode b_KG_run 84 = .ok (.ifCond .le 26, 3) := by decide +kernel
theorem d_KG_run_87 : decode b_KG_run 87 = .ok (.aload 4, 2) := by decide +kernel
theorem d_KG_run_89 : decode b_KG_run 89 = .ok (.invokevirtual 169, 3) := by decide +kernel
theorem d_KG_run_92 : decode b_KG_run 92 = .ok (.iconst (-1), 1) := by decide +kernel
theorem d_KG_run_93 : decode b_KG_run 93 = .ok (.putfield 137, 3) := by decide +kernel
theorem d_KG_run_96 : decode b_KG_run 96 = .ok (.aload 4, 2) := by decide +kernel
theorem d_KG_run_98 : decode b_KG_run 98 = .ok (.dup, 1) := by decide +kernel
theorem d_KG_run_99 : decode b_KG_run 99 = .ok (.getfield 135, 3) := by decide +kernel
theorem d_KG_run_102 : decode b_KG_run 102 = .ok (.iconst 1, 1) := by decide +kernel
theorem d_KG_run_103 : decode b_KG_run 103 = .ok (.isub, 1) := by decide +kernel
theorem d_KG_run_104 : decode b_KG_run 104 = .ok (.putfield 135, 3) := by decide +kernel
theorem d_KG_run_107 : decode b_KG_run 107 = .ok (.goto (-28), 3) := by decide +kernel
theorem d_KG_run_110 : decode b_KG_run 110 = .ok (.bipush (-2), 2) := by decide +kernel
theorem d_KG_run_112 : decode b_KG_run 112 = .ok (.ireturn, 1) := by decide +kernel
theorem d_KG_run_113 : decode b_KG_run 113 = .ok (.aload_n 2, 1) := by decide +kernel
theorem d_KG_run_114 : decode b_KG_run 114 = .ok (.getfield 68, 3) := by decide +kernel
theorem d_KG_run_117 : decode b_KG_run 117 = .ok (.ireturn, 1) := by decide +kernel
theorem d_KG_state_0 : decode b_KG_state 0 = .ok (.aload_n 0, 1) := by decide +kernel
theorem d_KG_state_1 : decode b_KG_state 1 = .ok (.iload_n 1, 1) := by decide +kernel
theorem d_KG_state_2 : decode b_KG_state 2 = .ok (.invokevirtual 54, 3) := by decide +kernel
theorem d_KG_state_5 : decode b_KG_state 5 = .ok (.ifCond .eq 38, 3) := by decide +kernel
theorem d_KG_state_8 : decode b_KG_state 8 = .ok (.aload_n 0, 1) := by decide +kernel
theorem d_KG_state_9 : decode b_KG_state 9 = .ok (.aload_n 0, 1) := by decide +kernel
theorem d_KG_state_10 : decode b_KG_state 10 = .ok (.getfield 32, 3) := by decide +kernel
theorem d_KG_state_13 : decode b_KG_state 13 = .ok (.iload_n 1, 1) := by decide +kernel
theorem d_KG_state_14 : decode b_KG_state 14 = .ok (.invokevirtual 58, 3) := by decide +kernel
theorem d_KG_state_17 : decode b_KG_state 17 = .ok (.checkcast 62, 3) := by decide +kernel
theorem d_KG_state_20 : decode b_KG_state 20 = .ok (.invokevirtual 162, 3) := by decide +kernel
theorem d_KG_state_23 : decode b_KG_state 23 = .ok (.ifCond .eq 20, 3) := by decide +kernel
theorem d_KG_state_26 : decode b_KG_state 26 = .ok (.aload_n 0, 1) := by decide +kernel
theorem d_KG_state_27 : decode b_KG_state 27 = .ok (.getfield 32, 3) := by decide +kernel
theorem d_KG_state_30 : decode b_KG_state 30 = .ok (.iload_n 1, 1) := by decide +kernel
theorem d_KG_state_31 : decode b_KG_state 31 = .ok (.invokevirtual 58, 3) := by decide +kernel
theorem d_KG_state_34 : decode b_KG_state 34 = .ok (.checkcast 62, 3) := by decide +kernel
theorem d_KG_state_37 : decode b_KG_state 37 = .ok (.getfield 68, 3) := by decide +kernel
theorem d_KG_state_40 : decode b_KG_state 40 = .ok (.goto 4, 3) := by decide +kernel
theorem d_KG_state_43 : decode b_KG_state 43 = .ok (.iconst 0, 1) := by decide +kernel
theorem d_KG_state_44 : decode b_KG_state 44 = .ok (.ireturn, 1) := by decide +kernel
theorem d_KG_worked_0 : decode b_KG_worked 0 = .ok (.aload_n 0, 1) := by decide +kernel
theorem d_KG_worked_1 : decode b_KG_worked 1 = .ok (.iload_n 1, 1) := by decide +kernel
theorem d_KG_worked_2 : decode b_KG_worked 2 = .ok (.invokevirtual 54, 3) := by decide +kernel
theorem d_KG_worked_5 : decode b_KG_worked 5 = .ok (.ifCond .eq 20, 3) := by decide +kernel
theorem d_KG_worked_8 : decode b_KG_worked 8 = .ok (.aload_n 0, 1) := by decide +kernel
theorem d_KG_worked_9 : decode b_KG_worked 9 = .ok (.getfield 32, 3) := by decide +kernel
theorem d_KG_worked_12 : decode b_KG_worked 12 = .ok (.iload_n 1, 1) := by decide +kernel
theorem d_KG_worked_13 : decode b_KG_worked 13 = .ok (.invokevirtual 58, 3) := by decide +kernel
theorem d_KG_worked_16 : decode b_KG_worked 16 = .ok (.checkcast 62, 3) := by decide +kernel
theorem d_KG_worked_19 : decode b_KG_worked 19 = .ok (.getfield 183, 3) := by decide +kernel
theorem d_KG_worked_22 : decode b_KG_worked 22 = .ok (.goto 4, 3) := by decide +kernel
theorem d_KG_worked_25 : decode b_KG_worked 25 = .ok (.iconst 0, 1) := by decide +kernel
theorem d_KG_worked_26 : decode b_KG_worked 26 = .ok (.ireturn, 1) := by decide +kernel
theorem d_KG_kept_0 : decode b_KG_kept 0 = .ok (.aload_n 0, 1) := by decide +kernel
theorem d_KG_kept_1 : decode b_KG_kept 1 = .ok (.iload_n 1, 1) := by decide +kernel
theorem d_KG_kept_2 : decode b_KG_kept 2 = .ok (.invokevirtual 54, 3) := by decide +kernel
theorem d_KG_kept_5 : decode b_KG_kept 5 = .ok (.ifCond .eq 20, 3) := by decide +kernel
theorem d_KG_kept_8 : decode b_KG_kept 8 = .ok (.aload_n 0, 1) := by decide +kernel
theorem d_KG_kept_9 : decode b_KG_kept 9 = .ok (.getfield 32, 3) := by decide +kernel
theorem d_KG_kept_12 : decode b_KG_kept 12 = .ok (.iload_n 1, 1) := by decide +kernel
theorem d_KG_kept_13 : decode b_KG_kept 13 = .ok (.invokevirtual 58, 3) := by decide +kernel
theorem d_KG_kept_16 : decode b_KG_kept 16 = .ok (.checkcast 62, 3) := by decide +kernel
theorem d_KG_kept_19 : decode b_KG_kept 19 = .ok (.getfield 216, 3) := by decide +kernel
theorem d_KG_kept_22 : decode b_KG_kept 22 = .ok (.goto 4, 3) := by decide +kernel
theorem d_KG_kept_25 : decode b_KG_kept 25 = .ok (.iconst 0, 1) := by decide +kernel
theorem d_KG_kept_26 : decode b_KG_kept 26 = .ok (.ireturn, 1) := by decide +kernel
theorem d_KG_changed_0 : decode b_KG_changed 0 = .ok (.aload_n 0, 1) := by decide +kernel
theorem d_KG_changed_1 : decode b_KG_changed 1 = .ok (.iload_n 1, 1) := by decide +kernel
theorem d_KG_changed_2 : decode b_KG_changed 2 = .ok (.invokevirtual 54, 3) := by decide +kernel
theorem d_KG_changed_5 : decode b_KG_changed 5 = .ok (.ifCond .eq 37, 3) := by decide +kernel
theorem d_KG_changed_8 : decode b_KG_changed 8 = .ok (.aload_n 0, 1) := by decide +kernel
theorem d_KG_changed_9 : decode b_KG_changed 9 = .ok (.getfield 32, 3) := by decide +kernel
theorem d_KG_changed_12 : decode b_KG_changed 12 = .ok (.iload_n 1, 1) := by decide +kernel
theorem d_KG_changed_13 : decode b_KG_changed 13 = .ok (.invokevirtual 58, 3) := by decide +kernel
theorem d_KG_changed_16 : decode b_KG_changed 16 = .ok (.checkcast 62, 3) := by decide +kernel
theorem d_KG_changed_19 : decode b_KG_changed 19 = .ok (.getfield 68, 3) := by decide +kernel
theorem d_KG_changed_22 : decode b_KG_changed 22 = .ok (.ifCond .le 20, 3) := by decide +kernel
theorem d_KG_changed_25 : decode b_KG_changed 25 = .ok (.aload_n 0, 1) := by decide +kernel
theorem d_KG_changed_26 : decode b_KG_changed 26 = .ok (.getfield 32, 3) := by decide +kernel
theorem d_KG_changed_29 : decode b_KG_changed 29 = .ok (.iload_n 1, 1) := by decide +kernel
theorem d_KG_changed_30 : decode b_KG_changed 30 = .ok (.invokevirtual 58, 3) := by decide +kernel
theorem d_KG_changed_33 : decode b_KG_changed 33 = .ok (.checkcast 62, 3) := by decide +kernel
theorem d_KG_changed_36 : decode b_KG_changed 36 = .ok (.getfield 85, 3) := by decide +kernel
theorem d_KG_changed_39 : decode b_KG_changed 39 = .ok (.goto 4, 3) := by decide +kernel
theorem d_KG_changed_42 : decode b_KG_changed 42 = .ok (.iconst (-1), 1) := by decide +kernel
theorem d_KG_changed_43 : decode b_KG_changed 43 = .ok (.ireturn, 1) := by decide +kernel
theorem d_KG_asked_0 : decode b_KG_asked 0 = .ok (.aload_n 0, 1) := by decide +kernel
theorem d_KG_asked_1 : decode b_KG_asked 1 = .ok (.iload_n 1, 1) := by decide +kernel
theorem d_KG_asked_2 : decode b_KG_asked 2 = .ok (.invokevirtual 109, 3) := by decide +kernel
theorem d_KG_asked_5 : decode b_KG_asked 5 = .ok (.ifCond .eq 42, 3) := by decide +kernel
theorem d_KG_asked_8 : decode b_KG_asked 8 = .ok (.aload_n 0, 1) := by decide +kernel
theorem d_KG_asked_9 : decode b_KG_asked 9 = .ok (.getfield 32, 3) := by decide +kernel
theorem d_KG_asked_12 : decode b_KG_asked 12 = .ok (.iload_n 1, 1) := by decide +kernel
theorem d_KG_asked_13 : decode b_KG_asked 13 = .ok (.invokevirtual 58, 3) := by decide +kernel
theorem d_KG_asked_16 : decode b_KG_asked 16 = .ok (.checkcast 62, 3) := by decide +kernel
theorem d_KG_asked_19 : decode b_KG_asked 19 = .ok (.getfield 68, 3) := by decide +kernel
theorem d_KG_asked_22 : decode b_KG_asked 22 = .ok (.ifCond .eq 25, 3) := by decide +kernel
theorem d_KG_asked_25 : decode b_KG_asked 25 = .ok (.iload_n 2, 1) := by decide +kernel
theorem d_KG_asked_26 : decode b_KG_asked 26 = .ok (.ifCond .lt 21, 3) := by decide +kernel
theorem d_KG_asked_29 : decode b_KG_asked 29 = .ok (.iload_n 2, 1) := by decide +kernel
theorem d_KG_asked_30 : decode b_KG_asked 30 = .ok (.aload_n 0, 1) := by decide +kernel
theorem d_KG_asked_31 : decode b_KG_asked 31 = .ok (.getfield 32, 3) := by decide +kernel
theorem d_KG_asked_34 : decode b_KG_asked 34 = .ok (.iload_n 1, 1) := by decide +kernel
theorem d_KG_asked_35 : decode b_KG_asked 35 = .ok (.invokevirtual 58, 3) := by decide +kernel
theorem d_KG_asked_38 : decode b_KG_asked 38 = .ok (.checkcast 62, 3) := by decide +kernel
theorem d_KG_asked_41 : decode b_KG_asked 41 = .ok (.getfield 180, 3) := by decide +kernel
theorem d_KG_asked_44 : decode b_KG_asked 44 = .ok (.if_icmp .lt 7, 3) := by decide +kernel
theorem d_KG_asked_47 : decode b_KG_asked 47 = .ok (.iconst (-1), 1) := by decide +kernel
theorem d_KG_asked_48 : decode b_KG_asked 48 = .ok (.goto 19, 3) := by decide +kernel
theorem d_KG_asked_51 : decode b_KG_asked 51 = .ok (.aload_n 0, 1) := by decide +kernel
theorem d_KG_asked_52 : decode b_KG_asked 52 = .ok (.getfield 32, 3) := by decide +kernel
theorem d_KG_asked_55 : decode b_KG_asked 55 = .ok (.iload_n 1, 1) := by decide +kernel
theorem d_KG_asked_56 : decode b_KG_asked 56 = .ok (.invokevirtual 58, 3) := by decide +kernel
theorem d_KG_asked_59 : decode b_KG_asked 59 = .ok (.checkcast 62, 3) := by decide +kernel
theorem d_KG_asked_62 : decode b_KG_asked 62 = .ok (.getfield 173, 3) := by decide +kernel
theorem d_KG_asked_65 : decode b_KG_asked 65 = .ok (.iload_n 2, 1) := by decide +kernel
theorem d_KG_asked_66 : decode b_KG_asked 66 = .ok (.iaload, 1) := by decide +kernel
theorem d_KG_asked_67 : decode b_KG_asked 67 = .ok (.ireturn, 1) := by decide +kernel
theorem d_KG_drop_0 : decode b_KG_drop 0 = .ok (.aload_n 0, 1) := by decide +kernel
theorem d_KG_drop_1 : decode b_KG_drop 1 = .ok (.iload_n 1, 1) := by decide +kernel
theorem d_KG_drop_2 : decode b_KG_drop 2 = .ok (.invokevirtual 109, 3) := by decide +kernel
theorem d_KG_drop_5 : decode b_KG_drop 5 = .ok (.ifCond .eq 20, 3) := by decide +kernel
theorem d_KG_drop_8 : decode b_KG_drop 8 = .ok (.aload_n 0, 1) := by decide +kernel
theorem d_KG_drop_9 : decode b_KG_drop 9 = .ok (.getfield 32, 3) := by decide +kernel
theorem d_KG_drop_12 : decode b_KG_drop 12 = .ok (.iload_n 1, 1) := by decide +kernel
theorem d_KG_drop_13 : decode b_KG_drop 13 = .ok (.invokevirtual 58, 3) := by decide +kernel
theorem d_KG_drop_16 : decode b_KG_drop 16 = .ok (.checkcast 62, 3) := by decide +kernel
theorem d_KG_drop_19 : decode b_KG_drop 19 = .ok (.getfield 68, 3) := by decide +kernel
theorem d_KG_drop_22 : decode b_KG_drop 22 = .ok (.ifCond .ne 5, 3) := by decide +kernel
theorem d_KG_drop_25 : decode b_KG_drop 25 = .ok (.iconst 0, 1) := by decide +kernel
theorem d_KG_drop_26 : decode b_KG_drop 26 = .ok (.ireturn, 1) := by decide +kernel
theorem d_KG_drop_27 : decode b_KG_drop 27 = .ok (.aload_n 0, 1) := by decide +kernel
theorem d_KG_drop_28 : decode b_KG_drop 28 = .ok (.invokevirtual 125, 3) := by decide +kernel
theorem d_KG_drop_31 : decode b_KG_drop 31 = .ok (.pop, 1) := by decide +kernel
theorem d_KG_drop_32 : decode b_KG_drop 32 = .ok (.aload_n 0, 1) := by decide +kernel
theorem d_KG_drop_33 : decode b_KG_drop 33 = .ok (.getfield 32, 3) := by decide +kernel
theorem d_KG_drop_36 : decode b_KG_drop 36 = .ok (.iload_n 1, 1) := by decide +kernel
theorem d_KG_drop_37 : decode b_KG_drop 37 = .ok (.invokevirtual 58, 3) := by decide +kernel
theorem d_KG_drop_40 : decode b_KG_drop 40 = .ok (.checkcast 62, 3) := by decide +kernel
theorem d_KG_drop_43 : decode b_KG_drop 43 = .ok (.iconst 0, 1) := by decide +kernel
theorem d_KG_drop_44 : decode b_KG_drop 44 = .ok (.putfield 68, 3) := by decide +kernel
theorem d_KG_drop_47 : decode b_KG_drop 47 = .ok (.iconst 1, 1) := by decide +kernel
theorem d_KG_drop_48 : decode b_KG_drop 48 = .ok (.ireturn, 1) := by decide +kernel
theorem d_Law_value_0 : decode b_Law_value 0 = .ok (.aload_n 2, 1) := by decide +kernel
theorem d_Law_value_1 : decode b_Law_value 1 = .ok (.iconst 0, 1) := by decide +kernel
theorem d_Law_value_2 : decode b_Law_value 2 = .ok (.aload_n 0, 1) := by decide +kernel
theorem d_Law_value_3 : decode b_Law_value 3 = .ok (.iload_n 1, 1) := by decide +kernel
theorem d_Law_value_4 : decode b_Law_value 4 = .ok (.invokevirtual 7, 3) := by decide +kernel
theorem d_Law_value_7 : decode b_Law_value 7 = .ok (.lastore, 1) := by decide +kernel
theorem d_Law_value_8 : decode b_Law_value 8 = .ok (.goto 9, 3) := by decide +kernel
theorem d_Law_value_11 : decode b_Law_value 11 = .ok (.astore_n 3, 1) := by decide +kernel
theorem d_Law_value_12 : decode b_Law_value 12 = .ok (.iconst 1, 1) := by decide +kernel
theorem d_Law_value_13 : decode b_Law_value 13 = .ok (.ireturn, 1) := by decide +kernel
theorem d_Law_value_14 : decode b_Law_value 14 = .ok (.astore_n 3, 1) := by decide +kernel
theorem d_Law_value_15 : decode b_Law_value 15 = .ok (.iconst 2, 1) := by decide +kernel
theorem d_Law_value_16 : decode b_Law_value 16 = .ok (.ireturn, 1) := by decide +kernel
theorem d_Law_value_17 : decode b_Law_value 17 = .ok (.iconst 0, 1) := by decide +kernel
theorem d_Law_value_18 : decode b_Law_value 18 = .ok (.ireturn, 1) := by decide +kernel
theorem d_KG_value_0 : decode b_KG_value 0 = .ok (.aload_n 0, 1) := by decide +kernel
theorem d_KG_value_1 : decode b_KG_value 1 = .ok (.iload_n 1, 1) := by decide +kernel
theorem d_KG_value_2 : decode b_KG_value 2 = .ok (.invokevirtual 54, 3) := by decide +kernel
theorem d_KG_value_5 : decode b_KG_value 5 = .ok (.ifCond .ne 11, 3) := by decide +kernel
theorem d_KG_value_8 : decode b_KG_value 8 = .ok (.new 223, 3) := by decide +kernel
theorem d_KG_value_11 : decode b_KG_value 11 = .ok (.dup, 1) := by decide +kernel
theorem d_KG_value_12 : decode b_KG_value 12 = .ok (.invokespecial 225, 3) := by decide +kernel
theorem d_KG_value_15 : decode b_KG_value 15 = .ok (.athrow, 1) := by decide +kernel
theorem d_KG_value_16 : decode b_KG_value 16 = .ok (.aload_n 0, 1) := by decide +kernel
theorem d_KG_value_17 : decode b_KG_value 17 = .ok (.iload_n 1, 1) := by decide +kernel
theorem d_KG_value_18 : decode b_KG_value 18 = .ok (.invokevirtual 226, 3) := by decide +kernel
theorem d_KG_value_21 : decode b_KG_value 21 = .ok (.iconst 1, 1) := by decide +kernel
theorem d_KG_value_22 : decode b_KG_value 22 = .ok (.if_icmp .eq 11, 3) := by decide +kernel
theorem d_KG_value_25 : decode b_KG_value 25 = .ok (.new 228, 3) := by decide +kernel
theorem d_KG_value_28 : decode b_KG_value 28 = .ok (.dup, 1) := by decide +kernel
theorem d_KG_value_29 : decode b_KG_value 29 = .ok (.invokespecial 230, 3) := by decide +kernel
theorem d_KG_value_32 : decode b_KG_value 32 = .ok (.athrow, 1) := by decide +kernel
theorem d_KG_value_33 : decode b_KG_value 33 = .ok (.aload_n 0, 1) := by decide +kernel
theorem d_KG_value_34 : decode b_KG_value 34 = .ok (.getfield 32, 3) := by decide +kernel
theorem d_KG_value_37 : decode b_KG_value 37 = .ok (.iload_n 1, 1) := by decide +kernel
theorem d_KG_value_38 : decode b_KG_value 38 = .ok (.invokevirtual 58, 3) := by decide +kernel
theorem d_KG_value_41 : decode b_KG_value 41 = .ok (.checkcast 62, 3) := by decide +kernel
theorem d_KG_value_44 : decode b_KG_value 44 = .ok (.getfield 81, 3) := by decide +kernel
theorem d_KG_value_47 : decode b_KG_value 47 = .ok (.lreturn, 1) := by decide +kernel
theorem d_Thr_init_0 : decode b_Thr_init 0 = .ok (.aload_n 0, 1) := by decide +kernel
theorem d_Thr_init_1 : decode b_Thr_init 1 = .ok (.invokespecial 1, 3) := by decide +kernel
theorem d_Thr_init_4 : decode b_Thr_init 4 = .ok (.aload_n 0, 1) := by decide +kernel
theorem d_Thr_init_5 : decode b_Thr_init 5 = .ok (.aload_n 0, 1) := by decide +kernel
theorem d_Thr_init_6 : decode b_Thr_init 6 = .ok (.putfield 7, 3) := by decide +kernel
theorem d_Thr_init_9 : decode b_Thr_init 9 = .ok (.aload_n 0, 1) := by decide +kernel
theorem d_Thr_init_10 : decode b_Thr_init 10 = .ok (.getstatic 13, 3) := by decide +kernel
theorem d_Thr_init_13 : decode b_Thr_init 13 = .ok (.putfield 17, 3) := by decide +kernel
theorem d_Thr_init_16 : decode b_Thr_init 16 = .ok (.aload_n 0, 1) := by decide +kernel
theorem d_Thr_init_17 : decode b_Thr_init 17 = .ok (.getstatic 20, 3) := by decide +kernel
theorem d_Thr_init_20 : decode b_Thr_init 20 = .ok (.putfield 24, 3) := by decide +kernel
theorem d_Thr_init_23 : decode b_Thr_init 23 = .ok (.aload_n 0, 1) := by decide +kernel
theorem d_Thr_init_24 : decode b_Thr_init 24 = .ok (.invokevirtual 27, 3) := by decide +kernel
theorem d_Thr_init_27 : decode b_Thr_init 27 = .ok (.pop, 1) := by decide +kernel
theorem d_Thr_init_28 : decode b_Thr_init 28 = .ok (.return_, 1) := by decide +kernel
theorem d_Thr_fillInStackTrace_0 : decode b_Thr_fillInStackTrace 0 = .ok (.aload_n 0, 1) := by decide +kernel
theorem d_Thr_fillInStackTrace_1 : decode b_Thr_fillInStackTrace 1 = .ok (.getfield 17, 3) := by decide +kernel
theorem d_Thr_fillInStackTrace_4 : decode b_Thr_fillInStackTrace 4 = .ok (.ifnonnull 10, 3) := by decide +kernel
theorem d_Thr_fillInStackTrace_7 : decode b_Thr_fillInStackTrace 7 = .ok (.aload_n 0, 1) := by decide +kernel
theorem d_Thr_fillInStackTrace_8 : decode b_Thr_fillInStackTrace 8 = .ok (.getfield 198, 3) := by decide +kernel
theorem d_Thr_fillInStackTrace_11 : decode b_Thr_fillInStackTrace 11 = .ok (.ifnull 16, 3) := by decide +kernel
theorem d_Thr_fillInStackTrace_14 : decode b_Thr_fillInStackTrace 14 = .ok (.aload_n 0, 1) := by decide +kernel
theorem d_Thr_fillInStackTrace_15 : decode b_Thr_fillInStackTrace 15 = .ok (.iconst 0, 1) := by decide +kernel
theorem d_Thr_fillInStackTrace_16 : decode b_Thr_fillInStackTrace 16 = .ok (.invokevirtual 202, 3) := by decide +kernel
theorem d_Thr_fillInStackTrace_19 : decode b_Thr_fillInStackTrace 19 = .ok (.pop, 1) := by decide +kernel
theorem d_Thr_fillInStackTrace_20 : decode b_Thr_fillInStackTrace 20 = .ok (.aload_n 0, 1) := by decide +kernel
theorem d_Thr_fillInStackTrace_21 : decode b_Thr_fillInStackTrace 21 = .ok (.getstatic 13, 3) := by decide +kernel
theorem d_Thr_fillInStackTrace_24 : decode b_Thr_fillInStackTrace 24 = .ok (.putfield 17, 3) := by decide +kernel
theorem d_Thr_fillInStackTrace_27 : decode b_Thr_fillInStackTrace 27 = .ok (.aload_n 0, 1) := by decide +kernel
theorem d_Thr_fillInStackTrace_28 : decode b_Thr_fillInStackTrace 28 = .ok (.areturn, 1) := by decide +kernel
theorem d_IAE_init_0 : decode b_IAE_init 0 = .ok (.aload_n 0, 1) := by decide +kernel
theorem d_IAE_init_1 : decode b_IAE_init 1 = .ok (.invokespecial 1, 3) := by decide +kernel
theorem d_IAE_init_4 : decode b_IAE_init 4 = .ok (.return_, 1) := by decide +kernel
theorem d_RTE_init_0 : decode b_RTE_init 0 = .ok (.aload_n 0, 1) := by decide +kernel
theorem d_RTE_init_1 : decode b_RTE_init 1 = .ok (.invokespecial 1, 3) := by decide +kernel
theorem d_RTE_init_4 : decode b_RTE_init 4 = .ok (.return_, 1) := by decide +kernel
theorem d_Exc_init_0 : decode b_Exc_init 0 = .ok (.aload_n 0, 1) := by decide +kernel
theorem d_Exc_init_1 : decode b_Exc_init 1 = .ok (.invokespecial 1, 3) := by decide +kernel
theorem d_Exc_init_4 : decode b_Exc_init 4 = .ok (.return_, 1) := by decide +kernel
theorem d_ISE_init_0 : decode b_ISE_init 0 = .ok (.aload_n 0, 1) := by decide +kernel
theorem d_ISE_init_1 : decode b_ISE_init 1 = .ok (.invokespecial 1, 3) := by decide +kernel
theorem d_ISE_init_4 : decode b_ISE_init 4 = .ok (.return_, 1) := by decide +kernel
end
section
theorem zbool {x : Int32} (h : x = 0 ∨ x = 1) : narrow .boolean (.int x) = .int x := by rcases h with rfl | rfl <;> decide
theorem zboolf {x : Int32} (h : x = 0 ∨ x = 1) : fits .boolean (.int x) = true := by rcases h with rfl | rfl <;> decide
def x_begin0 (Z : Zt) (k n : Nat) : Zt := si (sl (si (si Z 10 k (nI n)) 11 k 0) 2 k 0) 12 k 0
def x_begin (Z : Zt) (k n : Nat) : Zt := if xn Z 1 k = 2 then (si (x_begin0 Z k n) 13 k 0) else if xn Z 1 k = 5 then (si (x_begin0 Z k n) 12 k (if n = 0 then 1 else 0)) else (x_begin0 Z k n)
def x_next (Z : Zt) (k : Nat) : Int32 := if xn Z 1 k = 2 then (if xi Z 13 k = 0 then (if xi Z 10 k ≤ 0 then -1 else 0) else xi Z 11 k) else (if xi Z 10 k ≤ xi Z 11 k then -1 else xi Z 11 k)
def x_qv (Z : Zt) (k : Nat) (x : Int64) : Int64 := if x = 0 then 0 else if x = -1 then -(xl Z 2 k) else xl Z 2 k / x
def x_with (Z : Zt) (k : Nat) (x : Int64) : Zt := if xn Z 1 k = 1 then (if x = 0 then sl Z 2 k x else si (sl Z 2 k x) 10 k (xi Z 11 k)) else if xn Z 1 k = 2 then (sl Z 2 k x) else if xn Z 1 k = 3 then (if xi Z 11 k = 0 then sl Z 2 k x else sl (si Z 12 k (if x = 0 then 1 else 0)) 2 k (x_qv Z k x)) else if xn Z 1 k = 5 then (sl Z 2 k (if xi Z 11 k = 0 then x else if x ≤ xl Z 2 k then xl Z 2 k else x)) else (sl Z 2 k (xl Z 2 k + x))
def x_chR (Z : Zt) (k : Nat) (x : Int64) : Int64 := x - x / (xi Z 10 k - 1).toInt64 * (xi Z 10 k - 1).toInt64
def x_chP (Z : Zt) (k : Nat) (x : Int64) : Int32 := 1 + (if 0 ≤ x_chR Z k x then x_chR Z k x else x_chR Z k x + (xi Z 10 k).toInt64 - 1).toInt32
def x_takeC (Z : Zt) (k : Nat) (x : Int64) : Zt := if xi Z 13 k = 0 then (if xi Z 10 k = 1 then si (si (sl Z 2 k x) 13 k 1) 11 k (-1) else si (si (sl Z 2 k x) 13 k 1) 11 k (x_chP Z k x)) else si (si (sl Z 2 k x) 13 k 1) 11 k (-1)
def x_take (Z : Zt) (k : Nat) (x : Int64) : Zt := if xn Z 1 k = 2 then (x_takeC Z k x) else (si (x_with Z k x) 11 k (xi (x_with Z k x) 11 k + 1))
def x_result (Z : Zt) (k : Nat) : Int64 := if xn Z 1 k = 4 then (xl Z 2 k &&& 1) else (xl Z 2 k)

set_option maxHeartbeats 4000000 in
theorem c_Fun_begin0 (l : Launch) (G : Gt) (ad : Nat → Nat → Nat) (ow : Nat → Nat × Nat) (Z : Zt) (k : Nat) (hq : k < xn Z 0 2) (hk : xn Z 1 k = 0) (n : Nat) : Met l y_Fun_begin w_Fun_begin ({ frames := 0, cells := 0, slots := 0, locals := 0 }) (zPc G ad ow Z [.ref (ad 2 k), .int (nI n)]) (Qd G ad ow (x_begin0 Z k n) (none)) 0 0 (zA G) := by
  refine zopen (cc := b_Fun_begin) (maxL := 2) (ret := none) (by decide) rfl (Nat.le_of_ble_eq_true rfl) ?_
  intro p e s m below meth c ls hC hr hlk hnm hd hl
  have hC : Cx G p c m s _ "KeyGraph$Function" b_Fun_begin 2 := hC
  have hl : lv_has ls 2 [(0, .ref (ad 2 k)), (1, .int (nI n))] := hl
  have hx := hC.1
  have hb := hC.2.1
  refine lv_aload_n hx hb d_Fun_begin_0 rfl (lv_at hl 0 rfl) ?_
  refine lv_iload_n hx hb d_Fun_begin_1 rfl (lv_at hl 1 rfl) ?_
  refine zput (Z' := (si Z 10 k (nI n))) (v := .int (nI n)) hC hd (e_f0 hq hk) rfl i_Sum t_Sum t_Sum_ok n_Sum 0 (by decide) q_252 (Or.inl rfl) rfl rfl rfl (Nat.le_of_ble_eq_true rfl) (u_f0_many hq hk) d_Fun_begin_2 (fun H locs hd => ?_)
  refine lv_aload_n hx hb d_Fun_begin_5 rfl (lv_at hl 0 rfl) ?_
  refine lv_iconst (v := 0) hx hb d_Fun_begin_6 (by decide) ?_
  refine zput (Z' := (si (si Z 10 k (nI n)) 11 k 0)) (v := .int 0) hC hd (e_f0 hq hk) rfl i_Sum t_Sum t_Sum_ok n_Sum 1 (by decide) q_259 (Or.inl rfl) rfl rfl rfl (Nat.le_of_ble_eq_true rfl) (u_f0_place hq hk) d_Fun_begin_7 (fun H locs hd => ?_)
  refine lv_aload_n hx hb d_Fun_begin_10 rfl (lv_at hl 0 rfl) ?_
  refine lv_lconst (v := 0) hx hb d_Fun_begin_11 (by decide) ?_
  refine zput (Z' := (sl (si (si Z 10 k (nI n)) 11 k 0) 2 k 0)) (v := .long 0) hC hd (e_f0 hq hk) rfl i_Sum t_Sum t_Sum_ok n_Sum 2 (by decide) q_272 (Or.inl rfl) rfl rfl rfl (Nat.le_of_ble_eq_true rfl) (u_f0_fv hq hk) d_Fun_begin_12 (fun H locs hd => ?_)
  refine lv_aload_n hx hb d_Fun_begin_15 rfl (lv_at hl 0 rfl) ?_
  refine lv_iconst (v := 0) hx hb d_Fun_begin_16 (by decide) ?_
  refine zput (Z' := (si (sl (si (si Z 10 k (nI n)) 11 k 0) 2 k 0) 12 k 0)) (v := .int 0) hC hd (e_f0 hq hk) rfl i_Sum t_Sum t_Sum_ok n_Sum 3 (by decide) q_279 (Or.inl rfl) rfl (zbool (by decide)) (zboolf (by decide)) (Nat.le_of_ble_eq_true rfl) (u_f0_failed hq hk) d_Fun_begin_17 (fun H locs hd => ?_)
  exact zfv hC hd hr hlk d_Fun_begin_20 rfl
set_option maxHeartbeats 4000000 in
theorem c_Fun_begin1 (l : Launch) (G : Gt) (ad : Nat → Nat → Nat) (ow : Nat → Nat × Nat) (Z : Zt) (k : Nat) (hq : k < xn Z 0 2) (hk : xn Z 1 k = 1) (n : Nat) : Met l y_Fun_begin w_Fun_begin ({ frames := 0, cells := 0, slots := 0, locals := 0 }) (zPc G ad ow Z [.ref (ad 2 k), .int (nI n)]) (Qd G ad ow (x_begin0 Z k n) (none)) 0 0 (zA G) := by
  refine zopen (cc := b_Fun_begin) (maxL := 2) (ret := none) (by decide) rfl (Nat.le_of_ble_eq_true rfl) ?_
  intro p e s m below meth c ls hC hr hlk hnm hd hl
  have hC : Cx G p c m s _ "KeyGraph$Function" b_Fun_begin 2 := hC
  have hl : lv_has ls 2 [(0, .ref (ad 2 k)), (1, .int (nI n))] := hl
  have hx := hC.1
  have hb := hC.2.1
  refine lv_aload_n hx hb d_Fun_begin_0 rfl (lv_at hl 0 rfl) ?_
  refine lv_iload_n hx hb d_Fun_begin_1 rfl (lv_at hl 1 rfl) ?_
  refine zput (Z' := (si Z 10 k (nI n))) (v := .int (nI n)) hC hd (e_f1 hq hk) rfl i_First t_First t_First_ok n_First 0 (by decide) q_252 (Or.inl rfl) rfl rfl rfl (Nat.le_of_ble_eq_true rfl) (u_f1_many hq hk) d_Fun_begin_2 (fun H locs hd => ?_)
  refine lv_aload_n hx hb d_Fun_begin_5 rfl (lv_at hl 0 rfl) ?_
  refine lv_iconst (v := 0) hx hb d_Fun_begin_6 (by decide) ?_
  refine zput (Z' := (si (si Z 10 k (nI n)) 11 k 0)) (v := .int 0) hC hd (e_f1 hq hk) rfl i_First t_First t_First_ok n_First 1 (by decide) q_259 (Or.inl rfl) rfl rfl rfl (Nat.le_of_ble_eq_true rfl) (u_f1_place hq hk) d_Fun_begin_7 (fun H locs hd => ?_)
  refine lv_aload_n hx hb d_Fun_begin_10 rfl (lv_at hl 0 rfl) ?_
  refine lv_lconst (v := 0) hx hb d_Fun_begin_11 (by decide) ?_
  refine zput (Z' := (sl (si (si Z 10 k (nI n)) 11 k 0) 2 k 0)) (v := .long 0) hC hd (e_f1 hq hk) rfl i_First t_First t_First_ok n_First 2 (by decide) q_272 (Or.inl rfl) rfl rfl rfl (Nat.le_of_ble_eq_true rfl) (u_f1_fv hq hk) d_Fun_begin_12 (fun H locs hd => ?_)
  refine lv_aload_n hx hb d_Fun_begin_15 rfl (lv_at hl 0 rfl) ?_
  refine lv_iconst (v := 0) hx hb d_Fun_begin_16 (by decide) ?_
  refine zput (Z' := (si (sl (si (si Z 10 k (nI n)) 11 k 0) 2 k 0) 12 k 0)) (v := .int 0) hC hd (e_f1 hq hk) rfl i_First t_First t_First_ok n_First 3 (by decide) q_279 (Or.inl rfl) rfl (zbool (by decide)) (zboolf (by decide)) (Nat.le_of_ble_eq_true rfl) (u_f1_failed hq hk) d_Fun_begin_17 (fun H locs hd => ?_)
  exact zfv hC hd hr hlk d_Fun_begin_20 rfl
set_option maxHeartbeats 4000000 in
theorem c_Fun_begin2 (l : Launch) (G : Gt) (ad : Nat → Nat → Nat) (ow : Nat → Nat × Nat) (Z : Zt) (k : Nat) (hq : k < xn Z 0 2) (hk : xn Z 1 k = 2) (n : Nat) : Met l y_Fun_begin w_Fun_begin ({ frames := 0, cells := 0, slots := 0, locals := 0 }) (zPc G ad ow Z [.ref (ad 2 k), .int (nI n)]) (Qd G ad ow (x_begin0 Z k n) (none)) 0 0 (zA G) := by
  refine zopen (cc := b_Fun_begin) (maxL := 2) (ret := none) (by decide) rfl (Nat.le_of_ble_eq_true rfl) ?_
  intro p e s m below meth c ls hC hr hlk hnm hd hl
  have hC : Cx G p c m s _ "KeyGraph$Function" b_Fun_begin 2 := hC
  have hl : lv_has ls 2 [(0, .ref (ad 2 k)), (1, .int (nI n))] := hl
  have hx := hC.1
  have hb := hC.2.1
  refine lv_aload_n hx hb d_Fun_begin_0 rfl (lv_at hl 0 rfl) ?_
  refine lv_iload_n hx hb d_Fun_begin_1 rfl (lv_at hl 1 rfl) ?_
  refine zput (Z' := (si Z 10 k (nI n))) (v := .int (nI n)) hC hd (e_f2 hq hk) rfl i_Choice t_Choice t_Choice_ok n_Choice 0 (by decide) q_252 (Or.inl rfl) rfl rfl rfl (Nat.le_of_ble_eq_true rfl) (u_f2_many hq hk) d_Fun_begin_2 (fun H locs hd => ?_)
  refine lv_aload_n hx hb d_Fun_begin_5 rfl (lv_at hl 0 rfl) ?_
  refine lv_iconst (v := 0) hx hb d_Fun_begin_6 (by decide) ?_
  refine zput (Z' := (si (si Z 10 k (nI n)) 11 k 0)) (v := .int 0) hC hd (e_f2 hq hk) rfl i_Choice t_Choice t_Choice_ok n_Choice 1 (by decide) q_259 (Or.inl rfl) rfl rfl rfl (Nat.le_of_ble_eq_true rfl) (u_f2_place hq hk) d_Fun_begin_7 (fun H locs hd => ?_)
  refine lv_aload_n hx hb d_Fun_begin_10 rfl (lv_at hl 0 rfl) ?_
  refine lv_lconst (v := 0) hx hb d_Fun_begin_11 (by decide) ?_
  refine zput (Z' := (sl (si (si Z 10 k (nI n)) 11 k 0) 2 k 0)) (v := .long 0) hC hd (e_f2 hq hk) rfl i_Choice t_Choice t_Choice_ok n_Choice 2 (by decide) q_272 (Or.inl rfl) rfl rfl rfl (Nat.le_of_ble_eq_true rfl) (u_f2_fv hq hk) d_Fun_begin_12 (fun H locs hd => ?_)
  refine lv_aload_n hx hb d_Fun_begin_15 rfl (lv_at hl 0 rfl) ?_
  refine lv_iconst (v := 0) hx hb d_Fun_begin_16 (by decide) ?_
  refine zput (Z' := (si (sl (si (si Z 10 k (nI n)) 11 k 0) 2 k 0) 12 k 0)) (v := .int 0) hC hd (e_f2 hq hk) rfl i_Choice t_Choice t_Choice_ok n_Choice 3 (by decide) q_279 (Or.inl rfl) rfl (zbool (by decide)) (zboolf (by decide)) (Nat.le_of_ble_eq_true rfl) (u_f2_failed hq hk) d_Fun_begin_17 (fun H locs hd => ?_)
  exact zfv hC hd hr hlk d_Fun_begin_20 rfl
set_option maxHeartbeats 4000000 in
theorem c_Fun_begin3 (l : Launch) (G : Gt) (ad : Nat → Nat → Nat) (ow : Nat → Nat × Nat) (Z : Zt) (k : Nat) (hq : k < xn Z 0 2) (hk : xn Z 1 k = 3) (n : Nat) : Met l y_Fun_begin w_Fun_begin ({ frames := 0, cells := 0, slots := 0, locals := 0 }) (zPc G ad ow Z [.ref (ad 2 k), .int (nI n)]) (Qd G ad ow (x_begin0 Z k n) (none)) 0 0 (zA G) := by
  refine zopen (cc := b_Fun_begin) (maxL := 2) (ret := none) (by decide) rfl (Nat.le_of_ble_eq_true rfl) ?_
  intro p e s m below meth c ls hC hr hlk hnm hd hl
  have hC : Cx G p c m s _ "KeyGraph$Function" b_Fun_begin 2 := hC
  have hl : lv_has ls 2 [(0, .ref (ad 2 k)), (1, .int (nI n))] := hl
  have hx := hC.1
  have hb := hC.2.1
  refine lv_aload_n hx hb d_Fun_begin_0 rfl (lv_at hl 0 rfl) ?_
  refine lv_iload_n hx hb d_Fun_begin_1 rfl (lv_at hl 1 rfl) ?_
  refine zput (Z' := (si Z 10 k (nI n))) (v := .int (nI n)) hC hd (e_f3 hq hk) rfl i_Quot t_Quot t_Quot_ok n_Quot 0 (by decide) q_252 (Or.inl rfl) rfl rfl rfl (Nat.le_of_ble_eq_true rfl) (u_f3_many hq hk) d_Fun_begin_2 (fun H locs hd => ?_)
  refine lv_aload_n hx hb d_Fun_begin_5 rfl (lv_at hl 0 rfl) ?_
  refine lv_iconst (v := 0) hx hb d_Fun_begin_6 (by decide) ?_
  refine zput (Z' := (si (si Z 10 k (nI n)) 11 k 0)) (v := .int 0) hC hd (e_f3 hq hk) rfl i_Quot t_Quot t_Quot_ok n_Quot 1 (by decide) q_259 (Or.inl rfl) rfl rfl rfl (Nat.le_of_ble_eq_true rfl) (u_f3_place hq hk) d_Fun_begin_7 (fun H locs hd => ?_)
  refine lv_aload_n hx hb d_Fun_begin_10 rfl (lv_at hl 0 rfl) ?_
  refine lv_lconst (v := 0) hx hb d_Fun_begin_11 (by decide) ?_
  refine zput (Z' := (sl (si (si Z 10 k (nI n)) 11 k 0) 2 k 0)) (v := .long 0) hC hd (e_f3 hq hk) rfl i_Quot t_Quot t_Quot_ok n_Quot 2 (by decide) q_272 (Or.inl rfl) rfl rfl rfl (Nat.le_of_ble_eq_true rfl) (u_f3_fv hq hk) d_Fun_begin_12 (fun H locs hd => ?_)
  refine lv_aload_n hx hb d_Fun_begin_15 rfl (lv_at hl 0 rfl) ?_
  refine lv_iconst (v := 0) hx hb d_Fun_begin_16 (by decide) ?_
  refine zput (Z' := (si (sl (si (si Z 10 k (nI n)) 11 k 0) 2 k 0) 12 k 0)) (v := .int 0) hC hd (e_f3 hq hk) rfl i_Quot t_Quot t_Quot_ok n_Quot 3 (by decide) q_279 (Or.inl rfl) rfl (zbool (by decide)) (zboolf (by decide)) (Nat.le_of_ble_eq_true rfl) (u_f3_failed hq hk) d_Fun_begin_17 (fun H locs hd => ?_)
  exact zfv hC hd hr hlk d_Fun_begin_20 rfl
set_option maxHeartbeats 4000000 in
theorem c_Fun_begin4 (l : Launch) (G : Gt) (ad : Nat → Nat → Nat) (ow : Nat → Nat × Nat) (Z : Zt) (k : Nat) (hq : k < xn Z 0 2) (hk : xn Z 1 k = 4) (n : Nat) : Met l y_Fun_begin w_Fun_begin ({ frames := 0, cells := 0, slots := 0, locals := 0 }) (zPc G ad ow Z [.ref (ad 2 k), .int (nI n)]) (Qd G ad ow (x_begin0 Z k n) (none)) 0 0 (zA G) := by
  refine zopen (cc := b_Fun_begin) (maxL := 2) (ret := none) (by decide) rfl (Nat.le_of_ble_eq_true rfl) ?_
  intro p e s m below meth c ls hC hr hlk hnm hd hl
  have hC : Cx G p c m s _ "KeyGraph$Function" b_Fun_begin 2 := hC
  have hl : lv_has ls 2 [(0, .ref (ad 2 k)), (1, .int (nI n))] := hl
  have hx := hC.1
  have hb := hC.2.1
  refine lv_aload_n hx hb d_Fun_begin_0 rfl (lv_at hl 0 rfl) ?_
  refine lv_iload_n hx hb d_Fun_begin_1 rfl (lv_at hl 1 rfl) ?_
  refine zput (Z' := (si Z 10 k (nI n))) (v := .int (nI n)) hC hd (e_f4 hq hk) rfl i_Sum t_Sum t_Sum_ok n_Sum 0 (by decide) q_252 (Or.inl rfl) rfl rfl rfl (Nat.le_of_ble_eq_true rfl) (u_f4_many hq hk) d_Fun_begin_2 (fun H locs hd => ?_)
  refine lv_aload_n hx hb d_Fun_begin_5 rfl (lv_at hl 0 rfl) ?_
  refine lv_iconst (v := 0) hx hb d_Fun_begin_6 (by decide) ?_
  refine zput (Z' := (si (si Z 10 k (nI n)) 11 k 0)) (v := .int 0) hC hd (e_f4 hq hk) rfl i_Sum t_Sum t_Sum_ok n_Sum 1 (by decide) q_259 (Or.inl rfl) rfl rfl rfl (Nat.le_of_ble_eq_true rfl) (u_f4_place hq hk) d_Fun_begin_7 (fun H locs hd => ?_)
  refine lv_aload_n hx hb d_Fun_begin_10 rfl (lv_at hl 0 rfl) ?_
  refine lv_lconst (v := 0) hx hb d_Fun_begin_11 (by decide) ?_
  refine zput (Z' := (sl (si (si Z 10 k (nI n)) 11 k 0) 2 k 0)) (v := .long 0) hC hd (e_f4 hq hk) rfl i_Sum t_Sum t_Sum_ok n_Sum 2 (by decide) q_272 (Or.inl rfl) rfl rfl rfl (Nat.le_of_ble_eq_true rfl) (u_f4_fv hq hk) d_Fun_begin_12 (fun H locs hd => ?_)
  refine lv_aload_n hx hb d_Fun_begin_15 rfl (lv_at hl 0 rfl) ?_
  refine lv_iconst (v := 0) hx hb d_Fun_begin_16 (by decide) ?_
  refine zput (Z' := (si (sl (si (si Z 10 k (nI n)) 11 k 0) 2 k 0) 12 k 0)) (v := .int 0) hC hd (e_f4 hq hk) rfl i_Sum t_Sum t_Sum_ok n_Sum 3 (by decide) q_279 (Or.inl rfl) rfl (zbool (by decide)) (zboolf (by decide)) (Nat.le_of_ble_eq_true rfl) (u_f4_failed hq hk) d_Fun_begin_17 (fun H locs hd => ?_)
  exact zfv hC hd hr hlk d_Fun_begin_20 rfl
set_option maxHeartbeats 4000000 in
theorem c_Fun_begin5 (l : Launch) (G : Gt) (ad : Nat → Nat → Nat) (ow : Nat → Nat × Nat) (Z : Zt) (k : Nat) (hq : k < xn Z 0 2) (hk : xn Z 1 k = 5) (n : Nat) : Met l y_Fun_begin w_Fun_begin ({ frames := 0, cells := 0, slots := 0, locals := 0 }) (zPc G ad ow Z [.ref (ad 2 k), .int (nI n)]) (Qd G ad ow (x_begin0 Z k n) (none)) 0 0 (zA G) := by
  refine zopen (cc := b_Fun_begin) (maxL := 2) (ret := none) (by decide) rfl (Nat.le_of_ble_eq_true rfl) ?_
  intro p e s m below meth c ls hC hr hlk hnm hd hl
  have hC : Cx G p c m s _ "KeyGraph$Function" b_Fun_begin 2 := hC
  have hl : lv_has ls 2 [(0, .ref (ad 2 k)), (1, .int (nI n))] := hl
  have hx := hC.1
  have hb := hC.2.1
  refine lv_aload_n hx hb d_Fun_begin_0 rfl (lv_at hl 0 rfl) ?_
  refine lv_iload_n hx hb d_Fun_begin_1 rfl (lv_at hl 1 rfl) ?_
  refine zput (Z' := (si Z 10 k (nI n))) (v := .int (nI n)) hC hd (e_f5 hq hk) rfl i_Great t_Great t_Great_ok n_Great 0 (by decide) q_252 (Or.inl rfl) rfl rfl rfl (Nat.le_of_ble_eq_true rfl) (u_f5_many hq hk) d_Fun_begin_2 (fun H locs hd => ?_)
  refine lv_aload_n hx hb d_Fun_begin_5 rfl (lv_at hl 0 rfl) ?_
  refine lv_iconst (v := 0) hx hb d_Fun_begin_6 (by decide) ?_
  refine zput (Z' := (si (si Z 10 k (nI n)) 11 k 0)) (v := .int 0) hC hd (e_f5 hq hk) rfl i_Great t_Great t_Great_ok n_Great 1 (by decide) q_259 (Or.inl rfl) rfl rfl rfl (Nat.le_of_ble_eq_true rfl) (u_f5_place hq hk) d_Fun_begin_7 (fun H locs hd => ?_)
  refine lv_aload_n hx hb d_Fun_begin_10 rfl (lv_at hl 0 rfl) ?_
  refine lv_lconst (v := 0) hx hb d_Fun_begin_11 (by decide) ?_
  refine zput (Z' := (sl (si (si Z 10 k (nI n)) 11 k 0) 2 k 0)) (v := .long 0) hC hd (e_f5 hq hk) rfl i_Great t_Great t_Great_ok n_Great 2 (by decide) q_272 (Or.inl rfl) rfl rfl rfl (Nat.le_of_ble_eq_true rfl) (u_f5_fv hq hk) d_Fun_begin_12 (fun H locs hd => ?_)
  refine lv_aload_n hx hb d_Fun_begin_15 rfl (lv_at hl 0 rfl) ?_
  refine lv_iconst (v := 0) hx hb d_Fun_begin_16 (by decide) ?_
  refine zput (Z' := (si (sl (si (si Z 10 k (nI n)) 11 k 0) 2 k 0) 12 k 0)) (v := .int 0) hC hd (e_f5 hq hk) rfl i_Great t_Great t_Great_ok n_Great 3 (by decide) q_279 (Or.inl rfl) rfl (zbool (by decide)) (zboolf (by decide)) (Nat.le_of_ble_eq_true rfl) (u_f5_failed hq hk) d_Fun_begin_17 (fun H locs hd => ?_)
  exact zfv hC hd hr hlk d_Fun_begin_20 rfl
set_option maxHeartbeats 4000000 in
theorem c_Choice_begin (l : Launch) (G : Gt) (ad : Nat → Nat → Nat) (ow : Nat → Nat × Nat) (Z : Zt) (k : Nat) (hq : k < xn Z 0 2) (hk : xn Z 1 k = 2) (n : Nat) : Met l y_Choice_begin w_Choice_begin ({ frames := 1, cells := 0, slots := 0, locals := 21 }) (zPc G ad ow Z [.ref (ad 2 k), .int (nI n)]) (Qd G ad ow (x_begin Z k n) (none)) 0 0 (zA G) := by
  refine zopen (cc := b_Choice_begin) (maxL := 2) (ret := none) (by decide) rfl (Nat.le_of_ble_eq_true rfl) ?_
  intro p e s m below meth c ls hC hr hlk hnm hd hl
  have hC : Cx G p c m s _ "KeyGraph$Choice" b_Choice_begin 2 := hC
  have hl : lv_has ls 2 [(0, .ref (ad 2 k)), (1, .int (nI n))] := hl
  have hx := hC.1
  have hb := hC.2.1
  refine lv_aload_n hx hb d_Choice_begin_0 rfl (lv_at hl 0 rfl) ?_
  refine lv_iload_n hx hb d_Choice_begin_1 rfl (lv_at hl 1 rfl) ?_
  refine zb_v hd (zrunP (n := 1) (rest := []) hC hd (e_f2 hq hk) rfl (c_Fun_begin2 l G ad ow Z k hq hk n) q_435 q_431 q_317 q_430 q_12 q_443 rfl rfl rfl (by decide +kernel) ⟨by decide, by decide⟩ rfl hl.1 (Nat.le_of_ble_eq_true rfl) d_Choice_begin_2 ⟨by decide, by decide⟩) (fun H locs hd => ?_)
  refine lv_aload_n hx hb d_Choice_begin_5 rfl (lv_at hl 0 rfl) ?_
  refine lv_iconst (v := 0) hx hb d_Choice_begin_6 (by decide) ?_
  refine zput (Z' := (si (x_begin0 Z k n) 13 k 0)) (v := .int 0) hC hd (e_f2 hq hk) rfl i_Choice t_Choice t_Choice_ok n_Choice 4 (by decide) q_310 (Or.inl rfl) rfl (zbool (by decide)) (zboolf (by decide)) (Nat.le_of_ble_eq_true rfl) (u_f2_chosen hq hk) d_Choice_begin_7 (fun H locs hd => ?_)
  exact zfv hC hd hr hlk d_Choice_begin_10 (by unfold x_begin; rw [hk]; (repeat (first | (rw [if_pos]; rotate_left; first | assumption | decide) | (rw [if_neg]; rotate_left; first | assumption | decide))) <;> (try rfl))
set_option maxHeartbeats 4000000 in
theorem c_Great_begin (l : Launch) (G : Gt) (ad : Nat → Nat → Nat) (ow : Nat → Nat × Nat) (Z : Zt) (k : Nat) (hq : k < xn Z 0 2) (hk : xn Z 1 k = 5) (n : Nat) (hn : n ≤ 8) : Met l y_Great_begin w_Great_begin ({ frames := 1, cells := 0, slots := 0, locals := 21 }) (zPc G ad ow Z [.ref (ad 2 k), .int (nI n)]) (Qd G ad ow (x_begin Z k n) (none)) 0 0 (zA G) := by
  refine zopen (cc := b_Great_begin) (maxL := 2) (ret := none) (by decide) rfl (Nat.le_of_ble_eq_true rfl) ?_
  intro p e s m below meth c ls hC hr hlk hnm hd hl
  have hC : Cx G p c m s _ "KeyGraph$Greatest" b_Great_begin 2 := hC
  have hl : lv_has ls 2 [(0, .ref (ad 2 k)), (1, .int (nI n))] := hl
  have hx := hC.1
  have hb := hC.2.1
  refine lv_aload_n hx hb d_Great_begin_0 rfl (lv_at hl 0 rfl) ?_
  refine lv_iload_n hx hb d_Great_begin_1 rfl (lv_at hl 1 rfl) ?_
  refine zb_v hd (zrunP (n := 1) (rest := []) hC hd (e_f5 hq hk) rfl (c_Fun_begin5 l G ad ow Z k hq hk n) q_440 q_431 q_339 q_430 q_12 q_443 rfl rfl rfl (by decide +kernel) ⟨by decide, by decide⟩ rfl hl.1 (Nat.le_of_ble_eq_true rfl) d_Great_begin_2 ⟨by decide, by decide⟩) (fun H locs hd => ?_)
  refine lv_aload_n hx hb d_Great_begin_5 rfl (lv_at hl 0 rfl) ?_
  refine lv_iload_n hx hb d_Great_begin_6 rfl (lv_at hl 1 rfl) ?_
  refine zi_ne (x := n) (tgt := 14) (by omega) hx hb d_Great_begin_7 (by decide) (fun c7 => ?_) (fun c7 => ?_)
  · have c7' := zi_p c7
    refine lv_iconst (v := 0) hx hb d_Great_begin_14 (by decide) ?_
    refine zput (Z' := (si (x_begin0 Z k n) 12 k 0)) (v := .int 0) hC hd (e_f5 hq hk) rfl i_Great t_Great t_Great_ok n_Great 3 (by decide) q_277 (Or.inr q_278) rfl (zbool (by decide)) (zboolf (by decide)) (Nat.le_of_ble_eq_true rfl) (u_f5_failed hq hk) d_Great_begin_15 (fun H locs hd => ?_)
    exact zfv hC hd hr hlk d_Great_begin_18 (by unfold x_begin; rw [hk]; (repeat (first | (rw [if_pos]; rotate_left; first | assumption | decide) | (rw [if_neg]; rotate_left; first | assumption | decide))) <;> (try rfl))
  · have c7' := zi_z c7
    refine lv_iconst (v := 1) hx hb d_Great_begin_10 (by decide) ?_
    refine lv_goto (tgt := 15) hx hb d_Great_begin_11 (by decide) ?_
    refine zput (Z' := (si (x_begin0 Z k n) 12 k 1)) (v := .int 1) hC hd (e_f5 hq hk) rfl i_Great t_Great t_Great_ok n_Great 3 (by decide) q_277 (Or.inr q_278) rfl (zbool (by decide)) (zboolf (by decide)) (Nat.le_of_ble_eq_true rfl) (u_f5_failed hq hk) d_Great_begin_15 (fun H locs hd => ?_)
    exact zfv hC hd hr hlk d_Great_begin_18 (by unfold x_begin; rw [hk]; (repeat (first | (rw [if_pos]; rotate_left; first | assumption | decide) | (rw [if_neg]; rotate_left; first | assumption | decide))) <;> (try rfl))
set_option maxHeartbeats 4000000 in
theorem c_Fun_next0 (l : Launch) (G : Gt) (ad : Nat → Nat → Nat) (ow : Nat → Nat × Nat) (Z : Zt) (k : Nat) (hq : k < xn Z 0 2) (hk : xn Z 1 k = 0) : Met l y_Fun_next w_Fun_next ({ frames := 0, cells := 0, slots := 0, locals := 0 }) (zPc G ad ow Z [.ref (ad 2 k)]) (Qd G ad ow Z (some (.int (x_next Z k)))) 0 0 (zA G) := by
  refine zopen (cc := b_Fun_next) (maxL := 1) (ret := (some FieldType.int)) (by decide) rfl (Nat.le_of_ble_eq_true rfl) ?_
  intro p e s m below meth c ls hC hr hlk hnm hd hl
  have hC : Cx G p c m s _ "KeyGraph$Function" b_Fun_next 1 := hC
  have hl : lv_has ls 1 [(0, .ref (ad 2 k))] := hl
  have hx := hC.1
  have hb := hC.2.1
  refine lv_aload_n hx hb d_Fun_next_0 rfl (lv_at hl 0 rfl) ?_
  refine zget hC hd (e_f0 hq hk) rfl i_Sum 1 (by decide) q_259 (Or.inl rfl) (v := .int (xi Z 11 k)) rfl d_Fun_next_1 ?_
  refine lv_aload_n hx hb d_Fun_next_4 rfl (lv_at hl 0 rfl) ?_
  refine zget hC hd (e_f0 hq hk) rfl i_Sum 0 (by decide) q_252 (Or.inl rfl) (v := .int (xi Z 10 k)) rfl d_Fun_next_5 ?_
  refine lv_icmp_ge (tgt := 18) hx hb d_Fun_next_8 (by decide) (fun c8 => ?_) (fun c8 => ?_)
  · refine lv_iconst (v := (-1)) hx hb d_Fun_next_18 (by decide) ?_
    exact zfi hC hd hr hlk d_Fun_next_19 (by unfold x_next; rw [hk]; (repeat (first | (rw [if_pos]; rotate_left; first | assumption | decide) | (rw [if_neg]; rotate_left; first | assumption | decide))) <;> (try rfl)) rfl
  · refine lv_aload_n hx hb d_Fun_next_11 rfl (lv_at hl 0 rfl) ?_
    refine zget hC hd (e_f0 hq hk) rfl i_Sum 1 (by decide) q_259 (Or.inl rfl) (v := .int (xi Z 11 k)) rfl d_Fun_next_12 ?_
    refine lv_goto (tgt := 19) hx hb d_Fun_next_15 (by decide) ?_
    exact zfi hC hd hr hlk d_Fun_next_19 (by unfold x_next; rw [hk]; (repeat (first | (rw [if_pos]; rotate_left; first | assumption | decide) | (rw [if_neg]; rotate_left; first | assumption | decide))) <;> (try rfl)) rfl
set_option maxHeartbeats 4000000 in
theorem c_Fun_next1 (l : Launch) (G : Gt) (ad : Nat → Nat → Nat) (ow : Nat → Nat × Nat) (Z : Zt) (k : Nat) (hq : k < xn Z 0 2) (hk : xn Z 1 k = 1) : Met l y_Fun_next w_Fun_next ({ frames := 0, cells := 0, slots := 0, locals := 0 }) (zPc G ad ow Z [.ref (ad 2 k)]) (Qd G ad ow Z (some (.int (x_next Z k)))) 0 0 (zA G) := by
  refine zopen (cc := b_Fun_next) (maxL := 1) (ret := (some FieldType.int)) (by decide) rfl (Nat.le_of_ble_eq_true rfl) ?_
  intro p e s m below meth c ls hC hr hlk hnm hd hl
  have hC : Cx G p c m s _ "KeyGraph$Function" b_Fun_next 1 := hC
  have hl : lv_has ls 1 [(0, .ref (ad 2 k))] := hl
  have hx := hC.1
  have hb := hC.2.1
  refine lv_aload_n hx hb d_Fun_next_0 rfl (lv_at hl 0 rfl) ?_
  refine zget hC hd (e_f1 hq hk) rfl i_First 1 (by decide) q_259 (Or.inl rfl) (v := .int (xi Z 11 k)) rfl d_Fun_next_1 ?_
  refine lv_aload_n hx hb d_Fun_next_4 rfl (lv_at hl 0 rfl) ?_
  refine zget hC hd (e_f1 hq hk) rfl i_First 0 (by decide) q_252 (Or.inl rfl) (v := .int (xi Z 10 k)) rfl d_Fun_next_5 ?_
  refine lv_icmp_ge (tgt := 18) hx hb d_Fun_next_8 (by decide) (fun c8 => ?_) (fun c8 => ?_)
  · refine lv_iconst (v := (-1)) hx hb d_Fun_next_18 (by decide) ?_
    exact zfi hC hd hr hlk d_Fun_next_19 (by unfold x_next; rw [hk]; (repeat (first | (rw [if_pos]; rotate_left; first | assumption | decide) | (rw [if_neg]; rotate_left; first | assumption | decide))) <;> (try rfl)) rfl
  · refine lv_aload_n hx hb d_Fun_next_11 rfl (lv_at hl 0 rfl) ?_
    refine zget hC hd (e_f1 hq hk) rfl i_First 1 (by decide) q_259 (Or.inl rfl) (v := .int (xi Z 11 k)) rfl d_Fun_next_12 ?_
    refine lv_goto (tgt := 19) hx hb d_Fun_next_15 (by decide) ?_
    exact zfi hC hd hr hlk d_Fun_next_19 (by unfold x_next; rw [hk]; (repeat (first | (rw [if_pos]; rotate_left; first | assumption | decide) | (rw [if_neg]; rotate_left; first | assumption | decide))) <;> (try rfl)) rfl
set_option maxHeartbeats 4000000 in
theorem c_Fun_next3 (l : Launch) (G : Gt) (ad : Nat → Nat → Nat) (ow : Nat → Nat × Nat) (Z : Zt) (k : Nat) (hq : k < xn Z 0 2) (hk : xn Z 1 k = 3) : Met l y_Fun_next w_Fun_next ({ frames := 0, cells := 0, slots := 0, locals := 0 }) (zPc G ad ow Z [.ref (ad 2 k)]) (Qd G ad ow Z (some (.int (x_next Z k)))) 0 0 (zA G) := by
  refine zopen (cc := b_Fun_next) (maxL := 1) (ret := (some FieldType.int)) (by decide) rfl (Nat.le_of_ble_eq_true rfl) ?_
  intro p e s m below meth c ls hC hr hlk hnm hd hl
  have hC : Cx G p c m s _ "KeyGraph$Function" b_Fun_next 1 := hC
  have hl : lv_has ls 1 [(0, .ref (ad 2 k))] := hl
  have hx := hC.1
  have hb := hC.2.1
  refine lv_aload_n hx hb d_Fun_next_0 rfl (lv_at hl 0 rfl) ?_
  refine zget hC hd (e_f3 hq hk) rfl i_Quot 1 (by decide) q_259 (Or.inl rfl) (v := .int (xi Z 11 k)) rfl d_Fun_next_1 ?_
  refine lv_aload_n hx hb d_Fun_next_4 rfl (lv_at hl 0 rfl) ?_
  refine zget hC hd (e_f3 hq hk) rfl i_Quot 0 (by decide) q_252 (Or.inl rfl) (v := .int (xi Z 10 k)) rfl d_Fun_next_5 ?_
  refine lv_icmp_ge (tgt := 18) hx hb d_Fun_next_8 (by decide) (fun c8 => ?_) (fun c8 => ?_)
  · refine lv_iconst (v := (-1)) hx hb d_Fun_next_18 (by decide) ?_
    exact zfi hC hd hr hlk d_Fun_next_19 (by unfold x_next; rw [hk]; (repeat (first | (rw [if_pos]; rotate_left; first | assumption | decide) | (rw [if_neg]; rotate_left; first | assumption | decide))) <;> (try rfl)) rfl
  · refine lv_aload_n hx hb d_Fun_next_11 rfl (lv_at hl 0 rfl) ?_
    refine zget hC hd (e_f3 hq hk) rfl i_Quot 1 (by decide) q_259 (Or.inl rfl) (v := .int (xi Z 11 k)) rfl d_Fun_next_12 ?_
    refine lv_goto (tgt := 19) hx hb d_Fun_next_15 (by decide) ?_
    exact zfi hC hd hr hlk d_Fun_next_19 (by unfold x_next; rw [hk]; (repeat (first | (rw [if_pos]; rotate_left; first | assumption | decide) | (rw [if_neg]; rotate_left; first | assumption | decide))) <;> (try rfl)) rfl
set_option maxHeartbeats 4000000 in
theorem c_Fun_next4 (l : Launch) (G : Gt) (ad : Nat → Nat → Nat) (ow : Nat → Nat × Nat) (Z : Zt) (k : Nat) (hq : k < xn Z 0 2) (hk : xn Z 1 k = 4) : Met l y_Fun_next w_Fun_next ({ frames := 0, cells := 0, slots := 0, locals := 0 }) (zPc G ad ow Z [.ref (ad 2 k)]) (Qd G ad ow Z (some (.int (x_next Z k)))) 0 0 (zA G) := by
  refine zopen (cc := b_Fun_next) (maxL := 1) (ret := (some FieldType.int)) (by decide) rfl (Nat.le_of_ble_eq_true rfl) ?_
  intro p e s m below meth c ls hC hr hlk hnm hd hl
  have hC : Cx G p c m s _ "KeyGraph$Function" b_Fun_next 1 := hC
  have hl : lv_has ls 1 [(0, .ref (ad 2 k))] := hl
  have hx := hC.1
  have hb := hC.2.1
  refine lv_aload_n hx hb d_Fun_next_0 rfl (lv_at hl 0 rfl) ?_
  refine zget hC hd (e_f4 hq hk) rfl i_Sum 1 (by decide) q_259 (Or.inl rfl) (v := .int (xi Z 11 k)) rfl d_Fun_next_1 ?_
  refine lv_aload_n hx hb d_Fun_next_4 rfl (lv_at hl 0 rfl) ?_
  refine zget hC hd (e_f4 hq hk) rfl i_Sum 0 (by decide) q_252 (Or.inl rfl) (v := .int (xi Z 10 k)) rfl d_Fun_next_5 ?_
  refine lv_icmp_ge (tgt := 18) hx hb d_Fun_next_8 (by decide) (fun c8 => ?_) (fun c8 => ?_)
  · refine lv_iconst (v := (-1)) hx hb d_Fun_next_18 (by decide) ?_
    exact zfi hC hd hr hlk d_Fun_next_19 (by unfold x_next; rw [hk]; (repeat (first | (rw [if_pos]; rotate_left; first | assumption | decide) | (rw [if_neg]; rotate_left; first | assumption | decide))) <;> (try rfl)) rfl
  · refine lv_aload_n hx hb d_Fun_next_11 rfl (lv_at hl 0 rfl) ?_
    refine zget hC hd (e_f4 hq hk) rfl i_Sum 1 (by decide) q_259 (Or.inl rfl) (v := .int (xi Z 11 k)) rfl d_Fun_next_12 ?_
    refine lv_goto (tgt := 19) hx hb d_Fun_next_15 (by decide) ?_
    exact zfi hC hd hr hlk d_Fun_next_19 (by unfold x_next; rw [hk]; (repeat (first | (rw [if_pos]; rotate_left; first | assumption | decide) | (rw [if_neg]; rotate_left; first | assumption | decide))) <;> (try rfl)) rfl
set_option maxHeartbeats 4000000 in
theorem c_Fun_next5 (l : Launch) (G : Gt) (ad : Nat → Nat → Nat) (ow : Nat → Nat × Nat) (Z : Zt) (k : Nat) (hq : k < xn Z 0 2) (hk : xn Z 1 k = 5) : Met l y_Fun_next w_Fun_next ({ frames := 0, cells := 0, slots := 0, locals := 0 }) (zPc G ad ow Z [.ref (ad 2 k)]) (Qd G ad ow Z (some (.int (x_next Z k)))) 0 0 (zA G) := by
  refine zopen (cc := b_Fun_next) (maxL := 1) (ret := (some FieldType.int)) (by decide) rfl (Nat.le_of_ble_eq_true rfl) ?_
  intro p e s m below meth c ls hC hr hlk hnm hd hl
  have hC : Cx G p c m s _ "KeyGraph$Function" b_Fun_next 1 := hC
  have hl : lv_has ls 1 [(0, .ref (ad 2 k))] := hl
  have hx := hC.1
  have hb := hC.2.1
  refine lv_aload_n hx hb d_Fun_next_0 rfl (lv_at hl 0 rfl) ?_
  refine zget hC hd (e_f5 hq hk) rfl i_Great 1 (by decide) q_259 (Or.inl rfl) (v := .int (xi Z 11 k)) rfl d_Fun_next_1 ?_
  refine lv_aload_n hx hb d_Fun_next_4 rfl (lv_at hl 0 rfl) ?_
  refine zget hC hd (e_f5 hq hk) rfl i_Great 0 (by decide) q_252 (Or.inl rfl) (v := .int (xi Z 10 k)) rfl d_Fun_next_5 ?_
  refine lv_icmp_ge (tgt := 18) hx hb d_Fun_next_8 (by decide) (fun c8 => ?_) (fun c8 => ?_)
  · refine lv_iconst (v := (-1)) hx hb d_Fun_next_18 (by decide) ?_
    exact zfi hC hd hr hlk d_Fun_next_19 (by unfold x_next; rw [hk]; (repeat (first | (rw [if_pos]; rotate_left; first | assumption | decide) | (rw [if_neg]; rotate_left; first | assumption | decide))) <;> (try rfl)) rfl
  · refine lv_aload_n hx hb d_Fun_next_11 rfl (lv_at hl 0 rfl) ?_
    refine zget hC hd (e_f5 hq hk) rfl i_Great 1 (by decide) q_259 (Or.inl rfl) (v := .int (xi Z 11 k)) rfl d_Fun_next_12 ?_
    refine lv_goto (tgt := 19) hx hb d_Fun_next_15 (by decide) ?_
    exact zfi hC hd hr hlk d_Fun_next_19 (by unfold x_next; rw [hk]; (repeat (first | (rw [if_pos]; rotate_left; first | assumption | decide) | (rw [if_neg]; rotate_left; first | assumption | decide))) <;> (try rfl)) rfl
set_option maxHeartbeats 4000000 in
theorem c_Choice_next (l : Launch) (G : Gt) (ad : Nat → Nat → Nat) (ow : Nat → Nat × Nat) (Z : Zt) (k : Nat) (hq : k < xn Z 0 2) (hk : xn Z 1 k = 2) : Met l y_Choice_next w_Choice_next ({ frames := 0, cells := 0, slots := 0, locals := 0 }) (zPc G ad ow Z [.ref (ad 2 k)]) (Qd G ad ow Z (some (.int (x_next Z k)))) 0 0 (zA G) := by
  refine zopen (cc := b_Choice_next) (maxL := 1) (ret := (some FieldType.int)) (by decide) rfl (Nat.le_of_ble_eq_true rfl) ?_
  intro p e s m below meth c ls hC hr hlk hnm hd hl
  have hC : Cx G p c m s _ "KeyGraph$Choice" b_Choice_next 1 := hC
  have hl : lv_has ls 1 [(0, .ref (ad 2 k))] := hl
  have hx := hC.1
  have hb := hC.2.1
  refine lv_aload_n hx hb d_Choice_next_0 rfl (lv_at hl 0 rfl) ?_
  refine zget hC hd (e_f2 hq hk) rfl i_Choice 4 (by decide) q_310 (Or.inl rfl) (v := .int (xi Z 13 k)) rfl d_Choice_next_1 ?_
  refine lv_if_eq (tgt := 14) hx hb d_Choice_next_4 (by decide) (fun c4 => ?_) (fun c4 => ?_)
  · refine lv_aload_n hx hb d_Choice_next_14 rfl (lv_at hl 0 rfl) ?_
    refine zget hC hd (e_f2 hq hk) rfl i_Choice 0 (by decide) q_255 (Or.inr q_256) (v := .int (xi Z 10 k)) rfl d_Choice_next_15 ?_
    refine lv_if_le (tgt := 25) hx hb d_Choice_next_18 (by decide) (fun c18 => ?_) (fun c18 => ?_)
    · refine lv_iconst (v := (-1)) hx hb d_Choice_next_25 (by decide) ?_
      exact zfi hC hd hr hlk d_Choice_next_26 (by unfold x_next; rw [hk]; (repeat (first | (rw [if_pos]; rotate_left; first | assumption | decide) | (rw [if_neg]; rotate_left; first | assumption | decide))) <;> (try rfl)) rfl
    · refine lv_iconst (v := 0) hx hb d_Choice_next_21 (by decide) ?_
      refine lv_goto (tgt := 26) hx hb d_Choice_next_22 (by decide) ?_
      exact zfi hC hd hr hlk d_Choice_next_26 (by unfold x_next; rw [hk]; (repeat (first | (rw [if_pos]; rotate_left; first | assumption | decide) | (rw [if_neg]; rotate_left; first | assumption | decide))) <;> (try rfl)) rfl
  · refine lv_aload_n hx hb d_Choice_next_7 rfl (lv_at hl 0 rfl) ?_
    refine zget hC hd (e_f2 hq hk) rfl i_Choice 1 (by decide) q_264 (Or.inr q_265) (v := .int (xi Z 11 k)) rfl d_Choice_next_8 ?_
    refine lv_goto (tgt := 26) hx hb d_Choice_next_11 (by decide) ?_
    exact zfi hC hd hr hlk d_Choice_next_26 (by unfold x_next; rw [hk]; (repeat (first | (rw [if_pos]; rotate_left; first | assumption | decide) | (rw [if_neg]; rotate_left; first | assumption | decide))) <;> (try rfl)) rfl
set_option maxHeartbeats 4000000 in
theorem c_Fun_result1 (l : Launch) (G : Gt) (ad : Nat → Nat → Nat) (ow : Nat → Nat × Nat) (Z : Zt) (k : Nat) (hq : k < xn Z 0 2) (hk : xn Z 1 k = 1) : Met l y_Fun_result w_Fun_result ({ frames := 0, cells := 0, slots := 0, locals := 0 }) (zPc G ad ow Z [.ref (ad 2 k)]) (Qd G ad ow Z (some (.long (x_result Z k)))) 0 0 (zA G) := by
  refine zopen (cc := b_Fun_result) (maxL := 1) (ret := (some FieldType.long)) (by decide) rfl (Nat.le_of_ble_eq_true rfl) ?_
  intro p e s m below meth c ls hC hr hlk hnm hd hl
  have hC : Cx G p c m s _ "KeyGraph$Function" b_Fun_result 1 := hC
  have hl : lv_has ls 1 [(0, .ref (ad 2 k))] := hl
  have hx := hC.1
  have hb := hC.2.1
  refine lv_aload_n hx hb d_Fun_result_0 rfl (lv_at hl 0 rfl) ?_
  refine zget hC hd (e_f1 hq hk) rfl i_First 2 (by decide) q_272 (Or.inl rfl) (v := .long (xl Z 2 k)) rfl d_Fun_result_1 ?_
  exact zfl hC hd hr hlk d_Fun_result_4 (by unfold x_result; rw [hk]; (repeat (first | (rw [if_pos]; rotate_left; first | assumption | decide) | (rw [if_neg]; rotate_left; first | assumption | decide))) <;> (try rfl)) rfl
set_option maxHeartbeats 4000000 in
theorem c_Fun_result2 (l : Launch) (G : Gt) (ad : Nat → Nat → Nat) (ow : Nat → Nat × Nat) (Z : Zt) (k : Nat) (hq : k < xn Z 0 2) (hk : xn Z 1 k = 2) : Met l y_Fun_result w_Fun_result ({ frames := 0, cells := 0, slots := 0, locals := 0 }) (zPc G ad ow Z [.ref (ad 2 k)]) (Qd G ad ow Z (some (.long (x_result Z k)))) 0 0 (zA G) := by
  refine zopen (cc := b_Fun_result) (maxL := 1) (ret := (some FieldType.long)) (by decide) rfl (Nat.le_of_ble_eq_true rfl) ?_
  intro p e s m below meth c ls hC hr hlk hnm hd hl
  have hC : Cx G p c m s _ "KeyGraph$Function" b_Fun_result 1 := hC
  have hl : lv_has ls 1 [(0, .ref (ad 2 k))] := hl
  have hx := hC.1
  have hb := hC.2.1
  refine lv_aload_n hx hb d_Fun_result_0 rfl (lv_at hl 0 rfl) ?_
  refine zget hC hd (e_f2 hq hk) rfl i_Choice 2 (by decide) q_272 (Or.inl rfl) (v := .long (xl Z 2 k)) rfl d_Fun_result_1 ?_
  exact zfl hC hd hr hlk d_Fun_result_4 (by unfold x_result; rw [hk]; (repeat (first | (rw [if_pos]; rotate_left; first | assumption | decide) | (rw [if_neg]; rotate_left; first | assumption | decide))) <;> (try rfl)) rfl
set_option maxHeartbeats 4000000 in
theorem c_Fun_result3 (l : Launch) (G : Gt) (ad : Nat → Nat → Nat) (ow : Nat → Nat × Nat) (Z : Zt) (k : Nat) (hq : k < xn Z 0 2) (hk : xn Z 1 k = 3) : Met l y_Fun_result w_Fun_result ({ frames := 0, cells := 0, slots := 0, locals := 0 }) (zPc G ad ow Z [.ref (ad 2 k)]) (Qd G ad ow Z (some (.long (x_result Z k)))) 0 0 (zA G) := by
  refine zopen (cc := b_Fun_result) (maxL := 1) (ret := (some FieldType.long)) (by decide) rfl (Nat.le_of_ble_eq_true rfl) ?_
  intro p e s m below meth c ls hC hr hlk hnm hd hl
  have hC : Cx G p c m s _ "KeyGraph$Function" b_Fun_result 1 := hC
  have hl : lv_has ls 1 [(0, .ref (ad 2 k))] := hl
  have hx := hC.1
  have hb := hC.2.1
  refine lv_aload_n hx hb d_Fun_result_0 rfl (lv_at hl 0 rfl) ?_
  refine zget hC hd (e_f3 hq hk) rfl i_Quot 2 (by decide) q_272 (Or.inl rfl) (v := .long (xl Z 2 k)) rfl d_Fun_result_1 ?_
  exact zfl hC hd hr hlk d_Fun_result_4 (by unfold x_result; rw [hk]; (repeat (first | (rw [if_pos]; rotate_left; first | assumption | decide) | (rw [if_neg]; rotate_left; first | assumption | decide))) <;> (try rfl)) rfl
set_option maxHeartbeats 4000000 in
theorem c_Fun_result5 (l : Launch) (G : Gt) (ad : Nat → Nat → Nat) (ow : Nat → Nat × Nat) (Z : Zt) (k : Nat) (hq : k < xn Z 0 2) (hk : xn Z 1 k = 5) : Met l y_Fun_result w_Fun_result ({ frames := 0, cells := 0, slots := 0, locals := 0 }) (zPc G ad ow Z [.ref (ad 2 k)]) (Qd G ad ow Z (some (.long (x_result Z k)))) 0 0 (zA G) := by
  refine zopen (cc := b_Fun_result) (maxL := 1) (ret := (some FieldType.long)) (by decide) rfl (Nat.le_of_ble_eq_true rfl) ?_
  intro p e s m below meth c ls hC hr hlk hnm hd hl
  have hC : Cx G p c m s _ "KeyGraph$Function" b_Fun_result 1 := hC
  have hl : lv_has ls 1 [(0, .ref (ad 2 k))] := hl
  have hx := hC.1
  have hb := hC.2.1
  refine lv_aload_n hx hb d_Fun_result_0 rfl (lv_at hl 0 rfl) ?_
  refine zget hC hd (e_f5 hq hk) rfl i_Great 2 (by decide) q_272 (Or.inl rfl) (v := .long (xl Z 2 k)) rfl d_Fun_result_1 ?_
  exact zfl hC hd hr hlk d_Fun_result_4 (by unfold x_result; rw [hk]; (repeat (first | (rw [if_pos]; rotate_left; first | assumption | decide) | (rw [if_neg]; rotate_left; first | assumption | decide))) <;> (try rfl)) rfl
set_option maxHeartbeats 4000000 in
theorem c_Sum_result0 (l : Launch) (G : Gt) (ad : Nat → Nat → Nat) (ow : Nat → Nat × Nat) (Z : Zt) (k : Nat) (hq : k < xn Z 0 2) (hk : xn Z 1 k = 0) : Met l y_Sum_result w_Sum_result ({ frames := 0, cells := 0, slots := 0, locals := 0 }) (zPc G ad ow Z [.ref (ad 2 k)]) (Qd G ad ow Z (some (.long (x_result Z k)))) 0 0 (zA G) := by
  refine zopen (cc := b_Sum_result) (maxL := 1) (ret := (some FieldType.long)) (by decide) rfl (Nat.le_of_ble_eq_true rfl) ?_
  intro p e s m below meth c ls hC hr hlk hnm hd hl
  have hC : Cx G p c m s _ "KeyGraph$Sum" b_Sum_result 1 := hC
  have hl : lv_has ls 1 [(0, .ref (ad 2 k))] := hl
  have hx := hC.1
  have hb := hC.2.1
  refine lv_aload_n hx hb d_Sum_result_0 rfl (lv_at hl 0 rfl) ?_
  refine zget hC hd (e_f0 hq hk) rfl i_Sum 4 (by decide) q_251 (Or.inl rfl) (v := .int 0) rfl d_Sum_result_1 ?_
  refine lv_if_eq (tgt := 16) hx hb d_Sum_result_4 (by decide) (fun _ => ?_) (fun c => absurd c (by decide))
  refine lv_aload_n hx hb d_Sum_result_16 rfl (lv_at hl 0 rfl) ?_
  refine zget hC hd (e_f0 hq hk) rfl i_Sum 2 (by decide) q_268 (Or.inr q_269) (v := .long (xl Z 2 k)) rfl d_Sum_result_17 ?_
  exact zfl hC hd hr hlk d_Sum_result_20 (by unfold x_result; rw [hk]; (repeat (first | (rw [if_pos]; rotate_left; first | assumption | decide) | (rw [if_neg]; rotate_left; first | assumption | decide))) <;> (try rfl)) rfl
set_option maxHeartbeats 4000000 in
theorem c_Sum_result4 (l : Launch) (G : Gt) (ad : Nat → Nat → Nat) (ow : Nat → Nat × Nat) (Z : Zt) (k : Nat) (hq : k < xn Z 0 2) (hk : xn Z 1 k = 4) : Met l y_Sum_result w_Sum_result ({ frames := 0, cells := 0, slots := 0, locals := 0 }) (zPc G ad ow Z [.ref (ad 2 k)]) (Qd G ad ow Z (some (.long (x_result Z k)))) 0 0 (zA G) := by
  refine zopen (cc := b_Sum_result) (maxL := 1) (ret := (some FieldType.long)) (by decide) rfl (Nat.le_of_ble_eq_true rfl) ?_
  intro p e s m below meth c ls hC hr hlk hnm hd hl
  have hC : Cx G p c m s _ "KeyGraph$Sum" b_Sum_result 1 := hC
  have hl : lv_has ls 1 [(0, .ref (ad 2 k))] := hl
  have hx := hC.1
  have hb := hC.2.1
  refine lv_aload_n hx hb d_Sum_result_0 rfl (lv_at hl 0 rfl) ?_
  refine zget hC hd (e_f4 hq hk) rfl i_Sum 4 (by decide) q_251 (Or.inl rfl) (v := .int 1) rfl d_Sum_result_1 ?_
  refine lv_if_eq (tgt := 16) hx hb d_Sum_result_4 (by decide) (fun c => absurd c (by decide)) (fun _ => ?_)
  refine lv_aload_n hx hb d_Sum_result_7 rfl (lv_at hl 0 rfl) ?_
  refine zget hC hd (e_f4 hq hk) rfl i_Sum 2 (by decide) q_268 (Or.inr q_269) (v := .long (xl Z 2 k)) rfl d_Sum_result_8 ?_
  refine lv_lconst (v := 1) hx hb d_Sum_result_11 (by decide) ?_
  refine lv_land hx hb d_Sum_result_12 ?_
  refine lv_goto (tgt := 20) hx hb d_Sum_result_13 (by decide) ?_
  exact zfl hC hd hr hlk d_Sum_result_20 (by unfold x_result; rw [hk]; (repeat (first | (rw [if_pos]; rotate_left; first | assumption | decide) | (rw [if_neg]; rotate_left; first | assumption | decide))) <;> (try rfl)) rfl
set_option maxHeartbeats 4000000 in
theorem c_Fun_fails0 (l : Launch) (G : Gt) (ad : Nat → Nat → Nat) (ow : Nat → Nat × Nat) (Z : Zt) (k : Nat) (hq : k < xn Z 0 2) (hk : xn Z 1 k = 0) (hfb : xi Z 12 k = 0 ∨ xi Z 12 k = 1) : Met l y_Fun_fails w_Fun_fails ({ frames := 0, cells := 0, slots := 0, locals := 0 }) (zPc G ad ow Z [.ref (ad 2 k)]) (Qd G ad ow Z (some (.int (xi Z 12 k)))) 0 0 (zA G) := by
  refine zopen (cc := b_Fun_fails) (maxL := 1) (ret := (some FieldType.boolean)) (by decide) rfl (Nat.le_of_ble_eq_true rfl) ?_
  intro p e s m below meth c ls hC hr hlk hnm hd hl
  have hC : Cx G p c m s _ "KeyGraph$Function" b_Fun_fails 1 := hC
  have hl : lv_has ls 1 [(0, .ref (ad 2 k))] := hl
  have hx := hC.1
  have hb := hC.2.1
  refine lv_aload_n hx hb d_Fun_fails_0 rfl (lv_at hl 0 rfl) ?_
  refine zget hC hd (e_f0 hq hk) rfl i_Sum 3 (by decide) q_279 (Or.inl rfl) (v := .int (xi Z 12 k)) rfl d_Fun_fails_1 ?_
  exact zfz hC hd hr hlk d_Fun_fails_4 hfb rfl rfl
set_option maxHeartbeats 4000000 in
theorem c_Fun_fails1 (l : Launch) (G : Gt) (ad : Nat → Nat → Nat) (ow : Nat → Nat × Nat) (Z : Zt) (k : Nat) (hq : k < xn Z 0 2) (hk : xn Z 1 k = 1) (hfb : xi Z 12 k = 0 ∨ xi Z 12 k = 1) : Met l y_Fun_fails w_Fun_fails ({ frames := 0, cells := 0, slots := 0, locals := 0 }) (zPc G ad ow Z [.ref (ad 2 k)]) (Qd G ad ow Z (some (.int (xi Z 12 k)))) 0 0 (zA G) := by
  refine zopen (cc := b_Fun_fails) (maxL := 1) (ret := (some FieldType.boolean)) (by decide) rfl (Nat.le_of_ble_eq_true rfl) ?_
  intro p e s m below meth c ls hC hr hlk hnm hd hl
  have hC : Cx G p c m s _ "KeyGraph$Function" b_Fun_fails 1 := hC
  have hl : lv_has ls 1 [(0, .ref (ad 2 k))] := hl
  have hx := hC.1
  have hb := hC.2.1
  refine lv_aload_n hx hb d_Fun_fails_0 rfl (lv_at hl 0 rfl) ?_
  refine zget hC hd (e_f1 hq hk) rfl i_First 3 (by decide) q_279 (Or.inl rfl) (v := .int (xi Z 12 k)) rfl d_Fun_fails_1 ?_
  exact zfz hC hd hr hlk d_Fun_fails_4 hfb rfl rfl
set_option maxHeartbeats 4000000 in
theorem c_Fun_fails2 (l : Launch) (G : Gt) (ad : Nat → Nat → Nat) (ow : Nat → Nat × Nat) (Z : Zt) (k : Nat) (hq : k < xn Z 0 2) (hk : xn Z 1 k = 2) (hfb : xi Z 12 k = 0 ∨ xi Z 12 k = 1) : Met l y_Fun_fails w_Fun_fails ({ frames := 0, cells := 0, slots := 0, locals := 0 }) (zPc G ad ow Z [.ref (ad 2 k)]) (Qd G ad ow Z (some (.int (xi Z 12 k)))) 0 0 (zA G) := by
  refine zopen (cc := b_Fun_fails) (maxL := 1) (ret := (some FieldType.boolean)) (by decide) rfl (Nat.le_of_ble_eq_true rfl) ?_
  intro p e s m below meth c ls hC hr hlk hnm hd hl
  have hC : Cx G p c m s _ "KeyGraph$Function" b_Fun_fails 1 := hC
  have hl : lv_has ls 1 [(0, .ref (ad 2 k))] := hl
  have hx := hC.1
  have hb := hC.2.1
  refine lv_aload_n hx hb d_Fun_fails_0 rfl (lv_at hl 0 rfl) ?_
  refine zget hC hd (e_f2 hq hk) rfl i_Choice 3 (by decide) q_279 (Or.inl rfl) (v := .int (xi Z 12 k)) rfl d_Fun_fails_1 ?_
  exact zfz hC hd hr hlk d_Fun_fails_4 hfb rfl rfl
set_option maxHeartbeats 4000000 in
theorem c_Fun_fails3 (l : Launch) (G : Gt) (ad : Nat → Nat → Nat) (ow : Nat → Nat × Nat) (Z : Zt) (k : Nat) (hq : k < xn Z 0 2) (hk : xn Z 1 k = 3) (hfb : xi Z 12 k = 0 ∨ xi Z 12 k = 1) : Met l y_Fun_fails w_Fun_fails ({ frames := 0, cells := 0, slots := 0, locals := 0 }) (zPc G ad ow Z [.ref (ad 2 k)]) (Qd G ad ow Z (some (.int (xi Z 12 k)))) 0 0 (zA G) := by
  refine zopen (cc := b_Fun_fails) (maxL := 1) (ret := (some FieldType.boolean)) (by decide) rfl (Nat.le_of_ble_eq_true rfl) ?_
  intro p e s m below meth c ls hC hr hlk hnm hd hl
  have hC : Cx G p c m s _ "KeyGraph$Function" b_Fun_fails 1 := hC
  have hl : lv_has ls 1 [(0, .ref (ad 2 k))] := hl
  have hx := hC.1
  have hb := hC.2.1
  refine lv_aload_n hx hb d_Fun_fails_0 rfl (lv_at hl 0 rfl) ?_
  refine zget hC hd (e_f3 hq hk) rfl i_Quot 3 (by decide) q_279 (Or.inl rfl) (v := .int (xi Z 12 k)) rfl d_Fun_fails_1 ?_
  exact zfz hC hd hr hlk d_Fun_fails_4 hfb rfl rfl
set_option maxHeartbeats 4000000 in
theorem c_Fun_fails4 (l : Launch) (G : Gt) (ad : Nat → Nat → Nat) (ow : Nat → Nat × Nat) (Z : Zt) (k : Nat) (hq : k < xn Z 0 2) (hk : xn Z 1 k = 4) (hfb : xi Z 12 k = 0 ∨ xi Z 12 k = 1) : Met l y_Fun_fails w_Fun_fails ({ frames := 0, cells := 0, slots := 0, locals := 0 }) (zPc G ad ow Z [.ref (ad 2 k)]) (Qd G ad ow Z (some (.int (xi Z 12 k)))) 0 0 (zA G) := by
  refine zopen (cc := b_Fun_fails) (maxL := 1) (ret := (some FieldType.boolean)) (by decide) rfl (Nat.le_of_ble_eq_true rfl) ?_
  intro p e s m below meth c ls hC hr hlk hnm hd hl
  have hC : Cx G p c m s _ "KeyGraph$Function" b_Fun_fails 1 := hC
  have hl : lv_has ls 1 [(0, .ref (ad 2 k))] := hl
  have hx := hC.1
  have hb := hC.2.1
  refine lv_aload_n hx hb d_Fun_fails_0 rfl (lv_at hl 0 rfl) ?_
  refine zget hC hd (e_f4 hq hk) rfl i_Sum 3 (by decide) q_279 (Or.inl rfl) (v := .int (xi Z 12 k)) rfl d_Fun_fails_1 ?_
  exact zfz hC hd hr hlk d_Fun_fails_4 hfb rfl rfl
set_option maxHeartbeats 4000000 in
theorem c_Fun_fails5 (l : Launch) (G : Gt) (ad : Nat → Nat → Nat) (ow : Nat → Nat × Nat) (Z : Zt) (k : Nat) (hq : k < xn Z 0 2) (hk : xn Z 1 k = 5) (hfb : xi Z 12 k = 0 ∨ xi Z 12 k = 1) : Met l y_Fun_fails w_Fun_fails ({ frames := 0, cells := 0, slots := 0, locals := 0 }) (zPc G ad ow Z [.ref (ad 2 k)]) (Qd G ad ow Z (some (.int (xi Z 12 k)))) 0 0 (zA G) := by
  refine zopen (cc := b_Fun_fails) (maxL := 1) (ret := (some FieldType.boolean)) (by decide) rfl (Nat.le_of_ble_eq_true rfl) ?_
  intro p e s m below meth c ls hC hr hlk hnm hd hl
  have hC : Cx G p c m s _ "KeyGraph$Function" b_Fun_fails 1 := hC
  have hl : lv_has ls 1 [(0, .ref (ad 2 k))] := hl
  have hx := hC.1
  have hb := hC.2.1
  refine lv_aload_n hx hb d_Fun_fails_0 rfl (lv_at hl 0 rfl) ?_
  refine zget hC hd (e_f5 hq hk) rfl i_Great 3 (by decide) q_279 (Or.inl rfl) (v := .int (xi Z 12 k)) rfl d_Fun_fails_1 ?_
  exact zfz hC hd hr hlk d_Fun_fails_4 hfb rfl rfl
set_option maxHeartbeats 4000000 in
theorem c_Sum_with0 (l : Launch) (G : Gt) (ad : Nat → Nat → Nat) (ow : Nat → Nat × Nat) (Z : Zt) (k : Nat) (hq : k < xn Z 0 2) (hk : xn Z 1 k = 0) (x : Int64) : Met l y_Sum_with w_Sum_with ({ frames := 0, cells := 0, slots := 0, locals := 0 }) (zPc G ad ow Z [.ref (ad 2 k), .long x]) (Qd G ad ow (x_with Z k x) (none)) 0 0 (zA G) := by
  refine zopen (cc := b_Sum_with) (maxL := 3) (ret := none) (by decide) rfl (Nat.le_of_ble_eq_true rfl) ?_
  intro p e s m below meth c ls hC hr hlk hnm hd hl
  have hC : Cx G p c m s _ "KeyGraph$Sum" b_Sum_with 3 := hC
  have hl : lv_has ls 3 [(0, .ref (ad 2 k)), (1, .long x)] := hl
  have hx := hC.1
  have hb := hC.2.1
  refine lv_aload_n hx hb d_Sum_with_0 rfl (lv_at hl 0 rfl) ?_
  refine lv_dup hx hb d_Sum_with_1 rfl ?_
  refine zget hC hd (e_f0 hq hk) rfl i_Sum 2 (by decide) q_268 (Or.inr q_269) (v := .long (xl Z 2 k)) rfl d_Sum_with_2 ?_
  refine lv_lload_n hx hb d_Sum_with_5 rfl (lv_at hl 1 rfl) ?_
  refine lv_ladd hx hb d_Sum_with_6 ?_
  refine zput (Z' := (sl Z 2 k ((xl Z 2 k) + x))) (v := .long ((xl Z 2 k) + x)) hC hd (e_f0 hq hk) rfl i_Sum t_Sum t_Sum_ok n_Sum 2 (by decide) q_268 (Or.inr q_269) rfl rfl rfl (Nat.le_of_ble_eq_true rfl) (u_f0_fv hq hk) d_Sum_with_7 (fun H locs hd => ?_)
  exact zfv hC hd hr hlk d_Sum_with_10 (by unfold x_with; rw [hk]; (repeat (first | (rw [if_pos]; rotate_left; first | assumption | decide) | (rw [if_neg]; rotate_left; first | assumption | decide))) <;> (try rfl))
set_option maxHeartbeats 4000000 in
theorem c_Sum_with4 (l : Launch) (G : Gt) (ad : Nat → Nat → Nat) (ow : Nat → Nat × Nat) (Z : Zt) (k : Nat) (hq : k < xn Z 0 2) (hk : xn Z 1 k = 4) (x : Int64) : Met l y_Sum_with w_Sum_with ({ frames := 0, cells := 0, slots := 0, locals := 0 }) (zPc G ad ow Z [.ref (ad 2 k), .long x]) (Qd G ad ow (x_with Z k x) (none)) 0 0 (zA G) := by
  refine zopen (cc := b_Sum_with) (maxL := 3) (ret := none) (by decide) rfl (Nat.le_of_ble_eq_true rfl) ?_
  intro p e s m below meth c ls hC hr hlk hnm hd hl
  have hC : Cx G p c m s _ "KeyGraph$Sum" b_Sum_with 3 := hC
  have hl : lv_has ls 3 [(0, .ref (ad 2 k)), (1, .long x)] := hl
  have hx := hC.1
  have hb := hC.2.1
  refine lv_aload_n hx hb d_Sum_with_0 rfl (lv_at hl 0 rfl) ?_
  refine lv_dup hx hb d_Sum_with_1 rfl ?_
  refine zget hC hd (e_f4 hq hk) rfl i_Sum 2 (by decide) q_268 (Or.inr q_269) (v := .long (xl Z 2 k)) rfl d_Sum_with_2 ?_
  refine lv_lload_n hx hb d_Sum_with_5 rfl (lv_at hl 1 rfl) ?_
  refine lv_ladd hx hb d_Sum_with_6 ?_
  refine zput (Z' := (sl Z 2 k ((xl Z 2 k) + x))) (v := .long ((xl Z 2 k) + x)) hC hd (e_f4 hq hk) rfl i_Sum t_Sum t_Sum_ok n_Sum 2 (by decide) q_268 (Or.inr q_269) rfl rfl rfl (Nat.le_of_ble_eq_true rfl) (u_f4_fv hq hk) d_Sum_with_7 (fun H locs hd => ?_)
  exact zfv hC hd hr hlk d_Sum_with_10 (by unfold x_with; rw [hk]; (repeat (first | (rw [if_pos]; rotate_left; first | assumption | decide) | (rw [if_neg]; rotate_left; first | assumption | decide))) <;> (try rfl))
set_option maxHeartbeats 4000000 in
theorem c_First_with (l : Launch) (G : Gt) (ad : Nat → Nat → Nat) (ow : Nat → Nat × Nat) (Z : Zt) (k : Nat) (hq : k < xn Z 0 2) (hk : xn Z 1 k = 1) (x : Int64) : Met l y_First_with w_First_with ({ frames := 0, cells := 0, slots := 0, locals := 0 }) (zPc G ad ow Z [.ref (ad 2 k), .long x]) (Qd G ad ow (x_with Z k x) (none)) 0 0 (zA G) := by
  refine zopen (cc := b_First_with) (maxL := 3) (ret := none) (by decide) rfl (Nat.le_of_ble_eq_true rfl) ?_
  intro p e s m below meth c ls hC hr hlk hnm hd hl
  have hC : Cx G p c m s _ "KeyGraph$First" b_First_with 3 := hC
  have hl : lv_has ls 3 [(0, .ref (ad 2 k)), (1, .long x)] := hl
  have hx := hC.1
  have hb := hC.2.1
  refine lv_aload_n hx hb d_First_with_0 rfl (lv_at hl 0 rfl) ?_
  refine lv_lload_n hx hb d_First_with_1 rfl (lv_at hl 1 rfl) ?_
  refine zput (Z' := (sl Z 2 k x)) (v := .long x) hC hd (e_f1 hq hk) rfl i_First t_First t_First_ok n_First 2 (by decide) q_266 (Or.inr q_267) rfl rfl rfl (Nat.le_of_ble_eq_true rfl) (u_f1_fv hq hk) d_First_with_2 (fun H locs hd => ?_)
  refine lv_lload_n hx hb d_First_with_5 rfl (lv_at hl 1 rfl) ?_
  refine lv_lconst (v := 0) hx hb d_First_with_6 (by decide) ?_
  refine W.lcmp hx hb d_First_with_7 ?_
  refine lv_if_eq (tgt := 19) hx hb d_First_with_8 (by decide) (fun c8 => ?_) (fun c8 => ?_)
  · simp only [ne_eq, lg_cmp_eq, lg_cmp_le, lg_cmp_lt, lg_cmp_ge, lg_cmp_gt] at c8
    exact zfv hC hd hr hlk d_First_with_19 (by unfold x_with; rw [hk]; (repeat (first | (rw [if_pos]; rotate_left; first | assumption | decide) | (rw [if_neg]; rotate_left; first | assumption | decide))) <;> (try rfl))
  · simp only [ne_eq, lg_cmp_eq, lg_cmp_le, lg_cmp_lt, lg_cmp_ge, lg_cmp_gt] at c8
    refine lv_aload_n hx hb d_First_with_11 rfl (lv_at hl 0 rfl) ?_
    refine lv_aload_n hx hb d_First_with_12 rfl (lv_at hl 0 rfl) ?_
    refine zget hC hd (e_f1 hq hk) rfl i_First 1 (by decide) q_260 (Or.inr q_261) (v := .int (xi Z 11 k)) rfl d_First_with_13 ?_
    refine zput (Z' := (si (sl Z 2 k x) 10 k (xi Z 11 k))) (v := .int (xi Z 11 k)) hC hd (e_f1 hq hk) rfl i_First t_First t_First_ok n_First 0 (by decide) q_253 (Or.inr q_254) rfl rfl rfl (Nat.le_of_ble_eq_true rfl) (u_f1_many hq hk) d_First_with_16 (fun H locs hd => ?_)
    exact zfv hC hd hr hlk d_First_with_19 (by unfold x_with; rw [hk]; (repeat (first | (rw [if_pos]; rotate_left; first | assumption | decide) | (rw [if_neg]; rotate_left; first | assumption | decide))) <;> (try rfl))
set_option maxHeartbeats 4000000 in
theorem c_Choice_with (l : Launch) (G : Gt) (ad : Nat → Nat → Nat) (ow : Nat → Nat × Nat) (Z : Zt) (k : Nat) (hq : k < xn Z 0 2) (hk : xn Z 1 k = 2) (x : Int64) : Met l y_Choice_with w_Choice_with ({ frames := 0, cells := 0, slots := 0, locals := 0 }) (zPc G ad ow Z [.ref (ad 2 k), .long x]) (Qd G ad ow (x_with Z k x) (none)) 0 0 (zA G) := by
  refine zopen (cc := b_Choice_with) (maxL := 3) (ret := none) (by decide) rfl (Nat.le_of_ble_eq_true rfl) ?_
  intro p e s m below meth c ls hC hr hlk hnm hd hl
  have hC : Cx G p c m s _ "KeyGraph$Choice" b_Choice_with 3 := hC
  have hl : lv_has ls 3 [(0, .ref (ad 2 k)), (1, .long x)] := hl
  have hx := hC.1
  have hb := hC.2.1
  refine lv_aload_n hx hb d_Choice_with_0 rfl (lv_at hl 0 rfl) ?_
  refine lv_lload_n hx hb d_Choice_with_1 rfl (lv_at hl 1 rfl) ?_
  refine zput (Z' := (sl Z 2 k x)) (v := .long x) hC hd (e_f2 hq hk) rfl i_Choice t_Choice t_Choice_ok n_Choice 2 (by decide) q_275 (Or.inr q_276) rfl rfl rfl (Nat.le_of_ble_eq_true rfl) (u_f2_fv hq hk) d_Choice_with_2 (fun H locs hd => ?_)
  exact zfv hC hd hr hlk d_Choice_with_5 (by unfold x_with; rw [hk]; (repeat (first | (rw [if_pos]; rotate_left; first | assumption | decide) | (rw [if_neg]; rotate_left; first | assumption | decide))) <;> (try rfl))
set_option maxHeartbeats 4000000 in
theorem c_Great_with (l : Launch) (G : Gt) (ad : Nat → Nat → Nat) (ow : Nat → Nat × Nat) (Z : Zt) (k : Nat) (hq : k < xn Z 0 2) (hk : xn Z 1 k = 5) (x : Int64) : Met l y_Great_with w_Great_with ({ frames := 0, cells := 0, slots := 0, locals := 0 }) (zPc G ad ow Z [.ref (ad 2 k), .long x]) (Qd G ad ow (x_with Z k x) (none)) 0 0 (zA G) := by
  refine zopen (cc := b_Great_with) (maxL := 3) (ret := none) (by decide) rfl (Nat.le_of_ble_eq_true rfl) ?_
  intro p e s m below meth c ls hC hr hlk hnm hd hl
  have hC : Cx G p c m s _ "KeyGraph$Greatest" b_Great_with 3 := hC
  have hl : lv_has ls 3 [(0, .ref (ad 2 k)), (1, .long x)] := hl
  have hx := hC.1
  have hb := hC.2.1
  refine lv_aload_n hx hb d_Great_with_0 rfl (lv_at hl 0 rfl) ?_
  refine lv_aload_n hx hb d_Great_with_1 rfl (lv_at hl 0 rfl) ?_
  refine zget hC hd (e_f5 hq hk) rfl i_Great 1 (by decide) q_262 (Or.inr q_263) (v := .int (xi Z 11 k)) rfl d_Great_with_2 ?_
  refine lv_if_eq (tgt := 17) hx hb d_Great_with_5 (by decide) (fun c5 => ?_) (fun c5 => ?_)
  · refine lv_lload_n hx hb d_Great_with_17 rfl (lv_at hl 1 rfl) ?_
    refine lv_goto (tgt := 25) hx hb d_Great_with_18 (by decide) ?_
    refine zput (Z' := (sl Z 2 k x)) (v := .long x) hC hd (e_f5 hq hk) rfl i_Great t_Great t_Great_ok n_Great 2 (by decide) q_273 (Or.inr q_274) rfl rfl rfl (Nat.le_of_ble_eq_true rfl) (u_f5_fv hq hk) d_Great_with_25 (fun H locs hd => ?_)
    exact zfv hC hd hr hlk d_Great_with_28 (by unfold x_with; rw [hk]; (repeat (first | (rw [if_pos]; rotate_left; first | assumption | decide) | (rw [if_neg]; rotate_left; first | assumption | decide))) <;> (try rfl))
  · refine lv_lload_n hx hb d_Great_with_8 rfl (lv_at hl 1 rfl) ?_
    refine lv_aload_n hx hb d_Great_with_9 rfl (lv_at hl 0 rfl) ?_
    refine zget hC hd (e_f5 hq hk) rfl i_Great 2 (by decide) q_273 (Or.inr q_274) (v := .long (xl Z 2 k)) rfl d_Great_with_10 ?_
    refine W.lcmp hx hb d_Great_with_13 ?_
    refine lv_if_le (tgt := 21) hx hb d_Great_with_14 (by decide) (fun c14 => ?_) (fun c14 => ?_)
    · simp only [ne_eq, lg_cmp_eq, lg_cmp_le, lg_cmp_lt, lg_cmp_ge, lg_cmp_gt] at c14
      refine lv_aload_n hx hb d_Great_with_21 rfl (lv_at hl 0 rfl) ?_
      refine zget hC hd (e_f5 hq hk) rfl i_Great 2 (by decide) q_273 (Or.inr q_274) (v := .long (xl Z 2 k)) rfl d_Great_with_22 ?_
      refine zput (Z' := (sl Z 2 k (xl Z 2 k))) (v := .long (xl Z 2 k)) hC hd (e_f5 hq hk) rfl i_Great t_Great t_Great_ok n_Great 2 (by decide) q_273 (Or.inr q_274) rfl rfl rfl (Nat.le_of_ble_eq_true rfl) (u_f5_fv hq hk) d_Great_with_25 (fun H locs hd => ?_)
      exact zfv hC hd hr hlk d_Great_with_28 (by unfold x_with; rw [hk]; (repeat (first | (rw [if_pos]; rotate_left; first | assumption | decide) | (rw [if_neg]; rotate_left; first | assumption | decide))) <;> (try rfl))
    · simp only [ne_eq, lg_cmp_eq, lg_cmp_le, lg_cmp_lt, lg_cmp_ge, lg_cmp_gt] at c14
      refine lv_lload_n hx hb d_Great_with_17 rfl (lv_at hl 1 rfl) ?_
      refine lv_goto (tgt := 25) hx hb d_Great_with_18 (by decide) ?_
      refine zput (Z' := (sl Z 2 k x)) (v := .long x) hC hd (e_f5 hq hk) rfl i_Great t_Great t_Great_ok n_Great 2 (by decide) q_273 (Or.inr q_274) rfl rfl rfl (Nat.le_of_ble_eq_true rfl) (u_f5_fv hq hk) d_Great_with_25 (fun H locs hd => ?_)
      exact zfv hC hd hr hlk d_Great_with_28 (by unfold x_with; rw [hk]; (repeat (first | (rw [if_pos]; rotate_left; first | assumption | decide) | (rw [if_neg]; rotate_left; first | assumption | decide))) <;> (try rfl))
end
section
theorem x_with_xn (Z : Zt) (k : Nat) (x : Int64) (t i : Nat) : xn (x_with Z k x) t i = xn Z t i := by
  unfold x_with; repeat' split
  all_goals rfl
theorem x_take_xn (Z : Zt) (k : Nat) (x : Int64) (t i : Nat) : xn (x_take Z k x) t i = xn Z t i := by
  unfold x_take x_takeC
  split
  · repeat' split
    all_goals rfl
  · exact x_with_xn Z k x t i
theorem x_begin_xn (Z : Zt) (k n : Nat) (t i : Nat) : xn (x_begin Z k n) t i = xn Z t i := by
  unfold x_begin x_begin0; repeat' split
  all_goals rfl
theorem x_with_xc (Z : Zt) (k : Nat) (x : Int64) (c t i : Nat) : xc (x_with Z k x) c t i = xc Z c t i := by
  unfold x_with; repeat' split
  all_goals rfl
theorem x_take_xc (Z : Zt) (k : Nat) (x : Int64) (c t i : Nat) : xc (x_take Z k x) c t i = xc Z c t i := by
  unfold x_take x_takeC
  split
  · repeat' split
    all_goals rfl
  · exact x_with_xc Z k x c t i
theorem x_begin_xc (Z : Zt) (k n : Nat) (c t i : Nat) : xc (x_begin Z k n) c t i = xc Z c t i := by
  unfold x_begin x_begin0; repeat' split
  all_goals rfl

set_option maxHeartbeats 4000000 in
theorem c_Quot_with (l : Launch) (G : Gt) (ad : Nat → Nat → Nat) (ow : Nat → Nat × Nat) (Z : Zt) (k : Nat) (hq : k < xn Z 0 2) (hk : xn Z 1 k = 3) (x : Int64) : Met l y_Quot_with w_Quot_with ({ frames := 0, cells := 0, slots := 0, locals := 0 }) (zPc G ad ow Z [.ref (ad 2 k), .long x]) (Qd G ad ow (x_with Z k x) (none)) 0 0 (zA G) := by
  refine zopen (cc := b_Quot_with) (maxL := 3) (ret := none) (by decide) rfl (Nat.le_of_ble_eq_true rfl) ?_
  intro p e s m below meth c ls hC hr hlk hnm hd hl
  have hC : Cx G p c m s _ "KeyGraph$Quotient" b_Quot_with 3 := hC
  have hl : lv_has ls 3 [(0, .ref (ad 2 k)), (1, .long x)] := hl
  have hx := hC.1
  have hb := hC.2.1
  refine lv_aload_n hx hb d_Quot_with_0 rfl (lv_at hl 0 rfl) ?_
  refine zget hC hd (e_f3 hq hk) rfl i_Quot 1 (by decide) q_257 (Or.inr q_258) (v := .int (xi Z 11 k)) rfl d_Quot_with_1 ?_
  refine lv_if_ne (tgt := 13) hx hb d_Quot_with_4 (by decide) (fun c4 => ?_) (fun c4 => ?_)
  · refine lv_aload_n hx hb d_Quot_with_13 rfl (lv_at hl 0 rfl) ?_
    refine lv_lload_n hx hb d_Quot_with_14 rfl (lv_at hl 1 rfl) ?_
    refine lv_lconst (v := 0) hx hb d_Quot_with_15 (by decide) ?_
    refine W.lcmp hx hb d_Quot_with_16 ?_
    refine lv_if_ne (tgt := 24) hx hb d_Quot_with_17 (by decide) (fun c17 => ?_) (fun c17 => ?_)
    · simp only [ne_eq, lg_cmp_eq, lg_cmp_le, lg_cmp_lt, lg_cmp_ge, lg_cmp_gt] at c17
      refine lv_iconst (v := 0) hx hb d_Quot_with_24 (by decide) ?_
      refine zput (Z' := (si Z 12 k 0)) (v := .int 0) hC hd (e_f3 hq hk) rfl i_Quot t_Quot t_Quot_ok n_Quot 3 (by decide) q_280 (Or.inr q_281) rfl (zbool (by decide)) (zboolf (by decide)) (Nat.le_of_ble_eq_true rfl) (u_f3_failed hq hk) d_Quot_with_25 (fun H locs hd => ?_)
      refine lv_aload_n hx hb d_Quot_with_28 rfl (lv_at hl 0 rfl) ?_
      refine lv_aload_n hx hb d_Quot_with_29 rfl (lv_at hl 0 rfl) ?_
      refine zget hC hd (e_f3 hq hk) rfl i_Quot 3 (by decide) q_280 (Or.inr q_281) (v := .int (xi (si Z 12 k 0) 12 k)) rfl d_Quot_with_30 ?_
      refine lv_topi (fun z ez => ?_)
      rw [xi_si, if_pos ⟨rfl, rfl⟩] at ez
      subst ez
      refine lv_if_eq (tgt := 40) hx hb d_Quot_with_33 (by decide) (fun _ => ?_) (fun c => absurd c (by decide))
      refine lv_lload_n hx hb d_Quot_with_40 rfl (lv_at hl 1 rfl) ?_
      refine lv_ldc2 (v := (-1)) hx hb hC.2.2.2.1 (hC.2.2.2.2.1 _ q_528) d_Quot_with_41 ?_
      refine W.lcmp hx hb d_Quot_with_44 ?_
      refine lv_if_ne (tgt := 56) hx hb d_Quot_with_45 (by decide) (fun c45 => ?_) (fun c45 => ?_)
      · simp only [ne_eq, lg_cmp_eq, lg_cmp_le, lg_cmp_lt, lg_cmp_ge, lg_cmp_gt] at c45
        refine lv_aload_n hx hb d_Quot_with_56 rfl (lv_at hl 0 rfl) ?_
        refine zget hC hd (e_f3 hq hk) rfl i_Quot 2 (by decide) q_270 (Or.inr q_271) (v := .long (xl Z 2 k)) rfl d_Quot_with_57 ?_
        refine lv_lload_n hx hb d_Quot_with_60 rfl (lv_at hl 1 rfl) ?_
        refine lv_ldiv hx hb d_Quot_with_61 c17 ?_
        refine zput (Z' := (sl (si Z 12 k 0) 2 k ((xl Z 2 k) / x))) (v := .long ((xl Z 2 k) / x)) hC hd (e_f3 hq hk) rfl i_Quot t_Quot t_Quot_ok n_Quot 2 (by decide) q_270 (Or.inr q_271) rfl rfl rfl (Nat.le_of_ble_eq_true rfl) (u_f3_fv hq hk) d_Quot_with_62 (fun H locs hd => ?_)
        exact zfv hC hd hr hlk d_Quot_with_65 (by unfold x_with x_qv; rw [hk]; (repeat (first | (rw [if_pos]; rotate_left; first | assumption | decide) | (rw [if_neg]; rotate_left; first | assumption | decide))) <;> (try rfl))
      · simp only [ne_eq, lg_cmp_eq, lg_cmp_le, lg_cmp_lt, lg_cmp_ge, lg_cmp_gt] at c45
        refine lv_aload_n hx hb d_Quot_with_48 rfl (lv_at hl 0 rfl) ?_
        refine zget hC hd (e_f3 hq hk) rfl i_Quot 2 (by decide) q_270 (Or.inr q_271) (v := .long (xl Z 2 k)) rfl d_Quot_with_49 ?_
        refine lv_lneg hx hb d_Quot_with_52 ?_
        refine lv_goto (tgt := 62) hx hb d_Quot_with_53 (by decide) ?_
        refine zput (Z' := (sl (si Z 12 k 0) 2 k (-(xl Z 2 k)))) (v := .long (-(xl Z 2 k))) hC hd (e_f3 hq hk) rfl i_Quot t_Quot t_Quot_ok n_Quot 2 (by decide) q_270 (Or.inr q_271) rfl rfl rfl (Nat.le_of_ble_eq_true rfl) (u_f3_fv hq hk) d_Quot_with_62 (fun H locs hd => ?_)
        exact zfv hC hd hr hlk d_Quot_with_65 (by unfold x_with x_qv; rw [hk]; (repeat (first | (rw [if_pos]; rotate_left; first | assumption | decide) | (rw [if_neg]; rotate_left; first | assumption | decide))) <;> (try rfl))
    · simp only [ne_eq, lg_cmp_eq, lg_cmp_le, lg_cmp_lt, lg_cmp_ge, lg_cmp_gt] at c17
      refine lv_iconst (v := 1) hx hb d_Quot_with_20 (by decide) ?_
      refine lv_goto (tgt := 25) hx hb d_Quot_with_21 (by decide) ?_
      refine zput (Z' := (si Z 12 k 1)) (v := .int 1) hC hd (e_f3 hq hk) rfl i_Quot t_Quot t_Quot_ok n_Quot 3 (by decide) q_280 (Or.inr q_281) rfl (zbool (by decide)) (zboolf (by decide)) (Nat.le_of_ble_eq_true rfl) (u_f3_failed hq hk) d_Quot_with_25 (fun H locs hd => ?_)
      refine lv_aload_n hx hb d_Quot_with_28 rfl (lv_at hl 0 rfl) ?_
      refine lv_aload_n hx hb d_Quot_with_29 rfl (lv_at hl 0 rfl) ?_
      refine zget hC hd (e_f3 hq hk) rfl i_Quot 3 (by decide) q_280 (Or.inr q_281) (v := .int (xi (si Z 12 k 1) 12 k)) rfl d_Quot_with_30 ?_
      refine lv_topi (fun z ez => ?_)
      rw [xi_si, if_pos ⟨rfl, rfl⟩] at ez
      subst ez
      refine lv_if_eq (tgt := 40) hx hb d_Quot_with_33 (by decide) (fun c => absurd c (by decide)) (fun _ => ?_)
      refine lv_lconst (v := 0) hx hb d_Quot_with_36 (by decide) ?_
      refine lv_goto (tgt := 62) hx hb d_Quot_with_37 (by decide) ?_
      refine zput (Z' := (sl (si Z 12 k 1) 2 k 0)) (v := .long 0) hC hd (e_f3 hq hk) rfl i_Quot t_Quot t_Quot_ok n_Quot 2 (by decide) q_270 (Or.inr q_271) rfl rfl rfl (Nat.le_of_ble_eq_true rfl) (u_f3_fv hq hk) d_Quot_with_62 (fun H locs hd => ?_)
      exact zfv hC hd hr hlk d_Quot_with_65 (by unfold x_with x_qv; rw [hk]; (repeat (first | (rw [if_pos]; rotate_left; first | assumption | decide) | (rw [if_neg]; rotate_left; first | assumption | decide))) <;> (try rfl))
  · refine lv_aload_n hx hb d_Quot_with_7 rfl (lv_at hl 0 rfl) ?_
    refine lv_lload_n hx hb d_Quot_with_8 rfl (lv_at hl 1 rfl) ?_
    refine zput (Z' := (sl Z 2 k x)) (v := .long x) hC hd (e_f3 hq hk) rfl i_Quot t_Quot t_Quot_ok n_Quot 2 (by decide) q_270 (Or.inr q_271) rfl rfl rfl (Nat.le_of_ble_eq_true rfl) (u_f3_fv hq hk) d_Quot_with_9 (fun H locs hd => ?_)
    exact zfv hC hd hr hlk d_Quot_with_12 (by unfold x_with x_qv; rw [hk]; (repeat (first | (rw [if_pos]; rotate_left; first | assumption | decide) | (rw [if_neg]; rotate_left; first | assumption | decide))) <;> (try rfl))
set_option maxHeartbeats 4000000 in
theorem c_Fun_take0 (l : Launch) (G : Gt) (ad : Nat → Nat → Nat) (ow : Nat → Nat × Nat) (Z : Zt) (k : Nat) (hq : k < xn Z 0 2) (hk : xn Z 1 k = 0) (x : Int64) : Met l y_Fun_take w_Fun_take ({ frames := 1, cells := 0, slots := 0, locals := 22 }) (zPc G ad ow Z [.ref (ad 2 k), .long x]) (Qd G ad ow (x_take Z k x) (none)) 0 0 (zA G) := by
  refine zopen (cc := b_Fun_take) (maxL := 3) (ret := none) (by decide) rfl (Nat.le_of_ble_eq_true rfl) ?_
  intro p e s m below meth c ls hC hr hlk hnm hd hl
  have hC : Cx G p c m s _ "KeyGraph$Function" b_Fun_take 3 := hC
  have hl : lv_has ls 3 [(0, .ref (ad 2 k)), (1, .long x)] := hl
  have hx := hC.1
  have hb := hC.2.1
  refine lv_aload_n hx hb d_Fun_take_0 rfl (lv_at hl 0 rfl) ?_
  refine lv_lload_n hx hb d_Fun_take_1 rfl (lv_at hl 1 rfl) ?_
  refine zb_v hd (zrunA (owner := "KeyGraph$Function") (n := 1) (rest := []) hC hd (e_f0 hq hk) rfl (c_Sum_with0 l G ad ow Z k hq hk x) q_515 q_517 z_516 q_529 q_530 q_13 q_531 rfl rfl rfl (by decide +kernel) ⟨by decide, by decide⟩ rfl hl.1 (Nat.le_of_ble_eq_true rfl) d_Fun_take_2 ⟨by decide, by decide⟩) (fun H locs hd => ?_)
  have hq2 : k < xn (x_with Z k x) 0 2 := by rw [x_with_xn]; exact hq
  have hk2 : xn (x_with Z k x) 1 k = 0 := by rw [x_with_xn]; exact hk
  refine lv_aload_n hx hb d_Fun_take_5 rfl (lv_at hl 0 rfl) ?_
  refine lv_dup hx hb d_Fun_take_6 rfl ?_
  refine zget hC hd (e_f0 hq2 hk2) rfl i_Sum 1 (by decide) q_259 (Or.inl rfl) (v := .int (xi (x_with Z k x) 11 k)) rfl d_Fun_take_7 ?_
  refine lv_iconst (v := 1) hx hb d_Fun_take_10 (by decide) ?_
  refine lv_iadd hx hb d_Fun_take_11 ?_
  refine zput (Z' := (si (x_with Z k x) 11 k ((xi (x_with Z k x) 11 k) + 1))) (v := .int ((xi (x_with Z k x) 11 k) + 1)) hC hd (e_f0 hq2 hk2) rfl i_Sum t_Sum t_Sum_ok n_Sum 1 (by decide) q_259 (Or.inl rfl) rfl rfl rfl (Nat.le_of_ble_eq_true rfl) (u_f0_place hq2 hk2) d_Fun_take_12 (fun H locs hd => ?_)
  exact zfv hC hd hr hlk d_Fun_take_15 (by unfold x_take; rw [hk]; (repeat (first | (rw [if_pos]; rotate_left; first | assumption | decide) | (rw [if_neg]; rotate_left; first | assumption | decide))) <;> (try rfl))
set_option maxHeartbeats 4000000 in
theorem c_Fun_take1 (l : Launch) (G : Gt) (ad : Nat → Nat → Nat) (ow : Nat → Nat × Nat) (Z : Zt) (k : Nat) (hq : k < xn Z 0 2) (hk : xn Z 1 k = 1) (x : Int64) : Met l y_Fun_take w_Fun_take ({ frames := 1, cells := 0, slots := 0, locals := 22 }) (zPc G ad ow Z [.ref (ad 2 k), .long x]) (Qd G ad ow (x_take Z k x) (none)) 0 0 (zA G) := by
  refine zopen (cc := b_Fun_take) (maxL := 3) (ret := none) (by decide) rfl (Nat.le_of_ble_eq_true rfl) ?_
  intro p e s m below meth c ls hC hr hlk hnm hd hl
  have hC : Cx G p c m s _ "KeyGraph$Function" b_Fun_take 3 := hC
  have hl : lv_has ls 3 [(0, .ref (ad 2 k)), (1, .long x)] := hl
  have hx := hC.1
  have hb := hC.2.1
  refine lv_aload_n hx hb d_Fun_take_0 rfl (lv_at hl 0 rfl) ?_
  refine lv_lload_n hx hb d_Fun_take_1 rfl (lv_at hl 1 rfl) ?_
  refine zb_v hd (zrunA (owner := "KeyGraph$Function") (n := 1) (rest := []) hC hd (e_f1 hq hk) rfl (c_First_with l G ad ow Z k hq hk x) q_515 q_517 z_516 q_519 q_520 q_14 q_521 rfl rfl rfl (by decide +kernel) ⟨by decide, by decide⟩ rfl hl.1 (Nat.le_of_ble_eq_true rfl) d_Fun_take_2 ⟨by decide, by decide⟩) (fun H locs hd => ?_)
  have hq2 : k < xn (x_with Z k x) 0 2 := by rw [x_with_xn]; exact hq
  have hk2 : xn (x_with Z k x) 1 k = 1 := by rw [x_with_xn]; exact hk
  refine lv_aload_n hx hb d_Fun_take_5 rfl (lv_at hl 0 rfl) ?_
  refine lv_dup hx hb d_Fun_take_6 rfl ?_
  refine zget hC hd (e_f1 hq2 hk2) rfl i_First 1 (by decide) q_259 (Or.inl rfl) (v := .int (xi (x_with Z k x) 11 k)) rfl d_Fun_take_7 ?_
  refine lv_iconst (v := 1) hx hb d_Fun_take_10 (by decide) ?_
  refine lv_iadd hx hb d_Fun_take_11 ?_
  refine zput (Z' := (si (x_with Z k x) 11 k ((xi (x_with Z k x) 11 k) + 1))) (v := .int ((xi (x_with Z k x) 11 k) + 1)) hC hd (e_f1 hq2 hk2) rfl i_First t_First t_First_ok n_First 1 (by decide) q_259 (Or.inl rfl) rfl rfl rfl (Nat.le_of_ble_eq_true rfl) (u_f1_place hq2 hk2) d_Fun_take_12 (fun H locs hd => ?_)
  exact zfv hC hd hr hlk d_Fun_take_15 (by unfold x_take; rw [hk]; (repeat (first | (rw [if_pos]; rotate_left; first | assumption | decide) | (rw [if_neg]; rotate_left; first | assumption | decide))) <;> (try rfl))
set_option maxHeartbeats 4000000 in
theorem c_Fun_take3 (l : Launch) (G : Gt) (ad : Nat → Nat → Nat) (ow : Nat → Nat × Nat) (Z : Zt) (k : Nat) (hq : k < xn Z 0 2) (hk : xn Z 1 k = 3) (x : Int64) : Met l y_Fun_take w_Fun_take ({ frames := 1, cells := 0, slots := 0, locals := 22 }) (zPc G ad ow Z [.ref (ad 2 k), .long x]) (Qd G ad ow (x_take Z k x) (none)) 0 0 (zA G) := by
  refine zopen (cc := b_Fun_take) (maxL := 3) (ret := none) (by decide) rfl (Nat.le_of_ble_eq_true rfl) ?_
  intro p e s m below meth c ls hC hr hlk hnm hd hl
  have hC : Cx G p c m s _ "KeyGraph$Function" b_Fun_take 3 := hC
  have hl : lv_has ls 3 [(0, .ref (ad 2 k)), (1, .long x)] := hl
  have hx := hC.1
  have hb := hC.2.1
  refine lv_aload_n hx hb d_Fun_take_0 rfl (lv_at hl 0 rfl) ?_
  refine lv_lload_n hx hb d_Fun_take_1 rfl (lv_at hl 1 rfl) ?_
  refine zb_v hd (zrunA (owner := "KeyGraph$Function") (n := 1) (rest := []) hC hd (e_f3 hq hk) rfl (c_Quot_with l G ad ow Z k hq hk x) q_515 q_517 z_516 q_525 q_526 q_16 q_527 rfl rfl rfl (by decide +kernel) ⟨by decide, by decide⟩ rfl hl.1 (Nat.le_of_ble_eq_true rfl) d_Fun_take_2 ⟨by decide, by decide⟩) (fun H locs hd => ?_)
  have hq2 : k < xn (x_with Z k x) 0 2 := by rw [x_with_xn]; exact hq
  have hk2 : xn (x_with Z k x) 1 k = 3 := by rw [x_with_xn]; exact hk
  refine lv_aload_n hx hb d_Fun_take_5 rfl (lv_at hl 0 rfl) ?_
  refine lv_dup hx hb d_Fun_take_6 rfl ?_
  refine zget hC hd (e_f3 hq2 hk2) rfl i_Quot 1 (by decide) q_259 (Or.inl rfl) (v := .int (xi (x_with Z k x) 11 k)) rfl d_Fun_take_7 ?_
  refine lv_iconst (v := 1) hx hb d_Fun_take_10 (by decide) ?_
  refine lv_iadd hx hb d_Fun_take_11 ?_
  refine zput (Z' := (si (x_with Z k x) 11 k ((xi (x_with Z k x) 11 k) + 1))) (v := .int ((xi (x_with Z k x) 11 k) + 1)) hC hd (e_f3 hq2 hk2) rfl i_Quot t_Quot t_Quot_ok n_Quot 1 (by decide) q_259 (Or.inl rfl) rfl rfl rfl (Nat.le_of_ble_eq_true rfl) (u_f3_place hq2 hk2) d_Fun_take_12 (fun H locs hd => ?_)
  exact zfv hC hd hr hlk d_Fun_take_15 (by unfold x_take; rw [hk]; (repeat (first | (rw [if_pos]; rotate_left; first | assumption | decide) | (rw [if_neg]; rotate_left; first | assumption | decide))) <;> (try rfl))
set_option maxHeartbeats 4000000 in
theorem c_Fun_take4 (l : Launch) (G : Gt) (ad : Nat → Nat → Nat) (ow : Nat → Nat × Nat) (Z : Zt) (k : Nat) (hq : k < xn Z 0 2) (hk : xn Z 1 k = 4) (x : Int64) : Met l y_Fun_take w_Fun_take ({ frames := 1, cells := 0, slots := 0, locals := 22 }) (zPc G ad ow Z [.ref (ad 2 k), .long x]) (Qd G ad ow (x_take Z k x) (none)) 0 0 (zA G) := by
  refine zopen (cc := b_Fun_take) (maxL := 3) (ret := none) (by decide) rfl (Nat.le_of_ble_eq_true rfl) ?_
  intro p e s m below meth c ls hC hr hlk hnm hd hl
  have hC : Cx G p c m s _ "KeyGraph$Function" b_Fun_take 3 := hC
  have hl : lv_has ls 3 [(0, .ref (ad 2 k)), (1, .long x)] := hl
  have hx := hC.1
  have hb := hC.2.1
  refine lv_aload_n hx hb d_Fun_take_0 rfl (lv_at hl 0 rfl) ?_
  refine lv_lload_n hx hb d_Fun_take_1 rfl (lv_at hl 1 rfl) ?_
  refine zb_v hd (zrunA (owner := "KeyGraph$Function") (n := 1) (rest := []) hC hd (e_f4 hq hk) rfl (c_Sum_with4 l G ad ow Z k hq hk x) q_515 q_517 z_516 q_529 q_530 q_13 q_531 rfl rfl rfl (by decide +kernel) ⟨by decide, by decide⟩ rfl hl.1 (Nat.le_of_ble_eq_true rfl) d_Fun_take_2 ⟨by decide, by decide⟩) (fun H locs hd => ?_)
  have hq2 : k < xn (x_with Z k x) 0 2 := by rw [x_with_xn]; exact hq
  have hk2 : xn (x_with Z k x) 1 k = 4 := by rw [x_with_xn]; exact hk
  refine lv_aload_n hx hb d_Fun_take_5 rfl (lv_at hl 0 rfl) ?_
  refine lv_dup hx hb d_Fun_take_6 rfl ?_
  refine zget hC hd (e_f4 hq2 hk2) rfl i_Sum 1 (by decide) q_259 (Or.inl rfl) (v := .int (xi (x_with Z k x) 11 k)) rfl d_Fun_take_7 ?_
  refine lv_iconst (v := 1) hx hb d_Fun_take_10 (by decide) ?_
  refine lv_iadd hx hb d_Fun_take_11 ?_
  refine zput (Z' := (si (x_with Z k x) 11 k ((xi (x_with Z k x) 11 k) + 1))) (v := .int ((xi (x_with Z k x) 11 k) + 1)) hC hd (e_f4 hq2 hk2) rfl i_Sum t_Sum t_Sum_ok n_Sum 1 (by decide) q_259 (Or.inl rfl) rfl rfl rfl (Nat.le_of_ble_eq_true rfl) (u_f4_place hq2 hk2) d_Fun_take_12 (fun H locs hd => ?_)
  exact zfv hC hd hr hlk d_Fun_take_15 (by unfold x_take; rw [hk]; (repeat (first | (rw [if_pos]; rotate_left; first | assumption | decide) | (rw [if_neg]; rotate_left; first | assumption | decide))) <;> (try rfl))
set_option maxHeartbeats 4000000 in
theorem c_Fun_take5 (l : Launch) (G : Gt) (ad : Nat → Nat → Nat) (ow : Nat → Nat × Nat) (Z : Zt) (k : Nat) (hq : k < xn Z 0 2) (hk : xn Z 1 k = 5) (x : Int64) : Met l y_Fun_take w_Fun_take ({ frames := 1, cells := 0, slots := 0, locals := 22 }) (zPc G ad ow Z [.ref (ad 2 k), .long x]) (Qd G ad ow (x_take Z k x) (none)) 0 0 (zA G) := by
  refine zopen (cc := b_Fun_take) (maxL := 3) (ret := none) (by decide) rfl (Nat.le_of_ble_eq_true rfl) ?_
  intro p e s m below meth c ls hC hr hlk hnm hd hl
  have hC : Cx G p c m s _ "KeyGraph$Function" b_Fun_take 3 := hC
  have hl : lv_has ls 3 [(0, .ref (ad 2 k)), (1, .long x)] := hl
  have hx := hC.1
  have hb := hC.2.1
  refine lv_aload_n hx hb d_Fun_take_0 rfl (lv_at hl 0 rfl) ?_
  refine lv_lload_n hx hb d_Fun_take_1 rfl (lv_at hl 1 rfl) ?_
  refine zb_v hd (zrunA (owner := "KeyGraph$Function") (n := 1) (rest := []) hC hd (e_f5 hq hk) rfl (c_Great_with l G ad ow Z k hq hk x) q_515 q_517 z_516 q_522 q_523 q_17 q_524 rfl rfl rfl (by decide +kernel) ⟨by decide, by decide⟩ rfl hl.1 (Nat.le_of_ble_eq_true rfl) d_Fun_take_2 ⟨by decide, by decide⟩) (fun H locs hd => ?_)
  have hq2 : k < xn (x_with Z k x) 0 2 := by rw [x_with_xn]; exact hq
  have hk2 : xn (x_with Z k x) 1 k = 5 := by rw [x_with_xn]; exact hk
  refine lv_aload_n hx hb d_Fun_take_5 rfl (lv_at hl 0 rfl) ?_
  refine lv_dup hx hb d_Fun_take_6 rfl ?_
  refine zget hC hd (e_f5 hq2 hk2) rfl i_Great 1 (by decide) q_259 (Or.inl rfl) (v := .int (xi (x_with Z k x) 11 k)) rfl d_Fun_take_7 ?_
  refine lv_iconst (v := 1) hx hb d_Fun_take_10 (by decide) ?_
  refine lv_iadd hx hb d_Fun_take_11 ?_
  refine zput (Z' := (si (x_with Z k x) 11 k ((xi (x_with Z k x) 11 k) + 1))) (v := .int ((xi (x_with Z k x) 11 k) + 1)) hC hd (e_f5 hq2 hk2) rfl i_Great t_Great t_Great_ok n_Great 1 (by decide) q_259 (Or.inl rfl) rfl rfl rfl (Nat.le_of_ble_eq_true rfl) (u_f5_place hq2 hk2) d_Fun_take_12 (fun H locs hd => ?_)
  exact zfv hC hd hr hlk d_Fun_take_15 (by unfold x_take; rw [hk]; (repeat (first | (rw [if_pos]; rotate_left; first | assumption | decide) | (rw [if_neg]; rotate_left; first | assumption | decide))) <;> (try rfl))
set_option maxHeartbeats 4000000 in
theorem c_Choice_take (l : Launch) (G : Gt) (ad : Nat → Nat → Nat) (ow : Nat → Nat × Nat) (Z : Zt) (k : Nat) (hq : k < xn Z 0 2) (hk : xn Z 1 k = 2) (x : Int64) (hz : xi Z 13 k = 0 → ¬ xi Z 10 k = 1 → ¬ (xi Z 10 k - 1).toInt64 = 0) : Met l y_Choice_take w_Choice_take ({ frames := 1, cells := 0, slots := 0, locals := 22 }) (zPc G ad ow Z [.ref (ad 2 k), .long x]) (Qd G ad ow (x_take Z k x) (none)) 0 0 (zA G) := by
  refine zopen (cc := b_Choice_take) (maxL := 5) (ret := none) (by decide) rfl (Nat.le_of_ble_eq_true rfl) ?_
  intro p e s m below meth c ls hC hr hlk hnm hd hl
  have hC : Cx G p c m s _ "KeyGraph$Choice" b_Choice_take 5 := hC
  have hl : lv_has ls 5 [(0, .ref (ad 2 k)), (1, .long x)] := hl
  have hx := hC.1
  have hb := hC.2.1
  have ew : x_with Z k x = sl Z 2 k x := by unfold x_with; rw [hk]; (repeat (first | (rw [if_pos]; rotate_left; first | assumption | decide) | (rw [if_neg]; rotate_left; first | assumption | decide))) <;> (try rfl)
  have cw := c_Choice_with l G ad ow Z k hq hk x
  rw [ew] at cw
  refine lv_aload_n hx hb d_Choice_take_0 rfl (lv_at hl 0 rfl) ?_
  refine lv_lload_n hx hb d_Choice_take_1 rfl (lv_at hl 1 rfl) ?_
  refine zb_v hd (zrunV (n := 1) (rest := []) hC hd (e_f2 hq hk) rfl (cw) q_506 q_507 q_508 q_15 q_509 rfl rfl rfl (by decide +kernel) ⟨by decide, by decide⟩ rfl hl.1 (Nat.le_of_ble_eq_true rfl) d_Choice_take_2 ⟨by decide, by decide⟩) (fun H locs hd => ?_)
  refine lv_aload_n hx hb d_Choice_take_5 rfl (lv_at hl 0 rfl) ?_
  refine zget hC hd (e_f2 hq hk) rfl i_Choice 4 (by decide) q_310 (Or.inl rfl) (v := .int (xi Z 13 k)) rfl d_Choice_take_6 ?_
  refine lv_if_ne (tgt := 20) hx hb d_Choice_take_9 (by decide) (fun c9 => ?_) (fun c9 => ?_)
  · refine lv_aload_n hx hb d_Choice_take_20 rfl (lv_at hl 0 rfl) ?_
    refine lv_iconst (v := 1) hx hb d_Choice_take_21 (by decide) ?_
    refine zput (Z' := (si (sl Z 2 k x) 13 k 1)) (v := .int 1) hC hd (e_f2 hq hk) rfl i_Choice t_Choice t_Choice_ok n_Choice 4 (by decide) q_310 (Or.inl rfl) rfl (zbool (by decide)) (zboolf (by decide)) (Nat.le_of_ble_eq_true rfl) (u_f2_chosen hq hk) d_Choice_take_22 (fun H locs hd => ?_)
    refine lv_aload_n hx hb d_Choice_take_25 rfl (lv_at hl 0 rfl) ?_
    refine lv_iconst (v := (-1)) hx hb d_Choice_take_26 (by decide) ?_
    refine zput (Z' := (si (si (sl Z 2 k x) 13 k 1) 11 k (-1))) (v := .int (-1)) hC hd (e_f2 hq hk) rfl i_Choice t_Choice t_Choice_ok n_Choice 1 (by decide) q_264 (Or.inr q_265) rfl rfl rfl (Nat.le_of_ble_eq_true rfl) (u_f2_place hq hk) d_Choice_take_27 (fun H locs hd => ?_)
    exact zfv hC hd hr hlk d_Choice_take_30 (by unfold x_take x_takeC x_chP x_chR; rw [hk]; (repeat (first | (rw [if_pos]; rotate_left; first | assumption | decide) | (rw [if_neg]; rotate_left; first | assumption | decide))) <;> (try rfl))
  · refine lv_aload_n hx hb d_Choice_take_12 rfl (lv_at hl 0 rfl) ?_
    refine zget hC hd (e_f2 hq hk) rfl i_Choice 0 (by decide) q_255 (Or.inr q_256) (v := .int (xi Z 10 k)) rfl d_Choice_take_13 ?_
    refine lv_iconst (v := 1) hx hb d_Choice_take_16 (by decide) ?_
    refine lv_icmp_ne (tgt := 31) hx hb d_Choice_take_17 (by decide) (fun c17 => ?_) (fun c17 => ?_)
    · refine lv_aload_n hx hb d_Choice_take_31 rfl (lv_at hl 0 rfl) ?_
      refine lv_iconst (v := 1) hx hb d_Choice_take_32 (by decide) ?_
      refine zput (Z' := (si (sl Z 2 k x) 13 k 1)) (v := .int 1) hC hd (e_f2 hq hk) rfl i_Choice t_Choice t_Choice_ok n_Choice 4 (by decide) q_310 (Or.inl rfl) rfl (zbool (by decide)) (zboolf (by decide)) (Nat.le_of_ble_eq_true rfl) (u_f2_chosen hq hk) d_Choice_take_33 (fun H locs hd => ?_)
      refine lv_lload_n hx hb d_Choice_take_36 rfl (lv_at hl 1 rfl) ?_
      refine lv_aload_n hx hb d_Choice_take_37 rfl (lv_at hl 0 rfl) ?_
      refine zget hC hd (e_f2 hq hk) rfl i_Choice 0 (by decide) q_255 (Or.inr q_256) (v := .int (xi Z 10 k)) rfl d_Choice_take_38 ?_
      refine lv_iconst (v := 1) hx hb d_Choice_take_41 (by decide) ?_
      refine lv_isub hx hb d_Choice_take_42 ?_
      refine lv_i2l (v := ((xi Z 10 k) - 1).toInt64) hx hb d_Choice_take_43 rfl ?_
      refine lv_lrem hx hb d_Choice_take_44 (hz c9 c17) ?_
      refine lv_lstore_n (lv' := [(3, .long (x - x / (((xi Z 10 k) - 1).toInt64) * (((xi Z 10 k) - 1).toInt64))), (0, .ref (ad 2 k)), (1, .long x)]) hx hb d_Choice_take_45 rfl hl (by decide) rfl (fun ls hl => ?_)
      refine lv_aload_n hx hb d_Choice_take_46 rfl (lv_at hl 1 rfl) ?_
      refine lv_iconst (v := 1) hx hb d_Choice_take_47 (by decide) ?_
      refine lv_lload_n hx hb d_Choice_take_48 rfl (lv_at hl 0 rfl) ?_
      refine lv_lconst (v := 0) hx hb d_Choice_take_49 (by decide) ?_
      refine W.lcmp hx hb d_Choice_take_50 ?_
      refine lv_if_ge (tgt := 66) hx hb d_Choice_take_51 (by decide) (fun c51 => ?_) (fun c51 => ?_)
      · simp only [ne_eq, lg_cmp_eq, lg_cmp_le, lg_cmp_lt, lg_cmp_ge, lg_cmp_gt] at c51
        refine lv_lload_n hx hb d_Choice_take_66 rfl (lv_at hl 0 rfl) ?_
        refine lv_l2i (v := (x - x / (((xi Z 10 k) - 1).toInt64) * (((xi Z 10 k) - 1).toInt64)).toInt32) hx hb d_Choice_take_67 rfl ?_
        refine lv_iadd hx hb d_Choice_take_68 ?_
        refine zput (Z' := (si (si (sl Z 2 k x) 13 k 1) 11 k (1 + ((x - x / (((xi Z 10 k) - 1).toInt64) * (((xi Z 10 k) - 1).toInt64)).toInt32)))) (v := .int (1 + ((x - x / (((xi Z 10 k) - 1).toInt64) * (((xi Z 10 k) - 1).toInt64)).toInt32))) hC hd (e_f2 hq hk) rfl i_Choice t_Choice t_Choice_ok n_Choice 1 (by decide) q_264 (Or.inr q_265) rfl rfl rfl (Nat.le_of_ble_eq_true rfl) (u_f2_place hq hk) d_Choice_take_69 (fun H locs hd => ?_)
        exact zfv hC hd hr hlk d_Choice_take_72 (by unfold x_take x_takeC x_chP x_chR; rw [hk]; (repeat (first | (rw [if_pos]; rotate_left; first | assumption | decide) | (rw [if_neg]; rotate_left; first | assumption | decide))) <;> (try rfl))
      · simp only [ne_eq, lg_cmp_eq, lg_cmp_le, lg_cmp_lt, lg_cmp_ge, lg_cmp_gt] at c51
        refine lv_lload_n hx hb d_Choice_take_54 rfl (lv_at hl 0 rfl) ?_
        refine lv_aload_n hx hb d_Choice_take_55 rfl (lv_at hl 1 rfl) ?_
        refine zget hC hd (e_f2 hq hk) rfl i_Choice 0 (by decide) q_255 (Or.inr q_256) (v := .int (xi Z 10 k)) rfl d_Choice_take_56 ?_
        refine lv_i2l (v := (xi Z 10 k).toInt64) hx hb d_Choice_take_59 rfl ?_
        refine lv_ladd hx hb d_Choice_take_60 ?_
        refine lv_lconst (v := 1) hx hb d_Choice_take_61 (by decide) ?_
        refine lv_lsub hx hb d_Choice_take_62 ?_
        refine lv_goto (tgt := 67) hx hb d_Choice_take_63 (by decide) ?_
        refine lv_l2i (v := (((x - x / (((xi Z 10 k) - 1).toInt64) * (((xi Z 10 k) - 1).toInt64)) + ((xi Z 10 k).toInt64)) - 1).toInt32) hx hb d_Choice_take_67 rfl ?_
        refine lv_iadd hx hb d_Choice_take_68 ?_
        refine zput (Z' := (si (si (sl Z 2 k x) 13 k 1) 11 k (1 + ((((x - x / (((xi Z 10 k) - 1).toInt64) * (((xi Z 10 k) - 1).toInt64)) + ((xi Z 10 k).toInt64)) - 1).toInt32)))) (v := .int (1 + ((((x - x / (((xi Z 10 k) - 1).toInt64) * (((xi Z 10 k) - 1).toInt64)) + ((xi Z 10 k).toInt64)) - 1).toInt32))) hC hd (e_f2 hq hk) rfl i_Choice t_Choice t_Choice_ok n_Choice 1 (by decide) q_264 (Or.inr q_265) rfl rfl rfl (Nat.le_of_ble_eq_true rfl) (u_f2_place hq hk) d_Choice_take_69 (fun H locs hd => ?_)
        exact zfv hC hd hr hlk d_Choice_take_72 (by unfold x_take x_takeC x_chP x_chR; rw [hk]; (repeat (first | (rw [if_pos]; rotate_left; first | assumption | decide) | (rw [if_neg]; rotate_left; first | assumption | decide))) <;> (try rfl))
    · refine lv_aload_n hx hb d_Choice_take_20 rfl (lv_at hl 0 rfl) ?_
      refine lv_iconst (v := 1) hx hb d_Choice_take_21 (by decide) ?_
      refine zput (Z' := (si (sl Z 2 k x) 13 k 1)) (v := .int 1) hC hd (e_f2 hq hk) rfl i_Choice t_Choice t_Choice_ok n_Choice 4 (by decide) q_310 (Or.inl rfl) rfl (zbool (by decide)) (zboolf (by decide)) (Nat.le_of_ble_eq_true rfl) (u_f2_chosen hq hk) d_Choice_take_22 (fun H locs hd => ?_)
      refine lv_aload_n hx hb d_Choice_take_25 rfl (lv_at hl 0 rfl) ?_
      refine lv_iconst (v := (-1)) hx hb d_Choice_take_26 (by decide) ?_
      refine zput (Z' := (si (si (sl Z 2 k x) 13 k 1) 11 k (-1))) (v := .int (-1)) hC hd (e_f2 hq hk) rfl i_Choice t_Choice t_Choice_ok n_Choice 1 (by decide) q_264 (Or.inr q_265) rfl rfl rfl (Nat.le_of_ble_eq_true rfl) (u_f2_place hq hk) d_Choice_take_27 (fun H locs hd => ?_)
      exact zfv hC hd hr hlk d_Choice_take_30 (by unfold x_take x_takeC x_chP x_chR; rw [hk]; (repeat (first | (rw [if_pos]; rotate_left; first | assumption | decide) | (rw [if_neg]; rotate_left; first | assumption | decide))) <;> (try rfl))
set_option maxHeartbeats 4000000 in
theorem c_Key_isLeaf_y (l : Launch) (G : Gt) (ad : Nat → Nat → Nat) (ow : Nat → Nat × Nat) (Z : Zt) (k : Nat) (hk : k < xn Z 0 1) (hlf : xn Z 1 k = 6) : Met l y_Key_isLeaf w_Key_isLeaf ({ frames := 0, cells := 0, slots := 0, locals := 0 }) (zPc G ad ow Z [.ref (ad 1 k)]) (Qd G ad ow Z (some (.int 1))) 0 0 (zA G) := by
  refine zopen (cc := b_Key_isLeaf) (maxL := 1) (ret := (some FieldType.boolean)) (by decide) rfl (Nat.le_of_ble_eq_true rfl) ?_
  intro p e s m below meth c ls hC hr hlk hnm hd hl
  have hC : Cx G p c m s _ "KeyGraph$Key" b_Key_isLeaf 1 := hC
  have hl : lv_has ls 1 [(0, .ref (ad 1 k))] := hl
  have hx := hC.1
  have hb := hC.2.1
  refine lv_aload_n hx hb d_Key_isLeaf_0 rfl (lv_at hl 0 rfl) ?_
  refine zget hC hd (e_key hk) rfl i_Key 1 (by decide) q_115 (Or.inl rfl) (v := .null) (congrArg (fun q => some (va_rf q)) (if_pos hlf)) d_Key_isLeaf_1 ?_
  refine lv_ifnonnullN hx hb d_Key_isLeaf_4 ?_
  refine lv_iconst (v := 1) hx hb d_Key_isLeaf_7 (by decide) ?_
  refine lv_goto (tgt := 12) hx hb d_Key_isLeaf_8 (by decide) ?_
  exact zfz hC hd hr hlk d_Key_isLeaf_12 (by decide) rfl rfl
set_option maxHeartbeats 4000000 in
theorem c_Key_isLeaf_n (l : Launch) (G : Gt) (ad : Nat → Nat → Nat) (ow : Nat → Nat × Nat) (Z : Zt) (k : Nat) (hk : k < xn Z 0 1) (hlf : ¬ xn Z 1 k = 6) : Met l y_Key_isLeaf w_Key_isLeaf ({ frames := 0, cells := 0, slots := 0, locals := 0 }) (zPc G ad ow Z [.ref (ad 1 k)]) (Qd G ad ow Z (some (.int 0))) 0 0 (zA G) := by
  refine zopen (cc := b_Key_isLeaf) (maxL := 1) (ret := (some FieldType.boolean)) (by decide) rfl (Nat.le_of_ble_eq_true rfl) ?_
  intro p e s m below meth c ls hC hr hlk hnm hd hl
  have hC : Cx G p c m s _ "KeyGraph$Key" b_Key_isLeaf 1 := hC
  have hl : lv_has ls 1 [(0, .ref (ad 1 k))] := hl
  have hx := hC.1
  have hb := hC.2.1
  refine lv_aload_n hx hb d_Key_isLeaf_0 rfl (lv_at hl 0 rfl) ?_
  refine zget hC hd (e_key hk) rfl i_Key 1 (by decide) q_115 (Or.inl rfl) (v := .ref (ad 2 k)) (congrArg (fun q => some (va_rf q)) (if_neg hlf)) d_Key_isLeaf_1 ?_
  refine lv_ifnonnull (tgt := 11) hx hb d_Key_isLeaf_4 (by decide) ?_
  refine lv_iconst (v := 0) hx hb d_Key_isLeaf_11 (by decide) ?_
  exact zfz hC hd hr hlk d_Key_isLeaf_12 (by decide) rfl rfl
set_option maxHeartbeats 4000000 in
theorem c_Pile_top (l : Launch) (G : Gt) (ad : Nat → Nat → Nat) (ow : Nat → Nat × Nat) (Z : Zt) (hX : XS Z) (u : Nat) (hu : u < 5) (h1 : 1 ≤ xn Z 9 u) (h40 : xn Z 9 u ≤ 40) (k : Nat) (hne : xc Z 7 u (xn Z 9 u - 1) = k + 1) : Met l y_Pile_top w_Pile_top ({ frames := 0, cells := 0, slots := 0, locals := 0 }) (zPc G ad ow Z [.ref (ad 6 u)]) (Qd G ad ow Z (some (.ref (ad 1 k)))) 0 0 (zA G) := by
  refine zopen (cc := b_Pile_top) (maxL := 1) (ret := (some (FieldType.object "KeyGraph$Key"))) (by decide) rfl (Nat.le_of_ble_eq_true rfl) ?_
  intro p e s m below meth c ls hC hr hlk hnm hd hl
  have hC : Cx G p c m s _ "KeyGraph$Pile" b_Pile_top 1 := hC
  have hl : lv_has ls 1 [(0, .ref (ad 6 u))] := hl
  have hx := hC.1
  have hb := hC.2.1
  refine lv_aload_n hx hb d_Pile_top_0 rfl (lv_at hl 0 rfl) ?_
  refine zget hC hd (e_pile (hX.pl hu)) rfl i_Pile 0 (by decide) q_71 (Or.inl rfl) (v := .ref (ad 7 u)) rfl d_Pile_top_1 ?_
  refine lv_aload_n hx hb d_Pile_top_4 rfl (lv_at hl 0 rfl) ?_
  refine zget hC hd (e_pile (hX.pl hu)) rfl i_Pile 1 (by decide) q_73 (Or.inl rfl) (v := .int (nI (xn Z 9 u))) rfl d_Pile_top_5 ?_
  refine lv_iconst (v := 1) hx hb d_Pile_top_8 (by decide) ?_
  refine zsubN (x := xn Z 9 u) (y := 1) (by omega) hx hb d_Pile_top_9 ?_
  refine zaaK (k := (xn Z 9 u) - 1) (y := ad 1 k) hC hd (e_pka (hX.pa hu)) (by omega) (by decide) (by show (if xc Z 7 u (xn Z 9 u - 1) = 0 then none else some (ad 1 (xc Z 7 u (xn Z 9 u - 1) - 1))) = _; rw [hne]; rfl) d_Pile_top_10 ?_
  exact zfa hC hd hr (Or.inl ⟨_, rfl⟩) hlk d_Pile_top_11 rfl rfl
set_option maxHeartbeats 4000000 in
theorem c_AL_size (l : Launch) (G : Gt) (ad : Nat → Nat → Nat) (ow : Nat → Nat × Nat) (Z : Zt) (i : Nat) (hi : i < xn Z 0 3) : Met l y_AL_size w_AL_size ({ frames := 0, cells := 0, slots := 0, locals := 0 }) (zPc G ad ow Z [.ref (ad 3 i)]) (Qd G ad ow Z (some (.int (nI (xn Z 2 i))))) 0 0 (zA G) := by
  refine zopen (cc := b_AL_size) (maxL := 1) (ret := (some FieldType.int)) (by decide) rfl (Nat.le_of_ble_eq_true rfl) ?_
  intro p e s m below meth c ls hC hr hlk hnm hd hl
  have hC : Cx G p c m s _ "java/util/ArrayList" b_AL_size 1 := hC
  have hl : lv_has ls 1 [(0, .ref (ad 3 i))] := hl
  have hx := hC.1
  have hb := hC.2.1
  refine lv_aload_n hx hb d_AL_size_0 rfl (lv_at hl 0 rfl) ?_
  refine zget hC hd (e_list hi) rfl i_AL 2 (by decide) q_48 (Or.inl rfl) (v := .int (nI (xn Z 2 i))) rfl d_AL_size_1 ?_
  exact zfi hC hd hr hlk d_AL_size_4 rfl rfl
set_option maxHeartbeats 4000000 in
theorem c_AL_elementData (l : Launch) (G : Gt) (ad : Nat → Nat → Nat) (ow : Nat → Nat × Nat) (Z : Zt) (i j k : Nat) (hi : i < xn Z 0 3) (h4 : i < xn Z 0 4) (hc : xn Z 3 i ≠ 0) (hcn : xn Z 3 i ≤ 2147483647) (hj : j < xn Z 3 i) (hk : xc Z 4 i j = k + 1) : Met l y_AL_elementData w_AL_elementData ({ frames := 0, cells := 0, slots := 0, locals := 0 }) (zPc G ad ow Z [.ref (ad 3 i), .int (nI j)]) (Qd G ad ow Z (some (.ref (ad 1 k)))) 0 0 (zA G) := by
  refine zopen (cc := b_AL_elementData) (maxL := 2) (ret := (some (FieldType.object "java/lang/Object"))) (by decide) rfl (Nat.le_of_ble_eq_true rfl) ?_
  intro p e s m below meth c ls hC hr hlk hnm hd hl
  have hC : Cx G p c m s _ "java/util/ArrayList" b_AL_elementData 2 := hC
  have hl : lv_has ls 2 [(0, .ref (ad 3 i)), (1, .int (nI j))] := hl
  have hx := hC.1
  have hb := hC.2.1
  refine lv_aload_n hx hb d_AL_elementData_0 rfl (lv_at hl 0 rfl) ?_
  refine zget hC hd (e_list hi) rfl i_AL 1 (by decide) q_47 (Or.inl rfl) (v := .ref (ad 4 i)) (congrArg (fun q => some (Value.ref q)) (if_neg hc)) d_AL_elementData_1 ?_
  refine lv_iload_n hx hb d_AL_elementData_4 rfl (lv_at hl 1 rfl) ?_
  refine zaaO (k := j) (y := ad 1 k) hC hd (e_elem h4 hc) (by omega) hcn (by show (if xc Z 4 i j = 0 then none else some (ad 1 (xc Z 4 i j - 1))) = _; rw [hk]; rfl) d_AL_elementData_5 ?_
  exact zfa hC hd hr (Or.inl ⟨_, rfl⟩) hlk d_AL_elementData_6 rfl rfl
set_option maxHeartbeats 4000000 in
theorem c_Prec_checkIndex (l : Launch) (G : Gt) (ad : Nat → Nat → Nat) (ow : Nat → Nat × Nat) (Z : Zt) (j n : Nat) (hj : j < n) (hn : n ≤ 2147483647) : Met l y_Prec_checkIndex w_Prec_checkIndex ({ frames := 0, cells := 0, slots := 0, locals := 0 }) (zPc G ad ow Z [.int (nI j), .int (nI n), .null]) (Qd G ad ow Z (some (.int (nI j)))) 0 0 (zA G) := by
  refine zopen (cc := b_Prec_checkIndex) (maxL := 3) (ret := (some FieldType.int)) (by decide) rfl (Nat.le_of_ble_eq_true rfl) ?_
  intro p e s m below meth c ls hC hr hlk hnm hd hl
  have hC : Cx G p c m s _ "jdk/internal/util/Preconditions" b_Prec_checkIndex 3 := hC
  have hl : lv_has ls 3 [(0, .int (nI j)), (1, .int (nI n)), (2, .null)] := hl
  have hx := hC.1
  have hb := hC.2.1
  refine lv_iload_n hx hb d_Prec_checkIndex_0 rfl (lv_at hl 0 rfl) ?_
  refine lv_if_lt (tgt := 9) hx hb d_Prec_checkIndex_1 (by decide) (fun c => absurd c (nI_pos (by omega))) (fun _ => ?_)
  refine lv_iload_n hx hb d_Prec_checkIndex_4 rfl (lv_at hl 0 rfl) ?_
  refine lv_iload_n hx hb d_Prec_checkIndex_5 rfl (lv_at hl 1 rfl) ?_
  refine zc_lt (x := j) (y := n) (tgt := 16) (by omega) (by omega) hx hb d_Prec_checkIndex_6 (by decide) (fun c6 => ?_) (fun c6 => absurd c6 (by omega))
  refine lv_iload_n hx hb d_Prec_checkIndex_16 rfl (lv_at hl 0 rfl) ?_
  exact zfi hC hd hr hlk d_Prec_checkIndex_17 rfl rfl
set_option maxHeartbeats 4000000 in
theorem c_Objs_checkIndex (l : Launch) (G : Gt) (ad : Nat → Nat → Nat) (ow : Nat → Nat × Nat) (Z : Zt) (j n : Nat) (hj : j < n) (hn : n ≤ 2147483647) : Met l y_Objs_checkIndex w_Objs_checkIndex ({ frames := 1, cells := 0, slots := 0, locals := 22 }) (zPc G ad ow Z [.int (nI j), .int (nI n)]) (Qd G ad ow Z (some (.int (nI j)))) 0 0 (zA G) := by
  refine zopen (cc := b_Objs_checkIndex) (maxL := 2) (ret := (some FieldType.int)) (by decide) rfl (Nat.le_of_ble_eq_true rfl) ?_
  intro p e s m below meth c ls hC hr hlk hnm hd hl
  have hC : Cx G p c m s _ "java/util/Objects" b_Objs_checkIndex 2 := hC
  have hl : lv_has ls 2 [(0, .int (nI j)), (1, .int (nI n))] := hl
  have hx := hC.1
  have hb := hC.2.1
  refine lv_iload_n hx hb d_Objs_checkIndex_0 rfl (lv_at hl 0 rfl) ?_
  refine lv_iload_n hx hb d_Objs_checkIndex_1 rfl (lv_at hl 1 rfl) ?_
  refine lv_null hx hb d_Objs_checkIndex_2 ?_
  refine zb_i (r := (nI j)) hd (zrunS (n := 3) (rest := []) hC hd (c_Prec_checkIndex l G ad ow Z j n hj hn) q_359 q_360 q_19 q_361 rfl rfl rfl (by decide +kernel) ⟨by decide, by decide⟩ rfl hl.1 (Nat.le_of_ble_eq_true rfl) d_Objs_checkIndex_3 ⟨by decide, by decide⟩) (fun H locs hd => ?_)
  exact zfi hC hd hr hlk d_Objs_checkIndex_6 rfl rfl
set_option maxHeartbeats 4000000 in
theorem c_AL_get (l : Launch) (G : Gt) (ad : Nat → Nat → Nat) (ow : Nat → Nat × Nat) (Z : Zt) (i j k : Nat) (hi : i < xn Z 0 3) (h4 : i < xn Z 0 4) (hc : xn Z 3 i ≠ 0) (hcn : xn Z 3 i ≤ 2147483647) (hj : j < xn Z 3 i) (hk : xc Z 4 i j = k + 1) (hs : j < xn Z 2 i) (hsc : xn Z 2 i ≤ xn Z 3 i) : Met l y_AL_get w_AL_get ({ frames := 2, cells := 0, slots := 0, locals := 43 }) (zPc G ad ow Z [.ref (ad 3 i), .int (nI j)]) (Qd G ad ow Z (some (.ref (ad 1 k)))) 0 0 (zA G) := by
  refine zopen (cc := b_AL_get) (maxL := 2) (ret := (some (FieldType.object "java/lang/Object"))) (by decide) rfl (Nat.le_of_ble_eq_true rfl) ?_
  intro p e s m below meth c ls hC hr hlk hnm hd hl
  have hC : Cx G p c m s _ "java/util/ArrayList" b_AL_get 2 := hC
  have hl : lv_has ls 2 [(0, .ref (ad 3 i)), (1, .int (nI j))] := hl
  have hx := hC.1
  have hb := hC.2.1
  refine lv_iload_n hx hb d_AL_get_0 rfl (lv_at hl 1 rfl) ?_
  refine lv_aload_n hx hb d_AL_get_1 rfl (lv_at hl 0 rfl) ?_
  refine zget hC hd (e_list hi) rfl i_AL 2 (by decide) q_48 (Or.inl rfl) (v := .int (nI (xn Z 2 i))) rfl d_AL_get_2 ?_
  refine zb_i (r := (nI j)) hd (zrunS (n := 2) (rest := []) hC hd (c_Objs_checkIndex l G ad ow Z j (xn Z 2 i) hs (by omega)) q_356 q_357 q_18 q_358 rfl rfl rfl (by decide +kernel) ⟨by decide, by decide⟩ rfl hl.1 (Nat.le_of_ble_eq_true rfl) d_AL_get_5 ⟨by decide, by decide⟩) (fun H locs hd => ?_)
  refine lv_pop hx hb d_AL_get_8 rfl ?_
  refine lv_aload_n hx hb d_AL_get_9 rfl (lv_at hl 0 rfl) ?_
  refine lv_iload_n hx hb d_AL_get_10 rfl (lv_at hl 1 rfl) ?_
  refine zb_a (r := (ad 1 k)) hd (zrunV (n := 1) (rest := []) hC hd (e_list hi) rfl (c_AL_elementData l G ad ow Z i j k hi h4 hc hcn hj hk) q_362 q_363 q_364 q_4 q_365 rfl rfl rfl (by decide +kernel) ⟨by decide, by decide⟩ rfl hl.1 (Nat.le_of_ble_eq_true rfl) d_AL_get_11 ⟨by decide, by decide⟩) (fun H locs hd => ?_)
  exact zfa hC hd hr (Or.inl ⟨_, rfl⟩) hlk d_AL_get_14 rfl rfl
theorem c_get (l : Launch) (G : Gt) (ad : Nat → Nat → Nat) (ow : Nat → Nat × Nat) (Z : Zt) (hX : XS Z) (i j k : Nat) (hi : i < xn Z 0 3) (hj : j < xn Z 2 i) (hk : xc Z 4 i j = k + 1) : Met l y_AL_get w_AL_get ({ frames := 2, cells := 0, slots := 0, locals := 43 }) (zPc G ad ow Z [.ref (ad 3 i), .int (nI j)]) (Qd G ad ow Z (some (.ref (ad 1 k)))) 0 0 (zA G) :=
  c_AL_get l G ad ow Z i j k hi (by have := hX.1; omega) (by have := hX.2.2.1.1 i; omega) (by have := hX.2.2.1.2 i; omega) (by have := hX.2.2.1.1 i; omega) hk hj (hX.2.2.1.1 i)
end
section
def x_isKey (Z : Zt) (k : Int32) : Int32 := if k < 0 then 0 else if nI (xn Z 2 0) ≤ k then 0 else 1
theorem x_isKey_cases (Z : Zt) (k : Int32) (hn : xn Z 2 0 ≤ 40) : x_isKey Z k = 0 ∨ ∃ j, j < xn Z 2 0 ∧ k = nI j ∧ x_isKey Z k = 1 := by
  unfold x_isKey
  by_cases h1 : k < 0
  · exact Or.inl (if_pos h1)
  · by_cases h2 : nI (xn Z 2 0) ≤ k
    · exact Or.inl (by rw [if_neg h1, if_pos h2])
    · obtain ⟨j, hj, rfl⟩ := nI_of h1
      exact Or.inr ⟨j, Nat.not_le.mp fun q => h2 (nI_le q hj), rfl, by rw [if_neg h1, if_neg h2]⟩
def x_isSure (Z : Zt) (k : Nat) : Int32 := if xn Z 1 k = 6 then 1 else if xi Z 1 k ≤ 0 then 0 else if xi Z 3 k = xi Z 14 0 then 1 else 0
def x_isWorker (w : Int32) : Int32 := if w < 0 then 0 else if 4 ≤ w then 0 else 1
def x_isFn (Z : Zt) (k : Int32) : Int32 := if x_isKey Z k = 0 then 0 else if xn Z 1 k.toNatClampNeg = 6 then 0 else 1
def x_chkV (Z : Zt) (k : Nat) : Int32 := if xi Z 1 k ≤ 0 then 0 else if xi Z 3 k < xi Z 4 k then 0 else 1
def x_putA (Z : Zt) (u k : Nat) : Zt := sn (si (sn (si (sn (sc Z 7 u (xn Z 9 u) (k + 1)) 9 u (xn Z 9 u + 1)) 8 k (nI u)) 6 k 0) 9 k (x_chkV Z k)) 5 k 0
def x_put (Z : Zt) (u k : Nat) : Zt := x_begin (x_putA Z u k) k (xn Z 2 (k + 2))
def x_found (Z : Zt) (u k : Nat) : Zt := sn (si (si Z 3 k (xi Z 14 0)) 8 k (-1)) 9 u (xn Z 9 u - 1)
def x_endsA (Z : Zt) (k : Nat) (st : Int32) (v : Int64) : Zt := if xi Z 1 k = st then (if xl Z 1 k = v then Z else si Z 2 k (xi Z 14 0)) else si Z 2 k (xi Z 14 0)
def x_ends (Z : Zt) (u k : Nat) (st : Int32) (v : Int64) : Zt := x_found (si (sn (sn (sn (sl (si (x_endsA Z k st v) 1 k st) 1 k v) 7 k (xn Z 8 k)) 8 k (xn Z 7 k)) 4 k (xn Z 5 k)) 5 k (xi Z 5 k + 1)) u k
def x_goesDown (Z : Zt) (u k : Nat) : Zt × Int32 := if xi Z 8 k < 0 then (x_put Z u k, 1) else (Z, 3)

set_option maxHeartbeats 4000000 in
theorem c_KG_isKey (l : Launch) (G : Gt) (ad : Nat → Nat → Nat) (ow : Nat → Nat × Nat) (Z : Zt) (hX : XS Z) (k r : Int32) (h : x_isKey Z k = r) : Met l y_KG_isKey w_KG_isKey ({ frames := 1, cells := 0, slots := 0, locals := 20 }) (zPc G ad ow Z [.ref (ad 0 0), .int k]) (Qd G ad ow Z (some (.int r))) 0 0 (zA G) := by
  refine zopen (cc := b_KG_isKey) (maxL := 2) (ret := (some FieldType.boolean)) (by decide) rfl (Nat.le_of_ble_eq_true rfl) ?_
  intro p e s m below meth c ls hC hr hlk hnm hd hl
  have hC : Cx G p c m s _ "KeyGraph" b_KG_isKey 2 := hC
  have hl : lv_has ls 2 [(0, .ref (ad 0 0)), (1, .int k)] := hl
  have hx := hC.1
  have hb := hC.2.1
  refine lv_iload_n hx hb d_KG_isKey_0 rfl (lv_at hl 1 rfl) ?_
  refine lv_if_lt (tgt := 19) hx hb d_KG_isKey_1 (by decide) (fun c1 => ?_) (fun c1 => ?_)
  · refine lv_iconst (v := 0) hx hb d_KG_isKey_19 (by decide) ?_
    exact zfz hC hd hr hlk d_KG_isKey_20 (by decide) (by rw [← h]; unfold x_isKey; (repeat (first | (rw [if_pos]; rotate_left; first | assumption | decide) | (rw [if_neg]; rotate_left; first | assumption | decide))) <;> (try rfl)) rfl
  · refine lv_iload_n hx hb d_KG_isKey_4 rfl (lv_at hl 1 rfl) ?_
    refine lv_aload_n hx hb d_KG_isKey_5 rfl (lv_at hl 0 rfl) ?_
    refine zget hC hd (e_kg hX.kg) rfl i_KG 0 (by decide) q_80 (Or.inl rfl) (v := .ref (ad 3 0)) rfl d_KG_isKey_6 ?_
    refine zb_i (r := (nI (xn Z 2 0))) hd (zrunV (n := 0) (rest := [.int k]) hC hd (e_list hX.l0) rfl (c_AL_size l G ad ow Z 0 hX.l0) q_101 q_102 q_103 q_4 q_104 rfl rfl rfl (by decide +kernel) ⟨by decide, by decide⟩ rfl hl.1 (Nat.le_of_ble_eq_true rfl) d_KG_isKey_9 ⟨by decide, by decide⟩) (fun H locs hd => ?_)
    refine lv_icmp_ge (tgt := 19) hx hb d_KG_isKey_12 (by decide) (fun c12 => ?_) (fun c12 => ?_)
    · refine lv_iconst (v := 0) hx hb d_KG_isKey_19 (by decide) ?_
      exact zfz hC hd hr hlk d_KG_isKey_20 (by decide) (by rw [← h]; unfold x_isKey; (repeat (first | (rw [if_pos]; rotate_left; first | assumption | decide) | (rw [if_neg]; rotate_left; first | assumption | decide))) <;> (try rfl)) rfl
    · refine lv_iconst (v := 1) hx hb d_KG_isKey_15 (by decide) ?_
      refine lv_goto (tgt := 20) hx hb d_KG_isKey_16 (by decide) ?_
      exact zfz hC hd hr hlk d_KG_isKey_20 (by decide) (by rw [← h]; unfold x_isKey; (repeat (first | (rw [if_pos]; rotate_left; first | assumption | decide) | (rw [if_neg]; rotate_left; first | assumption | decide))) <;> (try rfl)) rfl
set_option maxHeartbeats 4000000 in
theorem c_KG_isWorker (l : Launch) (G : Gt) (ad : Nat → Nat → Nat) (ow : Nat → Nat × Nat) (Z : Zt) (w r : Int32) (h : x_isWorker w = r) : Met l y_KG_isWorker w_KG_isWorker ({ frames := 0, cells := 0, slots := 0, locals := 0 }) (zPc G ad ow Z [.int w]) (Qd G ad ow Z (some (.int r))) 0 0 (zA G) := by
  refine zopen (cc := b_KG_isWorker) (maxL := 1) (ret := (some FieldType.boolean)) (by decide) rfl (Nat.le_of_ble_eq_true rfl) ?_
  intro p e s m below meth c ls hC hr hlk hnm hd hl
  have hC : Cx G p c m s _ "KeyGraph" b_KG_isWorker 1 := hC
  have hl : lv_has ls 1 [(0, .int w)] := hl
  have hx := hC.1
  have hb := hC.2.1
  refine lv_iload_n hx hb d_KG_isWorker_0 rfl (lv_at hl 0 rfl) ?_
  refine lv_if_lt (tgt := 13) hx hb d_KG_isWorker_1 (by decide) (fun c1 => ?_) (fun c1 => ?_)
  · refine lv_iconst (v := 0) hx hb d_KG_isWorker_13 (by decide) ?_
    exact zfz hC hd hr hlk d_KG_isWorker_14 (by decide) (by rw [← h]; unfold x_isWorker; (repeat (first | (rw [if_pos]; rotate_left; first | assumption | decide) | (rw [if_neg]; rotate_left; first | assumption | decide))) <;> (try rfl)) rfl
  · refine lv_iload_n hx hb d_KG_isWorker_4 rfl (lv_at hl 0 rfl) ?_
    refine lv_iconst (v := 4) hx hb d_KG_isWorker_5 (by decide) ?_
    refine lv_icmp_ge (tgt := 13) hx hb d_KG_isWorker_6 (by decide) (fun c6 => ?_) (fun c6 => ?_)
    · refine lv_iconst (v := 0) hx hb d_KG_isWorker_13 (by decide) ?_
      exact zfz hC hd hr hlk d_KG_isWorker_14 (by decide) (by rw [← h]; unfold x_isWorker; (repeat (first | (rw [if_pos]; rotate_left; first | assumption | decide) | (rw [if_neg]; rotate_left; first | assumption | decide))) <;> (try rfl)) rfl
    · refine lv_iconst (v := 1) hx hb d_KG_isWorker_9 (by decide) ?_
      refine lv_goto (tgt := 14) hx hb d_KG_isWorker_10 (by decide) ?_
      exact zfz hC hd hr hlk d_KG_isWorker_14 (by decide) (by rw [← h]; unfold x_isWorker; (repeat (first | (rw [if_pos]; rotate_left; first | assumption | decide) | (rw [if_neg]; rotate_left; first | assumption | decide))) <;> (try rfl)) rfl
set_option maxHeartbeats 4000000 in
theorem c_KG_isFunction_no (l : Launch) (G : Gt) (ad : Nat → Nat → Nat) (ow : Nat → Nat × Nat) (Z : Zt) (hX : XS Z) (k r : Int32) (h0 : x_isKey Z k = 0) (h : x_isFn Z k = r) : Met l y_KG_isFunction w_KG_isFunction ({ frames := 3, cells := 0, slots := 0, locals := 64 }) (zPc G ad ow Z [.ref (ad 0 0), .int k]) (Qd G ad ow Z (some (.int r))) 0 0 (zA G) := by
  refine zopen (cc := b_KG_isFunction) (maxL := 2) (ret := (some FieldType.boolean)) (by decide) rfl (Nat.le_of_ble_eq_true rfl) ?_
  intro p e s m below meth c ls hC hr hlk hnm hd hl
  have hC : Cx G p c m s _ "KeyGraph" b_KG_isFunction 2 := hC
  have hl : lv_has ls 2 [(0, .ref (ad 0 0)), (1, .int k)] := hl
  have hx := hC.1
  have hb := hC.2.1
  refine lv_aload_n hx hb d_KG_isFunction_0 rfl (lv_at hl 0 rfl) ?_
  refine lv_iload_n hx hb d_KG_isFunction_1 rfl (lv_at hl 1 rfl) ?_
  refine zb_i (r := 0) hd (zrunV (n := 1) (rest := []) hC hd (e_kg hX.kg) rfl (c_KG_isKey l G ad ow Z hX k 0 h0) q_348 q_350 qp_4 q_1 q_351 rfl rfl rfl (by decide +kernel) ⟨by decide, by decide⟩ rfl hl.1 (Nat.le_of_ble_eq_true rfl) d_KG_isFunction_2 ⟨by decide, by decide⟩) (fun H locs hd => ?_)
  refine lv_if_eq (tgt := 29) hx hb d_KG_isFunction_5 (by decide) (fun _ => ?_) (fun c => absurd c (by decide))
  refine lv_iconst (v := 0) hx hb d_KG_isFunction_29 (by decide) ?_
  exact zfz hC hd hr hlk d_KG_isFunction_30 (by decide) (by rw [← h]; unfold x_isFn; (repeat (first | (rw [if_pos]; rotate_left; first | assumption | decide) | (rw [if_neg]; rotate_left; first | assumption | decide))) <;> (try rfl)) rfl
set_option maxHeartbeats 4000000 in
theorem c_KG_isFunction_leaf (l : Launch) (G : Gt) (ad : Nat → Nat → Nat) (ow : Nat → Nat × Nat) (Z : Zt) (hX : XS Z) (k : Nat) (r : Int32) (hk : k < xn Z 0 1) (h0 : x_isKey Z (nI k) = 1) (hlf : xn Z 1 k = 6) (h : x_isFn Z (nI k) = r) : Met l y_KG_isFunction w_KG_isFunction ({ frames := 3, cells := 0, slots := 0, locals := 64 }) (zPc G ad ow Z [.ref (ad 0 0), .int (nI k)]) (Qd G ad ow Z (some (.int r))) 0 0 (zA G) := by
  refine zopen (cc := b_KG_isFunction) (maxL := 2) (ret := (some FieldType.boolean)) (by decide) rfl (Nat.le_of_ble_eq_true rfl) ?_
  intro p e s m below meth c ls hC hr hlk hnm hd hl
  have hC : Cx G p c m s _ "KeyGraph" b_KG_isFunction 2 := hC
  have hl : lv_has ls 2 [(0, .ref (ad 0 0)), (1, .int (nI k))] := hl
  have hx := hC.1
  have hb := hC.2.1
  have h40 := hX.k40
  have h0n : ¬ x_isKey Z (nI k) = 0 := by rw [h0]; decide
  have hcl : (nI k).toNatClampNeg = k := nI_clamp (by omega)
  refine lv_aload_n hx hb d_KG_isFunction_0 rfl (lv_at hl 0 rfl) ?_
  refine lv_iload_n hx hb d_KG_isFunction_1 rfl (lv_at hl 1 rfl) ?_
  refine zb_i (r := 1) hd (zrunV (n := 1) (rest := []) hC hd (e_kg hX.kg) rfl (c_KG_isKey l G ad ow Z hX (nI k) 1 h0) q_348 q_350 qp_4 q_1 q_351 rfl rfl rfl (by decide +kernel) ⟨by decide, by decide⟩ rfl hl.1 (Nat.le_of_ble_eq_true rfl) d_KG_isFunction_2 ⟨by decide, by decide⟩) (fun H locs hd => ?_)
  refine lv_if_eq (tgt := 29) hx hb d_KG_isFunction_5 (by decide) (fun c => absurd c (by decide)) (fun _ => ?_)
  refine lv_aload_n hx hb d_KG_isFunction_8 rfl (lv_at hl 0 rfl) ?_
  refine zget hC hd (e_kg hX.kg) rfl i_KG 0 (by decide) q_80 (Or.inl rfl) (v := .ref (ad 3 0)) rfl d_KG_isFunction_9 ?_
  refine lv_iload_n hx hb d_KG_isFunction_12 rfl (lv_at hl 1 rfl) ?_
  refine zb_a (r := (ad 1 k)) hd (zrunV (n := 1) (rest := []) hC hd (e_list hX.l0) rfl (c_get l G ad ow Z hX 0 k k hX.l0 (show k < xn Z 2 0 by rw [hX.kl]; exact hk) (hX.ke hk)) q_352 q_353 q_354 q_4 q_355 rfl rfl rfl (by decide +kernel) ⟨by decide, by decide⟩ rfl hl.1 (Nat.le_of_ble_eq_true rfl) d_KG_isFunction_13 ⟨by decide, by decide⟩) (fun H locs hd => ?_)
  refine zcast hC hd (e_key hk) q_105 d_KG_isFunction_16 ?_
  refine zb_i (r := 1) hd (zrunV (n := 0) (rest := []) hC hd (e_key hk) rfl (c_Key_isLeaf_y l G ad ow Z k hk hlf) q_366 q_367 q_368 q_7 q_369 rfl rfl rfl (by decide +kernel) ⟨by decide, by decide⟩ rfl hl.1 (Nat.le_of_ble_eq_true rfl) d_KG_isFunction_19 ⟨by decide, by decide⟩) (fun H locs hd => ?_)
  refine lv_if_ne (tgt := 29) hx hb d_KG_isFunction_22 (by decide) (fun _ => ?_) (fun c => absurd c (by decide))
  refine lv_iconst (v := 0) hx hb d_KG_isFunction_29 (by decide) ?_
  exact zfz hC hd hr hlk d_KG_isFunction_30 (by decide) (by rw [← h]; unfold x_isFn; rw [hcl]; (repeat (first | (rw [if_pos]; rotate_left; first | assumption | decide) | (rw [if_neg]; rotate_left; first | assumption | decide))) <;> (try rfl)) rfl
set_option maxHeartbeats 4000000 in
theorem c_KG_isFunction_fn (l : Launch) (G : Gt) (ad : Nat → Nat → Nat) (ow : Nat → Nat × Nat) (Z : Zt) (hX : XS Z) (k : Nat) (r : Int32) (hk : k < xn Z 0 1) (h0 : x_isKey Z (nI k) = 1) (hlf : ¬ xn Z 1 k = 6) (h : x_isFn Z (nI k) = r) : Met l y_KG_isFunction w_KG_isFunction ({ frames := 3, cells := 0, slots := 0, locals := 64 }) (zPc G ad ow Z [.ref (ad 0 0), .int (nI k)]) (Qd G ad ow Z (some (.int r))) 0 0 (zA G) := by
  refine zopen (cc := b_KG_isFunction) (maxL := 2) (ret := (some FieldType.boolean)) (by decide) rfl (Nat.le_of_ble_eq_true rfl) ?_
  intro p e s m below meth c ls hC hr hlk hnm hd hl
  have hC : Cx G p c m s _ "KeyGraph" b_KG_isFunction 2 := hC
  have hl : lv_has ls 2 [(0, .ref (ad 0 0)), (1, .int (nI k))] := hl
  have hx := hC.1
  have hb := hC.2.1
  have h40 := hX.k40
  have h0n : ¬ x_isKey Z (nI k) = 0 := by rw [h0]; decide
  have hcl : (nI k).toNatClampNeg = k := nI_clamp (by omega)
  refine lv_aload_n hx hb d_KG_isFunction_0 rfl (lv_at hl 0 rfl) ?_
  refine lv_iload_n hx hb d_KG_isFunction_1 rfl (lv_at hl 1 rfl) ?_
  refine zb_i (r := 1) hd (zrunV (n := 1) (rest := []) hC hd (e_kg hX.kg) rfl (c_KG_isKey l G ad ow Z hX (nI k) 1 h0) q_348 q_350 qp_4 q_1 q_351 rfl rfl rfl (by decide +kernel) ⟨by decide, by decide⟩ rfl hl.1 (Nat.le_of_ble_eq_true rfl) d_KG_isFunction_2 ⟨by decide, by decide⟩) (fun H locs hd => ?_)
  refine lv_if_eq (tgt := 29) hx hb d_KG_isFunction_5 (by decide) (fun c => absurd c (by decide)) (fun _ => ?_)
  refine lv_aload_n hx hb d_KG_isFunction_8 rfl (lv_at hl 0 rfl) ?_
  refine zget hC hd (e_kg hX.kg) rfl i_KG 0 (by decide) q_80 (Or.inl rfl) (v := .ref (ad 3 0)) rfl d_KG_isFunction_9 ?_
  refine lv_iload_n hx hb d_KG_isFunction_12 rfl (lv_at hl 1 rfl) ?_
  refine zb_a (r := (ad 1 k)) hd (zrunV (n := 1) (rest := []) hC hd (e_list hX.l0) rfl (c_get l G ad ow Z hX 0 k k hX.l0 (show k < xn Z 2 0 by rw [hX.kl]; exact hk) (hX.ke hk)) q_352 q_353 q_354 q_4 q_355 rfl rfl rfl (by decide +kernel) ⟨by decide, by decide⟩ rfl hl.1 (Nat.le_of_ble_eq_true rfl) d_KG_isFunction_13 ⟨by decide, by decide⟩) (fun H locs hd => ?_)
  refine zcast hC hd (e_key hk) q_105 d_KG_isFunction_16 ?_
  refine zb_i (r := 0) hd (zrunV (n := 0) (rest := []) hC hd (e_key hk) rfl (c_Key_isLeaf_n l G ad ow Z k hk hlf) q_366 q_367 q_368 q_7 q_369 rfl rfl rfl (by decide +kernel) ⟨by decide, by decide⟩ rfl hl.1 (Nat.le_of_ble_eq_true rfl) d_KG_isFunction_19 ⟨by decide, by decide⟩) (fun H locs hd => ?_)
  refine lv_if_ne (tgt := 29) hx hb d_KG_isFunction_22 (by decide) (fun c => absurd c (by decide)) (fun _ => ?_)
  refine lv_iconst (v := 1) hx hb d_KG_isFunction_25 (by decide) ?_
  refine lv_goto (tgt := 30) hx hb d_KG_isFunction_26 (by decide) ?_
  exact zfz hC hd hr hlk d_KG_isFunction_30 (by decide) (by rw [← h]; unfold x_isFn; rw [hcl]; (repeat (first | (rw [if_pos]; rotate_left; first | assumption | decide) | (rw [if_neg]; rotate_left; first | assumption | decide))) <;> (try rfl)) rfl
theorem c_KG_isFunction (l : Launch) (G : Gt) (ad : Nat → Nat → Nat) (ow : Nat → Nat × Nat) (Z : Zt) (hX : XS Z) (k r : Int32) (h : x_isFn Z k = r) : Met l y_KG_isFunction w_KG_isFunction ({ frames := 3, cells := 0, slots := 0, locals := 64 }) (zPc G ad ow Z [.ref (ad 0 0), .int k]) (Qd G ad ow Z (some (.int r))) 0 0 (zA G) := by
  have h40 := hX.k40
  have hkl := hX.kl
  rcases x_isKey_cases Z k (by omega) with h0 | ⟨j, hj, rfl, h0⟩
  · exact c_KG_isFunction_no l G ad ow Z hX k r h0 h
  · by_cases hlf : xn Z 1 j = 6
    · exact c_KG_isFunction_leaf l G ad ow Z hX j r (by omega) h0 hlf h
    · exact c_KG_isFunction_fn l G ad ow Z hX j r (by omega) h0 hlf h
set_option maxHeartbeats 4000000 in
theorem c_KG_isSure_leaf (l : Launch) (G : Gt) (ad : Nat → Nat → Nat) (ow : Nat → Nat × Nat) (Z : Zt) (hX : XS Z) (k : Nat) (r : Int32) (hk : k < xn Z 0 1) (hlf : xn Z 1 k = 6) (h : x_isSure Z k = r) : Met l y_KG_isSure w_KG_isSure ({ frames := 1, cells := 0, slots := 0, locals := 20 }) (zPc G ad ow Z [.ref (ad 0 0), .ref (ad 1 k)]) (Qd G ad ow Z (some (.int r))) 0 0 (zA G) := by
  refine zopen (cc := b_KG_isSure) (maxL := 2) (ret := (some FieldType.boolean)) (by decide) rfl (Nat.le_of_ble_eq_true rfl) ?_
  intro p e s m below meth c ls hC hr hlk hnm hd hl
  have hC : Cx G p c m s _ "KeyGraph" b_KG_isSure 2 := hC
  have hl : lv_has ls 2 [(0, .ref (ad 0 0)), (1, .ref (ad 1 k))] := hl
  have hx := hC.1
  have hb := hC.2.1
  refine lv_aload_n hx hb d_KG_isSure_0 rfl (lv_at hl 1 rfl) ?_
  refine zb_i (r := 1) hd (zrunV (n := 0) (rest := []) hC hd (e_key hk) rfl (c_Key_isLeaf_y l G ad ow Z k hk hlf) q_366 q_367 q_368 q_7 q_369 rfl rfl rfl (by decide +kernel) ⟨by decide, by decide⟩ rfl hl.1 (Nat.le_of_ble_eq_true rfl) d_KG_isSure_1 ⟨by decide, by decide⟩) (fun H locs hd => ?_)
  refine lv_if_ne (tgt := 25) hx hb d_KG_isSure_4 (by decide) (fun _ => ?_) (fun c => absurd c (by decide))
  refine lv_iconst (v := 1) hx hb d_KG_isSure_25 (by decide) ?_
  refine lv_goto (tgt := 30) hx hb d_KG_isSure_26 (by decide) ?_
  exact zfz hC hd hr hlk d_KG_isSure_30 (by decide) (by rw [← h]; unfold x_isSure; (repeat (first | (rw [if_pos]; rotate_left; first | assumption | decide) | (rw [if_neg]; rotate_left; first | assumption | decide))) <;> (try rfl)) rfl
set_option maxHeartbeats 4000000 in
theorem c_KG_isSure_fn (l : Launch) (G : Gt) (ad : Nat → Nat → Nat) (ow : Nat → Nat × Nat) (Z : Zt) (hX : XS Z) (k : Nat) (r : Int32) (hk : k < xn Z 0 1) (hlf : ¬ xn Z 1 k = 6) (h : x_isSure Z k = r) : Met l y_KG_isSure w_KG_isSure ({ frames := 1, cells := 0, slots := 0, locals := 20 }) (zPc G ad ow Z [.ref (ad 0 0), .ref (ad 1 k)]) (Qd G ad ow Z (some (.int r))) 0 0 (zA G) := by
  refine zopen (cc := b_KG_isSure) (maxL := 2) (ret := (some FieldType.boolean)) (by decide) rfl (Nat.le_of_ble_eq_true rfl) ?_
  intro p e s m below meth c ls hC hr hlk hnm hd hl
  have hC : Cx G p c m s _ "KeyGraph" b_KG_isSure 2 := hC
  have hl : lv_has ls 2 [(0, .ref (ad 0 0)), (1, .ref (ad 1 k))] := hl
  have hx := hC.1
  have hb := hC.2.1
  refine lv_aload_n hx hb d_KG_isSure_0 rfl (lv_at hl 1 rfl) ?_
  refine zb_i (r := 0) hd (zrunV (n := 0) (rest := []) hC hd (e_key hk) rfl (c_Key_isLeaf_n l G ad ow Z k hk hlf) q_366 q_367 q_368 q_7 q_369 rfl rfl rfl (by decide +kernel) ⟨by decide, by decide⟩ rfl hl.1 (Nat.le_of_ble_eq_true rfl) d_KG_isSure_1 ⟨by decide, by decide⟩) (fun H locs hd => ?_)
  refine lv_if_ne (tgt := 25) hx hb d_KG_isSure_4 (by decide) (fun c => absurd c (by decide)) (fun _ => ?_)
  refine lv_aload_n hx hb d_KG_isSure_7 rfl (lv_at hl 1 rfl) ?_
  refine zgetN hC hd (e_key hk) rfl i_Key 3 (by decide) z_119 (Or.inl rfl) (v := .int (xi Z 1 k)) rfl d_KG_isSure_8 ?_
  refine lv_if_le (tgt := 29) hx hb d_KG_isSure_11 (by decide) (fun c11 => ?_) (fun c11 => ?_)
  · refine lv_iconst (v := 0) hx hb d_KG_isSure_29 (by decide) ?_
    exact zfz hC hd hr hlk d_KG_isSure_30 (by decide) (by rw [← h]; unfold x_isSure; (repeat (first | (rw [if_pos]; rotate_left; first | assumption | decide) | (rw [if_neg]; rotate_left; first | assumption | decide))) <;> (try rfl)) rfl
  · refine lv_aload_n hx hb d_KG_isSure_14 rfl (lv_at hl 1 rfl) ?_
    refine zgetN hC hd (e_key hk) rfl i_Key 6 (by decide) z_123 (Or.inl rfl) (v := .int (xi Z 3 k)) rfl d_KG_isSure_15 ?_
    refine lv_aload_n hx hb d_KG_isSure_18 rfl (lv_at hl 0 rfl) ?_
    refine zget hC hd (e_kg hX.kg) rfl i_KG 3 (by decide) q_83 (Or.inl rfl) (v := .int (xi Z 14 0)) rfl d_KG_isSure_19 ?_
    refine lv_icmp_ne (tgt := 29) hx hb d_KG_isSure_22 (by decide) (fun c22 => ?_) (fun c22 => ?_)
    · refine lv_iconst (v := 0) hx hb d_KG_isSure_29 (by decide) ?_
      exact zfz hC hd hr hlk d_KG_isSure_30 (by decide) (by rw [← h]; unfold x_isSure; (repeat (first | (rw [if_pos]; rotate_left; first | assumption | decide) | (rw [if_neg]; rotate_left; first | assumption | decide))) <;> (try rfl)) rfl
    · refine lv_iconst (v := 1) hx hb d_KG_isSure_25 (by decide) ?_
      refine lv_goto (tgt := 30) hx hb d_KG_isSure_26 (by decide) ?_
      exact zfz hC hd hr hlk d_KG_isSure_30 (by decide) (by rw [← h]; unfold x_isSure; (repeat (first | (rw [if_pos]; rotate_left; first | assumption | decide) | (rw [if_neg]; rotate_left; first | assumption | decide))) <;> (try rfl)) rfl
theorem c_KG_isSure (l : Launch) (G : Gt) (ad : Nat → Nat → Nat) (ow : Nat → Nat × Nat) (Z : Zt) (hX : XS Z) (k : Nat) (r : Int32) (hk : k < xn Z 0 1) (h : x_isSure Z k = r) : Met l y_KG_isSure w_KG_isSure ({ frames := 1, cells := 0, slots := 0, locals := 20 }) (zPc G ad ow Z [.ref (ad 0 0), .ref (ad 1 k)]) (Qd G ad ow Z (some (.int r))) 0 0 (zA G) := by
  by_cases hlf : xn Z 1 k = 6
  · exact c_KG_isSure_leaf l G ad ow Z hX k r hk hlf h
  · exact c_KG_isSure_fn l G ad ow Z hX k r hk hlf h
set_option maxHeartbeats 4000000 in
theorem c_KG_put0 (l : Launch) (G : Gt) (ad : Nat → Nat → Nat) (ow : Nat → Nat × Nat) (Z : Zt) (hX : XS Z) (u k : Nat) (hu : u < 5) (hkn : k < xn Z 0 1) (hps : xn Z 9 u < 40) (hk : xn Z 1 k = 0) : Met l y_KG_put w_KG_put ({ frames := 2, cells := 0, slots := 0, locals := 42 }) (zPc G ad ow Z [.ref (ad 0 0), .int (nI u), .ref (ad 1 k)]) (Qd G ad ow (x_put Z u k) (none)) 0 0 (zA G) := by
  refine zopen (cc := b_KG_put) (maxL := 4) (ret := none) (by decide) rfl (Nat.le_of_ble_eq_true rfl) ?_
  intro p e s m below meth c ls hC hr hlk hnm hd hl
  have hC : Cx G p c m s _ "KeyGraph" b_KG_put 4 := hC
  have hl : lv_has ls 4 [(0, .ref (ad 0 0)), (1, .int (nI u)), (2, .ref (ad 1 k))] := hl
  have hx := hC.1
  have hb := hC.2.1
  have hlf : ¬ xn Z 1 k = 6 := by omega
  have h8 := (hX.2.2.2.1 k hkn).1
  refine lv_aload_n hx hb d_KG_put_0 rfl (lv_at hl 0 rfl) ?_
  refine zget hC hd (e_kg hX.kg) rfl i_KG 1 (by decide) q_81 (Or.inl rfl) (v := .ref (ad 8 0)) rfl d_KG_put_1 ?_
  refine lv_iload_n hx hb d_KG_put_4 rfl (lv_at hl 1 rfl) ?_
  refine zaaP (k := u) hC hd (e_piles hX.ps) (by omega) (by decide) rfl d_KG_put_5 ?_
  refine lv_astore_n (lv' := [(3, .ref (ad 6 u)), (0, .ref (ad 0 0)), (1, .int (nI u)), (2, .ref (ad 1 k))]) hx hb d_KG_put_6 rfl hl (by decide) rfl (fun ls hl => ?_)
  refine lv_aload_n hx hb d_KG_put_7 rfl (lv_at hl 0 rfl) ?_
  refine zgetN hC hd (e_pile (hX.pl hu)) rfl i_Pile 0 (by decide) z_72 (Or.inl rfl) (v := .ref (ad 7 u)) rfl d_KG_put_8 ?_
  refine lv_aload_n hx hb d_KG_put_11 rfl (lv_at hl 0 rfl) ?_
  refine zgetN hC hd (e_pile (hX.pl hu)) rfl i_Pile 1 (by decide) z_74 (Or.inl rfl) (v := .int (nI (xn Z 9 u))) rfl d_KG_put_12 ?_
  refine lv_aload_n hx hb d_KG_put_15 rfl (lv_at hl 3 rfl) ?_
  refine zasK (j := xn Z 9 u) (Z' := (sc Z 7 u (xn Z 9 u) (k + 1))) hC hd (e_pka (hX.pa hu)) (e_key hkn) (by omega) (by decide) (u_pka (hX.pa hu)) d_KG_put_16 (fun H locs hd => ?_)
  refine lv_aload_n hx hb d_KG_put_17 rfl (lv_at hl 0 rfl) ?_
  refine lv_dup hx hb d_KG_put_18 rfl ?_
  refine zgetN hC hd (e_pile (hX.pl hu)) rfl i_Pile 1 (by decide) z_74 (Or.inl rfl) (v := .int (nI (xn Z 9 u))) rfl d_KG_put_19 ?_
  refine lv_iconst (v := 1) hx hb d_KG_put_22 (by decide) ?_
  refine zaddN (x := xn Z 9 u) (y := 1) hx hb d_KG_put_23 ?_
  refine zputN (Z' := (sn (sc Z 7 u (xn Z 9 u) (k + 1)) 9 u ((xn Z 9 u) + 1))) (v := .int (nI ((xn Z 9 u) + 1))) hC hd (e_pile (hX.pl hu)) rfl i_Pile t_Pile t_Pile_ok n_Pile 1 (by decide) z_74 rfl rfl rfl rfl (Nat.le_of_ble_eq_true rfl) (u_psz (hX.pl hu)) d_KG_put_24 (fun H locs hd => ?_)
  refine lv_aload_n hx hb d_KG_put_27 rfl (lv_at hl 3 rfl) ?_
  refine lv_iload_n hx hb d_KG_put_28 rfl (lv_at hl 2 rfl) ?_
  refine zputN (Z' := (si (sn (sc Z 7 u (xn Z 9 u) (k + 1)) 9 u ((xn Z 9 u) + 1)) 8 k (nI u))) (v := .int (nI u)) hC hd (e_key hkn) rfl i_Key t_Key t_Key_ok n_Key 15 (by decide) z_135 rfl rfl rfl rfl (Nat.le_of_ble_eq_true rfl) (u_worker hkn) d_KG_put_29 (fun H locs hd => ?_)
  refine lv_aload_n hx hb d_KG_put_32 rfl (lv_at hl 3 rfl) ?_
  refine lv_iconst (v := 0) hx hb d_KG_put_33 (by decide) ?_
  refine zputN (Z' := (sn (si (sn (sc Z 7 u (xn Z 9 u) (k + 1)) 9 u ((xn Z 9 u) + 1)) 8 k (nI u)) 6 k 0)) (v := .int 0) hC hd (e_key hkn) rfl i_Key t_Key t_Key_ok n_Key 16 (by decide) z_136 rfl rfl rfl rfl (Nat.le_of_ble_eq_true rfl) (u_at hkn) d_KG_put_34 (fun H locs hd => ?_)
  refine lv_aload_n hx hb d_KG_put_37 rfl (lv_at hl 3 rfl) ?_
  refine lv_aload_n hx hb d_KG_put_38 rfl (lv_at hl 3 rfl) ?_
  refine zgetN hC hd (e_key hkn) rfl i_Key 3 (by decide) z_119 (Or.inl rfl) (v := .int (xi Z 1 k)) rfl d_KG_put_39 ?_
  refine lv_if_le (tgt := 60) hx hb d_KG_put_42 (by decide) (fun c42 => ?_) (fun c42 => ?_)
  · refine lv_iconst (v := 0) hx hb d_KG_put_60 (by decide) ?_
    refine zputN (Z' := (si (sn (si (sn (sc Z 7 u (xn Z 9 u) (k + 1)) 9 u ((xn Z 9 u) + 1)) 8 k (nI u)) 6 k 0) 9 k 0)) (v := .int 0) hC hd (e_key hkn) rfl i_Key t_Key t_Key_ok n_Key 17 (by decide) z_137 rfl rfl (zbool (by decide)) (zboolf (by decide)) (Nat.le_of_ble_eq_true rfl) (u_checks hkn) d_KG_put_61 (fun H locs hd => ?_)
    refine lv_aload_n hx hb d_KG_put_64 rfl (lv_at hl 3 rfl) ?_
    refine lv_iconst (v := 0) hx hb d_KG_put_65 (by decide) ?_
    refine zputN (Z' := (sn (si (sn (si (sn (sc Z 7 u (xn Z 9 u) (k + 1)) 9 u ((xn Z 9 u) + 1)) 8 k (nI u)) 6 k 0) 9 k 0) 5 k 0)) (v := .int 0) hC hd (e_key hkn) rfl i_Key t_Key t_Key_ok n_Key 14 (by decide) z_133 rfl rfl rfl rfl (Nat.le_of_ble_eq_true rfl) (u_askingC hkn) d_KG_put_66 (fun H locs hd => ?_)
    refine lv_aload_n hx hb d_KG_put_69 rfl (lv_at hl 3 rfl) ?_
    refine zgetN hC hd (e_key hkn) rfl i_Key 1 (by decide) z_116 (Or.inl rfl) (v := .ref (ad 2 k)) (congrArg (fun q => some (va_rf q)) (if_neg hlf)) d_KG_put_70 ?_
    refine lv_aload_n hx hb d_KG_put_73 rfl (lv_at hl 3 rfl) ?_
    refine zgetN hC hd (e_key hkn) rfl i_Key 2 (by decide) z_118 (Or.inl rfl) (v := .ref (ad 3 (k + 2))) rfl d_KG_put_74 ?_
    refine zb_i (r := (nI (xn Z 2 (k + 2)))) hd (zrunV (n := 0) (rest := [.ref (ad 2 k)]) hC hd (e_list (hX.l hkn)) rfl (c_AL_size l G ad ow (sn (si (sn (si (sn (sc Z 7 u (xn Z 9 u) (k + 1)) 9 u ((xn Z 9 u) + 1)) 8 k (nI u)) 6 k 0) 9 k 0) 5 k 0) (k + 2) (hX.l hkn)) q_101 q_102 q_103 q_4 q_104 rfl rfl rfl (by decide +kernel) ⟨by decide, by decide⟩ rfl hl.1 (Nat.le_of_ble_eq_true rfl) d_KG_put_77 ⟨by decide, by decide⟩) (fun H locs hd => ?_)
    refine zb_v hd (zrunU (owner := "KeyGraph$Function") (n := 1) (rest := []) hC hd (e_f0 (hX.fn hkn) hk) rfl (c_Fun_begin0 l G ad ow (sn (si (sn (si (sn (sc Z 7 u (xn Z 9 u) (k + 1)) 9 u ((xn Z 9 u) + 1)) 8 k (nI u)) 6 k 0) 9 k 0) 5 k 0) k (hX.fn hkn) hk (xn Z 2 (k + 2))) q_429 q_431 q_442 q_430 q_12 q_443 rfl rfl rfl rfl (by decide +kernel) ⟨by decide, by decide⟩ rfl hl.1 (Nat.le_of_ble_eq_true rfl) d_KG_put_80 ⟨by decide, by decide⟩) (fun H locs hd => ?_)
    exact zfv hC hd hr hlk d_KG_put_83 (by unfold x_put x_begin; rw [show xn (x_putA Z u k) 1 k = 0 from hk]; unfold x_putA x_chkV; (repeat (first | (rw [if_pos]; rotate_left; first | assumption | decide) | (rw [if_neg]; rotate_left; first | assumption | decide))) <;> (try rfl))
  · refine lv_aload_n hx hb d_KG_put_45 rfl (lv_at hl 3 rfl) ?_
    refine zgetN hC hd (e_key hkn) rfl i_Key 7 (by decide) z_124 (Or.inl rfl) (v := .int (xi Z 4 k)) rfl d_KG_put_46 ?_
    refine lv_aload_n hx hb d_KG_put_49 rfl (lv_at hl 3 rfl) ?_
    refine zgetN hC hd (e_key hkn) rfl i_Key 6 (by decide) z_123 (Or.inl rfl) (v := .int (xi Z 3 k)) rfl d_KG_put_50 ?_
    refine lv_icmp_gt (tgt := 60) hx hb d_KG_put_53 (by decide) (fun c53 => ?_) (fun c53 => ?_)
    · refine lv_iconst (v := 0) hx hb d_KG_put_60 (by decide) ?_
      refine zputN (Z' := (si (sn (si (sn (sc Z 7 u (xn Z 9 u) (k + 1)) 9 u ((xn Z 9 u) + 1)) 8 k (nI u)) 6 k 0) 9 k 0)) (v := .int 0) hC hd (e_key hkn) rfl i_Key t_Key t_Key_ok n_Key 17 (by decide) z_137 rfl rfl (zbool (by decide)) (zboolf (by decide)) (Nat.le_of_ble_eq_true rfl) (u_checks hkn) d_KG_put_61 (fun H locs hd => ?_)
      refine lv_aload_n hx hb d_KG_put_64 rfl (lv_at hl 3 rfl) ?_
      refine lv_iconst (v := 0) hx hb d_KG_put_65 (by decide) ?_
      refine zputN (Z' := (sn (si (sn (si (sn (sc Z 7 u (xn Z 9 u) (k + 1)) 9 u ((xn Z 9 u) + 1)) 8 k (nI u)) 6 k 0) 9 k 0) 5 k 0)) (v := .int 0) hC hd (e_key hkn) rfl i_Key t_Key t_Key_ok n_Key 14 (by decide) z_133 rfl rfl rfl rfl (Nat.le_of_ble_eq_true rfl) (u_askingC hkn) d_KG_put_66 (fun H locs hd => ?_)
      refine lv_aload_n hx hb d_KG_put_69 rfl (lv_at hl 3 rfl) ?_
      refine zgetN hC hd (e_key hkn) rfl i_Key 1 (by decide) z_116 (Or.inl rfl) (v := .ref (ad 2 k)) (congrArg (fun q => some (va_rf q)) (if_neg hlf)) d_KG_put_70 ?_
      refine lv_aload_n hx hb d_KG_put_73 rfl (lv_at hl 3 rfl) ?_
      refine zgetN hC hd (e_key hkn) rfl i_Key 2 (by decide) z_118 (Or.inl rfl) (v := .ref (ad 3 (k + 2))) rfl d_KG_put_74 ?_
      refine zb_i (r := (nI (xn Z 2 (k + 2)))) hd (zrunV (n := 0) (rest := [.ref (ad 2 k)]) hC hd (e_list (hX.l hkn)) rfl (c_AL_size l G ad ow (sn (si (sn (si (sn (sc Z 7 u (xn Z 9 u) (k + 1)) 9 u ((xn Z 9 u) + 1)) 8 k (nI u)) 6 k 0) 9 k 0) 5 k 0) (k + 2) (hX.l hkn)) q_101 q_102 q_103 q_4 q_104 rfl rfl rfl (by decide +kernel) ⟨by decide, by decide⟩ rfl hl.1 (Nat.le_of_ble_eq_true rfl) d_KG_put_77 ⟨by decide, by decide⟩) (fun H locs hd => ?_)
      refine zb_v hd (zrunU (owner := "KeyGraph$Function") (n := 1) (rest := []) hC hd (e_f0 (hX.fn hkn) hk) rfl (c_Fun_begin0 l G ad ow (sn (si (sn (si (sn (sc Z 7 u (xn Z 9 u) (k + 1)) 9 u ((xn Z 9 u) + 1)) 8 k (nI u)) 6 k 0) 9 k 0) 5 k 0) k (hX.fn hkn) hk (xn Z 2 (k + 2))) q_429 q_431 q_442 q_430 q_12 q_443 rfl rfl rfl rfl (by decide +kernel) ⟨by decide, by decide⟩ rfl hl.1 (Nat.le_of_ble_eq_true rfl) d_KG_put_80 ⟨by decide, by decide⟩) (fun H locs hd => ?_)
      exact zfv hC hd hr hlk d_KG_put_83 (by unfold x_put x_begin; rw [show xn (x_putA Z u k) 1 k = 0 from hk]; unfold x_putA x_chkV; (repeat (first | (rw [if_pos]; rotate_left; first | assumption | decide) | (rw [if_neg]; rotate_left; first | assumption | decide))) <;> (try rfl))
    · refine lv_iconst (v := 1) hx hb d_KG_put_56 (by decide) ?_
      refine lv_goto (tgt := 61) hx hb d_KG_put_57 (by decide) ?_
      refine zputN (Z' := (si (sn (si (sn (sc Z 7 u (xn Z 9 u) (k + 1)) 9 u ((xn Z 9 u) + 1)) 8 k (nI u)) 6 k 0) 9 k 1)) (v := .int 1) hC hd (e_key hkn) rfl i_Key t_Key t_Key_ok n_Key 17 (by decide) z_137 rfl rfl (zbool (by decide)) (zboolf (by decide)) (Nat.le_of_ble_eq_true rfl) (u_checks hkn) d_KG_put_61 (fun H locs hd => ?_)
      refine lv_aload_n hx hb d_KG_put_64 rfl (lv_at hl 3 rfl) ?_
      refine lv_iconst (v := 0) hx hb d_KG_put_65 (by decide) ?_
      refine zputN (Z' := (sn (si (sn (si (sn (sc Z 7 u (xn Z 9 u) (k + 1)) 9 u ((xn Z 9 u) + 1)) 8 k (nI u)) 6 k 0) 9 k 1) 5 k 0)) (v := .int 0) hC hd (e_key hkn) rfl i_Key t_Key t_Key_ok n_Key 14 (by decide) z_133 rfl rfl rfl rfl (Nat.le_of_ble_eq_true rfl) (u_askingC hkn) d_KG_put_66 (fun H locs hd => ?_)
      refine lv_aload_n hx hb d_KG_put_69 rfl (lv_at hl 3 rfl) ?_
      refine zgetN hC hd (e_key hkn) rfl i_Key 1 (by decide) z_116 (Or.inl rfl) (v := .ref (ad 2 k)) (congrArg (fun q => some (va_rf q)) (if_neg hlf)) d_KG_put_70 ?_
      refine lv_aload_n hx hb d_KG_put_73 rfl (lv_at hl 3 rfl) ?_
      refine zgetN hC hd (e_key hkn) rfl i_Key 2 (by decide) z_118 (Or.inl rfl) (v := .ref (ad 3 (k + 2))) rfl d_KG_put_74 ?_
      refine zb_i (r := (nI (xn Z 2 (k + 2)))) hd (zrunV (n := 0) (rest := [.ref (ad 2 k)]) hC hd (e_list (hX.l hkn)) rfl (c_AL_size l G ad ow (sn (si (sn (si (sn (sc Z 7 u (xn Z 9 u) (k + 1)) 9 u ((xn Z 9 u) + 1)) 8 k (nI u)) 6 k 0) 9 k 1) 5 k 0) (k + 2) (hX.l hkn)) q_101 q_102 q_103 q_4 q_104 rfl rfl rfl (by decide +kernel) ⟨by decide, by decide⟩ rfl hl.1 (Nat.le_of_ble_eq_true rfl) d_KG_put_77 ⟨by decide, by decide⟩) (fun H locs hd => ?_)
      refine zb_v hd (zrunU (owner := "KeyGraph$Function") (n := 1) (rest := []) hC hd (e_f0 (hX.fn hkn) hk) rfl (c_Fun_begin0 l G ad ow (sn (si (sn (si (sn (sc Z 7 u (xn Z 9 u) (k + 1)) 9 u ((xn Z 9 u) + 1)) 8 k (nI u)) 6 k 0) 9 k 1) 5 k 0) k (hX.fn hkn) hk (xn Z 2 (k + 2))) q_429 q_431 q_442 q_430 q_12 q_443 rfl rfl rfl rfl (by decide +kernel) ⟨by decide, by decide⟩ rfl hl.1 (Nat.le_of_ble_eq_true rfl) d_KG_put_80 ⟨by decide, by decide⟩) (fun H locs hd => ?_)
      exact zfv hC hd hr hlk d_KG_put_83 (by unfold x_put x_begin; rw [show xn (x_putA Z u k) 1 k = 0 from hk]; unfold x_putA x_chkV; (repeat (first | (rw [if_pos]; rotate_left; first | assumption | decide) | (rw [if_neg]; rotate_left; first | assumption | decide))) <;> (try rfl))
set_option maxHeartbeats 4000000 in
theorem c_KG_put1 (l : Launch) (G : Gt) (ad : Nat → Nat → Nat) (ow : Nat → Nat × Nat) (Z : Zt) (hX : XS Z) (u k : Nat) (hu : u < 5) (hkn : k < xn Z 0 1) (hps : xn Z 9 u < 40) (hk : xn Z 1 k = 1) : Met l y_KG_put w_KG_put ({ frames := 2, cells := 0, slots := 0, locals := 42 }) (zPc G ad ow Z [.ref (ad 0 0), .int (nI u), .ref (ad 1 k)]) (Qd G ad ow (x_put Z u k) (none)) 0 0 (zA G) := by
  refine zopen (cc := b_KG_put) (maxL := 4) (ret := none) (by decide) rfl (Nat.le_of_ble_eq_true rfl) ?_
  intro p e s m below meth c ls hC hr hlk hnm hd hl
  have hC : Cx G p c m s _ "KeyGraph" b_KG_put 4 := hC
  have hl : lv_has ls 4 [(0, .ref (ad 0 0)), (1, .int (nI u)), (2, .ref (ad 1 k))] := hl
  have hx := hC.1
  have hb := hC.2.1
  have hlf : ¬ xn Z 1 k = 6 := by omega
  have h8 := (hX.2.2.2.1 k hkn).1
  refine lv_aload_n hx hb d_KG_put_0 rfl (lv_at hl 0 rfl) ?_
  refine zget hC hd (e_kg hX.kg) rfl i_KG 1 (by decide) q_81 (Or.inl rfl) (v := .ref (ad 8 0)) rfl d_KG_put_1 ?_
  refine lv_iload_n hx hb d_KG_put_4 rfl (lv_at hl 1 rfl) ?_
  refine zaaP (k := u) hC hd (e_piles hX.ps) (by omega) (by decide) rfl d_KG_put_5 ?_
  refine lv_astore_n (lv' := [(3, .ref (ad 6 u)), (0, .ref (ad 0 0)), (1, .int (nI u)), (2, .ref (ad 1 k))]) hx hb d_KG_put_6 rfl hl (by decide) rfl (fun ls hl => ?_)
  refine lv_aload_n hx hb d_KG_put_7 rfl (lv_at hl 0 rfl) ?_
  refine zgetN hC hd (e_pile (hX.pl hu)) rfl i_Pile 0 (by decide) z_72 (Or.inl rfl) (v := .ref (ad 7 u)) rfl d_KG_put_8 ?_
  refine lv_aload_n hx hb d_KG_put_11 rfl (lv_at hl 0 rfl) ?_
  refine zgetN hC hd (e_pile (hX.pl hu)) rfl i_Pile 1 (by decide) z_74 (Or.inl rfl) (v := .int (nI (xn Z 9 u))) rfl d_KG_put_12 ?_
  refine lv_aload_n hx hb d_KG_put_15 rfl (lv_at hl 3 rfl) ?_
  refine zasK (j := xn Z 9 u) (Z' := (sc Z 7 u (xn Z 9 u) (k + 1))) hC hd (e_pka (hX.pa hu)) (e_key hkn) (by omega) (by decide) (u_pka (hX.pa hu)) d_KG_put_16 (fun H locs hd => ?_)
  refine lv_aload_n hx hb d_KG_put_17 rfl (lv_at hl 0 rfl) ?_
  refine lv_dup hx hb d_KG_put_18 rfl ?_
  refine zgetN hC hd (e_pile (hX.pl hu)) rfl i_Pile 1 (by decide) z_74 (Or.inl rfl) (v := .int (nI (xn Z 9 u))) rfl d_KG_put_19 ?_
  refine lv_iconst (v := 1) hx hb d_KG_put_22 (by decide) ?_
  refine zaddN (x := xn Z 9 u) (y := 1) hx hb d_KG_put_23 ?_
  refine zputN (Z' := (sn (sc Z 7 u (xn Z 9 u) (k + 1)) 9 u ((xn Z 9 u) + 1))) (v := .int (nI ((xn Z 9 u) + 1))) hC hd (e_pile (hX.pl hu)) rfl i_Pile t_Pile t_Pile_ok n_Pile 1 (by decide) z_74 rfl rfl rfl rfl (Nat.le_of_ble_eq_true rfl) (u_psz (hX.pl hu)) d_KG_put_24 (fun H locs hd => ?_)
  refine lv_aload_n hx hb d_KG_put_27 rfl (lv_at hl 3 rfl) ?_
  refine lv_iload_n hx hb d_KG_put_28 rfl (lv_at hl 2 rfl) ?_
  refine zputN (Z' := (si (sn (sc Z 7 u (xn Z 9 u) (k + 1)) 9 u ((xn Z 9 u) + 1)) 8 k (nI u))) (v := .int (nI u)) hC hd (e_key hkn) rfl i_Key t_Key t_Key_ok n_Key 15 (by decide) z_135 rfl rfl rfl rfl (Nat.le_of_ble_eq_true rfl) (u_worker hkn) d_KG_put_29 (fun H locs hd => ?_)
  refine lv_aload_n hx hb d_KG_put_32 rfl (lv_at hl 3 rfl) ?_
  refine lv_iconst (v := 0) hx hb d_KG_put_33 (by decide) ?_
  refine zputN (Z' := (sn (si (sn (sc Z 7 u (xn Z 9 u) (k + 1)) 9 u ((xn Z 9 u) + 1)) 8 k (nI u)) 6 k 0)) (v := .int 0) hC hd (e_key hkn) rfl i_Key t_Key t_Key_ok n_Key 16 (by decide) z_136 rfl rfl rfl rfl (Nat.le_of_ble_eq_true rfl) (u_at hkn) d_KG_put_34 (fun H locs hd => ?_)
  refine lv_aload_n hx hb d_KG_put_37 rfl (lv_at hl 3 rfl) ?_
  refine lv_aload_n hx hb d_KG_put_38 rfl (lv_at hl 3 rfl) ?_
  refine zgetN hC hd (e_key hkn) rfl i_Key 3 (by decide) z_119 (Or.inl rfl) (v := .int (xi Z 1 k)) rfl d_KG_put_39 ?_
  refine lv_if_le (tgt := 60) hx hb d_KG_put_42 (by decide) (fun c42 => ?_) (fun c42 => ?_)
  · refine lv_iconst (v := 0) hx hb d_KG_put_60 (by decide) ?_
    refine zputN (Z' := (si (sn (si (sn (sc Z 7 u (xn Z 9 u) (k + 1)) 9 u ((xn Z 9 u) + 1)) 8 k (nI u)) 6 k 0) 9 k 0)) (v := .int 0) hC hd (e_key hkn) rfl i_Key t_Key t_Key_ok n_Key 17 (by decide) z_137 rfl rfl (zbool (by decide)) (zboolf (by decide)) (Nat.le_of_ble_eq_true rfl) (u_checks hkn) d_KG_put_61 (fun H locs hd => ?_)
    refine lv_aload_n hx hb d_KG_put_64 rfl (lv_at hl 3 rfl) ?_
    refine lv_iconst (v := 0) hx hb d_KG_put_65 (by decide) ?_
    refine zputN (Z' := (sn (si (sn (si (sn (sc Z 7 u (xn Z 9 u) (k + 1)) 9 u ((xn Z 9 u) + 1)) 8 k (nI u)) 6 k 0) 9 k 0) 5 k 0)) (v := .int 0) hC hd (e_key hkn) rfl i_Key t_Key t_Key_ok n_Key 14 (by decide) z_133 rfl rfl rfl rfl (Nat.le_of_ble_eq_true rfl) (u_askingC hkn) d_KG_put_66 (fun H locs hd => ?_)
    refine lv_aload_n hx hb d_KG_put_69 rfl (lv_at hl 3 rfl) ?_
    refine zgetN hC hd (e_key hkn) rfl i_Key 1 (by decide) z_116 (Or.inl rfl) (v := .ref (ad 2 k)) (congrArg (fun q => some (va_rf q)) (if_neg hlf)) d_KG_put_70 ?_
    refine lv_aload_n hx hb d_KG_put_73 rfl (lv_at hl 3 rfl) ?_
    refine zgetN hC hd (e_key hkn) rfl i_Key 2 (by decide) z_118 (Or.inl rfl) (v := .ref (ad 3 (k + 2))) rfl d_KG_put_74 ?_
    refine zb_i (r := (nI (xn Z 2 (k + 2)))) hd (zrunV (n := 0) (rest := [.ref (ad 2 k)]) hC hd (e_list (hX.l hkn)) rfl (c_AL_size l G ad ow (sn (si (sn (si (sn (sc Z 7 u (xn Z 9 u) (k + 1)) 9 u ((xn Z 9 u) + 1)) 8 k (nI u)) 6 k 0) 9 k 0) 5 k 0) (k + 2) (hX.l hkn)) q_101 q_102 q_103 q_4 q_104 rfl rfl rfl (by decide +kernel) ⟨by decide, by decide⟩ rfl hl.1 (Nat.le_of_ble_eq_true rfl) d_KG_put_77 ⟨by decide, by decide⟩) (fun H locs hd => ?_)
    refine zb_v hd (zrunU (owner := "KeyGraph$Function") (n := 1) (rest := []) hC hd (e_f1 (hX.fn hkn) hk) rfl (c_Fun_begin1 l G ad ow (sn (si (sn (si (sn (sc Z 7 u (xn Z 9 u) (k + 1)) 9 u ((xn Z 9 u) + 1)) 8 k (nI u)) 6 k 0) 9 k 0) 5 k 0) k (hX.fn hkn) hk (xn Z 2 (k + 2))) q_429 q_431 q_436 q_430 q_12 q_443 rfl rfl rfl rfl (by decide +kernel) ⟨by decide, by decide⟩ rfl hl.1 (Nat.le_of_ble_eq_true rfl) d_KG_put_80 ⟨by decide, by decide⟩) (fun H locs hd => ?_)
    exact zfv hC hd hr hlk d_KG_put_83 (by unfold x_put x_begin; rw [show xn (x_putA Z u k) 1 k = 1 from hk]; unfold x_putA x_chkV; (repeat (first | (rw [if_pos]; rotate_left; first | assumption | decide) | (rw [if_neg]; rotate_left; first | assumption | decide))) <;> (try rfl))
  · refine lv_aload_n hx hb d_KG_put_45 rfl (lv_at hl 3 rfl) ?_
    refine zgetN hC hd (e_key hkn) rfl i_Key 7 (by decide) z_124 (Or.inl rfl) (v := .int (xi Z 4 k)) rfl d_KG_put_46 ?_
    refine lv_aload_n hx hb d_KG_put_49 rfl (lv_at hl 3 rfl) ?_
    refine zgetN hC hd (e_key hkn) rfl i_Key 6 (by decide) z_123 (Or.inl rfl) (v := .int (xi Z 3 k)) rfl d_KG_put_50 ?_
    refine lv_icmp_gt (tgt := 60) hx hb d_KG_put_53 (by decide) (fun c53 => ?_) (fun c53 => ?_)
    · refine lv_iconst (v := 0) hx hb d_KG_put_60 (by decide) ?_
      refine zputN (Z' := (si (sn (si (sn (sc Z 7 u (xn Z 9 u) (k + 1)) 9 u ((xn Z 9 u) + 1)) 8 k (nI u)) 6 k 0) 9 k 0)) (v := .int 0) hC hd (e_key hkn) rfl i_Key t_Key t_Key_ok n_Key 17 (by decide) z_137 rfl rfl (zbool (by decide)) (zboolf (by decide)) (Nat.le_of_ble_eq_true rfl) (u_checks hkn) d_KG_put_61 (fun H locs hd => ?_)
      refine lv_aload_n hx hb d_KG_put_64 rfl (lv_at hl 3 rfl) ?_
      refine lv_iconst (v := 0) hx hb d_KG_put_65 (by decide) ?_
      refine zputN (Z' := (sn (si (sn (si (sn (sc Z 7 u (xn Z 9 u) (k + 1)) 9 u ((xn Z 9 u) + 1)) 8 k (nI u)) 6 k 0) 9 k 0) 5 k 0)) (v := .int 0) hC hd (e_key hkn) rfl i_Key t_Key t_Key_ok n_Key 14 (by decide) z_133 rfl rfl rfl rfl (Nat.le_of_ble_eq_true rfl) (u_askingC hkn) d_KG_put_66 (fun H locs hd => ?_)
      refine lv_aload_n hx hb d_KG_put_69 rfl (lv_at hl 3 rfl) ?_
      refine zgetN hC hd (e_key hkn) rfl i_Key 1 (by decide) z_116 (Or.inl rfl) (v := .ref (ad 2 k)) (congrArg (fun q => some (va_rf q)) (if_neg hlf)) d_KG_put_70 ?_
      refine lv_aload_n hx hb d_KG_put_73 rfl (lv_at hl 3 rfl) ?_
      refine zgetN hC hd (e_key hkn) rfl i_Key 2 (by decide) z_118 (Or.inl rfl) (v := .ref (ad 3 (k + 2))) rfl d_KG_put_74 ?_
      refine zb_i (r := (nI (xn Z 2 (k + 2)))) hd (zrunV (n := 0) (rest := [.ref (ad 2 k)]) hC hd (e_list (hX.l hkn)) rfl (c_AL_size l G ad ow (sn (si (sn (si (sn (sc Z 7 u (xn Z 9 u) (k + 1)) 9 u ((xn Z 9 u) + 1)) 8 k (nI u)) 6 k 0) 9 k 0) 5 k 0) (k + 2) (hX.l hkn)) q_101 q_102 q_103 q_4 q_104 rfl rfl rfl (by decide +kernel) ⟨by decide, by decide⟩ rfl hl.1 (Nat.le_of_ble_eq_true rfl) d_KG_put_77 ⟨by decide, by decide⟩) (fun H locs hd => ?_)
      refine zb_v hd (zrunU (owner := "KeyGraph$Function") (n := 1) (rest := []) hC hd (e_f1 (hX.fn hkn) hk) rfl (c_Fun_begin1 l G ad ow (sn (si (sn (si (sn (sc Z 7 u (xn Z 9 u) (k + 1)) 9 u ((xn Z 9 u) + 1)) 8 k (nI u)) 6 k 0) 9 k 0) 5 k 0) k (hX.fn hkn) hk (xn Z 2 (k + 2))) q_429 q_431 q_436 q_430 q_12 q_443 rfl rfl rfl rfl (by decide +kernel) ⟨by decide, by decide⟩ rfl hl.1 (Nat.le_of_ble_eq_true rfl) d_KG_put_80 ⟨by decide, by decide⟩) (fun H locs hd => ?_)
      exact zfv hC hd hr hlk d_KG_put_83 (by unfold x_put x_begin; rw [show xn (x_putA Z u k) 1 k = 1 from hk]; unfold x_putA x_chkV; (repeat (first | (rw [if_pos]; rotate_left; first | assumption | decide) | (rw [if_neg]; rotate_left; first | assumption | decide))) <;> (try rfl))
    · refine lv_iconst (v := 1) hx hb d_KG_put_56 (by decide) ?_
      refine lv_goto (tgt := 61) hx hb d_KG_put_57 (by decide) ?_
      refine zputN (Z' := (si (sn (si (sn (sc Z 7 u (xn Z 9 u) (k + 1)) 9 u ((xn Z 9 u) + 1)) 8 k (nI u)) 6 k 0) 9 k 1)) (v := .int 1) hC hd (e_key hkn) rfl i_Key t_Key t_Key_ok n_Key 17 (by decide) z_137 rfl rfl (zbool (by decide)) (zboolf (by decide)) (Nat.le_of_ble_eq_true rfl) (u_checks hkn) d_KG_put_61 (fun H locs hd => ?_)
      refine lv_aload_n hx hb d_KG_put_64 rfl (lv_at hl 3 rfl) ?_
      refine lv_iconst (v := 0) hx hb d_KG_put_65 (by decide) ?_
      refine zputN (Z' := (sn (si (sn (si (sn (sc Z 7 u (xn Z 9 u) (k + 1)) 9 u ((xn Z 9 u) + 1)) 8 k (nI u)) 6 k 0) 9 k 1) 5 k 0)) (v := .int 0) hC hd (e_key hkn) rfl i_Key t_Key t_Key_ok n_Key 14 (by decide) z_133 rfl rfl rfl rfl (Nat.le_of_ble_eq_true rfl) (u_askingC hkn) d_KG_put_66 (fun H locs hd => ?_)
      refine lv_aload_n hx hb d_KG_put_69 rfl (lv_at hl 3 rfl) ?_
      refine zgetN hC hd (e_key hkn) rfl i_Key 1 (by decide) z_116 (Or.inl rfl) (v := .ref (ad 2 k)) (congrArg (fun q => some (va_rf q)) (if_neg hlf)) d_KG_put_70 ?_
      refine lv_aload_n hx hb d_KG_put_73 rfl (lv_at hl 3 rfl) ?_
      refine zgetN hC hd (e_key hkn) rfl i_Key 2 (by decide) z_118 (Or.inl rfl) (v := .ref (ad 3 (k + 2))) rfl d_KG_put_74 ?_
      refine zb_i (r := (nI (xn Z 2 (k + 2)))) hd (zrunV (n := 0) (rest := [.ref (ad 2 k)]) hC hd (e_list (hX.l hkn)) rfl (c_AL_size l G ad ow (sn (si (sn (si (sn (sc Z 7 u (xn Z 9 u) (k + 1)) 9 u ((xn Z 9 u) + 1)) 8 k (nI u)) 6 k 0) 9 k 1) 5 k 0) (k + 2) (hX.l hkn)) q_101 q_102 q_103 q_4 q_104 rfl rfl rfl (by decide +kernel) ⟨by decide, by decide⟩ rfl hl.1 (Nat.le_of_ble_eq_true rfl) d_KG_put_77 ⟨by decide, by decide⟩) (fun H locs hd => ?_)
      refine zb_v hd (zrunU (owner := "KeyGraph$Function") (n := 1) (rest := []) hC hd (e_f1 (hX.fn hkn) hk) rfl (c_Fun_begin1 l G ad ow (sn (si (sn (si (sn (sc Z 7 u (xn Z 9 u) (k + 1)) 9 u ((xn Z 9 u) + 1)) 8 k (nI u)) 6 k 0) 9 k 1) 5 k 0) k (hX.fn hkn) hk (xn Z 2 (k + 2))) q_429 q_431 q_436 q_430 q_12 q_443 rfl rfl rfl rfl (by decide +kernel) ⟨by decide, by decide⟩ rfl hl.1 (Nat.le_of_ble_eq_true rfl) d_KG_put_80 ⟨by decide, by decide⟩) (fun H locs hd => ?_)
      exact zfv hC hd hr hlk d_KG_put_83 (by unfold x_put x_begin; rw [show xn (x_putA Z u k) 1 k = 1 from hk]; unfold x_putA x_chkV; (repeat (first | (rw [if_pos]; rotate_left; first | assumption | decide) | (rw [if_neg]; rotate_left; first | assumption | decide))) <;> (try rfl))
set_option maxHeartbeats 4000000 in
theorem c_KG_put2 (l : Launch) (G : Gt) (ad : Nat → Nat → Nat) (ow : Nat → Nat × Nat) (Z : Zt) (hX : XS Z) (u k : Nat) (hu : u < 5) (hkn : k < xn Z 0 1) (hps : xn Z 9 u < 40) (hk : xn Z 1 k = 2) : Met l y_KG_put w_KG_put ({ frames := 2, cells := 0, slots := 0, locals := 42 }) (zPc G ad ow Z [.ref (ad 0 0), .int (nI u), .ref (ad 1 k)]) (Qd G ad ow (x_put Z u k) (none)) 0 0 (zA G) := by
  refine zopen (cc := b_KG_put) (maxL := 4) (ret := none) (by decide) rfl (Nat.le_of_ble_eq_true rfl) ?_
  intro p e s m below meth c ls hC hr hlk hnm hd hl
  have hC : Cx G p c m s _ "KeyGraph" b_KG_put 4 := hC
  have hl : lv_has ls 4 [(0, .ref (ad 0 0)), (1, .int (nI u)), (2, .ref (ad 1 k))] := hl
  have hx := hC.1
  have hb := hC.2.1
  have hlf : ¬ xn Z 1 k = 6 := by omega
  have h8 := (hX.2.2.2.1 k hkn).1
  refine lv_aload_n hx hb d_KG_put_0 rfl (lv_at hl 0 rfl) ?_
  refine zget hC hd (e_kg hX.kg) rfl i_KG 1 (by decide) q_81 (Or.inl rfl) (v := .ref (ad 8 0)) rfl d_KG_put_1 ?_
  refine lv_iload_n hx hb d_KG_put_4 rfl (lv_at hl 1 rfl) ?_
  refine zaaP (k := u) hC hd (e_piles hX.ps) (by omega) (by decide) rfl d_KG_put_5 ?_
  refine lv_astore_n (lv' := [(3, .ref (ad 6 u)), (0, .ref (ad 0 0)), (1, .int (nI u)), (2, .ref (ad 1 k))]) hx hb d_KG_put_6 rfl hl (by decide) rfl (fun ls hl => ?_)
  refine lv_aload_n hx hb d_KG_put_7 rfl (lv_at hl 0 rfl) ?_
  refine zgetN hC hd (e_pile (hX.pl hu)) rfl i_Pile 0 (by decide) z_72 (Or.inl rfl) (v := .ref (ad 7 u)) rfl d_KG_put_8 ?_
  refine lv_aload_n hx hb d_KG_put_11 rfl (lv_at hl 0 rfl) ?_
  refine zgetN hC hd (e_pile (hX.pl hu)) rfl i_Pile 1 (by decide) z_74 (Or.inl rfl) (v := .int (nI (xn Z 9 u))) rfl d_KG_put_12 ?_
  refine lv_aload_n hx hb d_KG_put_15 rfl (lv_at hl 3 rfl) ?_
  refine zasK (j := xn Z 9 u) (Z' := (sc Z 7 u (xn Z 9 u) (k + 1))) hC hd (e_pka (hX.pa hu)) (e_key hkn) (by omega) (by decide) (u_pka (hX.pa hu)) d_KG_put_16 (fun H locs hd => ?_)
  refine lv_aload_n hx hb d_KG_put_17 rfl (lv_at hl 0 rfl) ?_
  refine lv_dup hx hb d_KG_put_18 rfl ?_
  refine zgetN hC hd (e_pile (hX.pl hu)) rfl i_Pile 1 (by decide) z_74 (Or.inl rfl) (v := .int (nI (xn Z 9 u))) rfl d_KG_put_19 ?_
  refine lv_iconst (v := 1) hx hb d_KG_put_22 (by decide) ?_
  refine zaddN (x := xn Z 9 u) (y := 1) hx hb d_KG_put_23 ?_
  refine zputN (Z' := (sn (sc Z 7 u (xn Z 9 u) (k + 1)) 9 u ((xn Z 9 u) + 1))) (v := .int (nI ((xn Z 9 u) + 1))) hC hd (e_pile (hX.pl hu)) rfl i_Pile t_Pile t_Pile_ok n_Pile 1 (by decide) z_74 rfl rfl rfl rfl (Nat.le_of_ble_eq_true rfl) (u_psz (hX.pl hu)) d_KG_put_24 (fun H locs hd => ?_)
  refine lv_aload_n hx hb d_KG_put_27 rfl (lv_at hl 3 rfl) ?_
  refine lv_iload_n hx hb d_KG_put_28 rfl (lv_at hl 2 rfl) ?_
  refine zputN (Z' := (si (sn (sc Z 7 u (xn Z 9 u) (k + 1)) 9 u ((xn Z 9 u) + 1)) 8 k (nI u))) (v := .int (nI u)) hC hd (e_key hkn) rfl i_Key t_Key t_Key_ok n_Key 15 (by decide) z_135 rfl rfl rfl rfl (Nat.le_of_ble_eq_true rfl) (u_worker hkn) d_KG_put_29 (fun H locs hd => ?_)
  refine lv_aload_n hx hb d_KG_put_32 rfl (lv_at hl 3 rfl) ?_
  refine lv_iconst (v := 0) hx hb d_KG_put_33 (by decide) ?_
  refine zputN (Z' := (sn (si (sn (sc Z 7 u (xn Z 9 u) (k + 1)) 9 u ((xn Z 9 u) + 1)) 8 k (nI u)) 6 k 0)) (v := .int 0) hC hd (e_key hkn) rfl i_Key t_Key t_Key_ok n_Key 16 (by decide) z_136 rfl rfl rfl rfl (Nat.le_of_ble_eq_true rfl) (u_at hkn) d_KG_put_34 (fun H locs hd => ?_)
  refine lv_aload_n hx hb d_KG_put_37 rfl (lv_at hl 3 rfl) ?_
  refine lv_aload_n hx hb d_KG_put_38 rfl (lv_at hl 3 rfl) ?_
  refine zgetN hC hd (e_key hkn) rfl i_Key 3 (by decide) z_119 (Or.inl rfl) (v := .int (xi Z 1 k)) rfl d_KG_put_39 ?_
  refine lv_if_le (tgt := 60) hx hb d_KG_put_42 (by decide) (fun c42 => ?_) (fun c42 => ?_)
  · refine lv_iconst (v := 0) hx hb d_KG_put_60 (by decide) ?_
    refine zputN (Z' := (si (sn (si (sn (sc Z 7 u (xn Z 9 u) (k + 1)) 9 u ((xn Z 9 u) + 1)) 8 k (nI u)) 6 k 0) 9 k 0)) (v := .int 0) hC hd (e_key hkn) rfl i_Key t_Key t_Key_ok n_Key 17 (by decide) z_137 rfl rfl (zbool (by decide)) (zboolf (by decide)) (Nat.le_of_ble_eq_true rfl) (u_checks hkn) d_KG_put_61 (fun H locs hd => ?_)
    refine lv_aload_n hx hb d_KG_put_64 rfl (lv_at hl 3 rfl) ?_
    refine lv_iconst (v := 0) hx hb d_KG_put_65 (by decide) ?_
    refine zputN (Z' := (sn (si (sn (si (sn (sc Z 7 u (xn Z 9 u) (k + 1)) 9 u ((xn Z 9 u) + 1)) 8 k (nI u)) 6 k 0) 9 k 0) 5 k 0)) (v := .int 0) hC hd (e_key hkn) rfl i_Key t_Key t_Key_ok n_Key 14 (by decide) z_133 rfl rfl rfl rfl (Nat.le_of_ble_eq_true rfl) (u_askingC hkn) d_KG_put_66 (fun H locs hd => ?_)
    refine lv_aload_n hx hb d_KG_put_69 rfl (lv_at hl 3 rfl) ?_
    refine zgetN hC hd (e_key hkn) rfl i_Key 1 (by decide) z_116 (Or.inl rfl) (v := .ref (ad 2 k)) (congrArg (fun q => some (va_rf q)) (if_neg hlf)) d_KG_put_70 ?_
    refine lv_aload_n hx hb d_KG_put_73 rfl (lv_at hl 3 rfl) ?_
    refine zgetN hC hd (e_key hkn) rfl i_Key 2 (by decide) z_118 (Or.inl rfl) (v := .ref (ad 3 (k + 2))) rfl d_KG_put_74 ?_
    refine zb_i (r := (nI (xn Z 2 (k + 2)))) hd (zrunV (n := 0) (rest := [.ref (ad 2 k)]) hC hd (e_list (hX.l hkn)) rfl (c_AL_size l G ad ow (sn (si (sn (si (sn (sc Z 7 u (xn Z 9 u) (k + 1)) 9 u ((xn Z 9 u) + 1)) 8 k (nI u)) 6 k 0) 9 k 0) 5 k 0) (k + 2) (hX.l hkn)) q_101 q_102 q_103 q_4 q_104 rfl rfl rfl (by decide +kernel) ⟨by decide, by decide⟩ rfl hl.1 (Nat.le_of_ble_eq_true rfl) d_KG_put_77 ⟨by decide, by decide⟩) (fun H locs hd => ?_)
    refine zb_v hd (zrunO (owner := "KeyGraph$Function") (n := 1) (rest := []) hC hd (e_f2 (hX.fn hkn) hk) rfl (c_Choice_begin l G ad ow (sn (si (sn (si (sn (sc Z 7 u (xn Z 9 u) (k + 1)) 9 u ((xn Z 9 u) + 1)) 8 k (nI u)) 6 k 0) 9 k 0) 5 k 0) k (hX.fn hkn) hk (xn Z 2 (k + 2))) q_429 q_431 q_430 q_432 q_433 q_15 q_434 q_443 rfl rfl rfl (by decide +kernel) ⟨by decide, by decide⟩ rfl hl.1 (Nat.le_of_ble_eq_true rfl) d_KG_put_80 ⟨by decide, by decide⟩) (fun H locs hd => ?_)
    exact zfv hC hd hr hlk d_KG_put_83 (by unfold x_put x_putA x_chkV; (repeat (first | (rw [if_pos]; rotate_left; first | assumption | decide) | (rw [if_neg]; rotate_left; first | assumption | decide))) <;> (try rfl))
  · refine lv_aload_n hx hb d_KG_put_45 rfl (lv_at hl 3 rfl) ?_
    refine zgetN hC hd (e_key hkn) rfl i_Key 7 (by decide) z_124 (Or.inl rfl) (v := .int (xi Z 4 k)) rfl d_KG_put_46 ?_
    refine lv_aload_n hx hb d_KG_put_49 rfl (lv_at hl 3 rfl) ?_
    refine zgetN hC hd (e_key hkn) rfl i_Key 6 (by decide) z_123 (Or.inl rfl) (v := .int (xi Z 3 k)) rfl d_KG_put_50 ?_
    refine lv_icmp_gt (tgt := 60) hx hb d_KG_put_53 (by decide) (fun c53 => ?_) (fun c53 => ?_)
    · refine lv_iconst (v := 0) hx hb d_KG_put_60 (by decide) ?_
      refine zputN (Z' := (si (sn (si (sn (sc Z 7 u (xn Z 9 u) (k + 1)) 9 u ((xn Z 9 u) + 1)) 8 k (nI u)) 6 k 0) 9 k 0)) (v := .int 0) hC hd (e_key hkn) rfl i_Key t_Key t_Key_ok n_Key 17 (by decide) z_137 rfl rfl (zbool (by decide)) (zboolf (by decide)) (Nat.le_of_ble_eq_true rfl) (u_checks hkn) d_KG_put_61 (fun H locs hd => ?_)
      refine lv_aload_n hx hb d_KG_put_64 rfl (lv_at hl 3 rfl) ?_
      refine lv_iconst (v := 0) hx hb d_KG_put_65 (by decide) ?_
      refine zputN (Z' := (sn (si (sn (si (sn (sc Z 7 u (xn Z 9 u) (k + 1)) 9 u ((xn Z 9 u) + 1)) 8 k (nI u)) 6 k 0) 9 k 0) 5 k 0)) (v := .int 0) hC hd (e_key hkn) rfl i_Key t_Key t_Key_ok n_Key 14 (by decide) z_133 rfl rfl rfl rfl (Nat.le_of_ble_eq_true rfl) (u_askingC hkn) d_KG_put_66 (fun H locs hd => ?_)
      refine lv_aload_n hx hb d_KG_put_69 rfl (lv_at hl 3 rfl) ?_
      refine zgetN hC hd (e_key hkn) rfl i_Key 1 (by decide) z_116 (Or.inl rfl) (v := .ref (ad 2 k)) (congrArg (fun q => some (va_rf q)) (if_neg hlf)) d_KG_put_70 ?_
      refine lv_aload_n hx hb d_KG_put_73 rfl (lv_at hl 3 rfl) ?_
      refine zgetN hC hd (e_key hkn) rfl i_Key 2 (by decide) z_118 (Or.inl rfl) (v := .ref (ad 3 (k + 2))) rfl d_KG_put_74 ?_
      refine zb_i (r := (nI (xn Z 2 (k + 2)))) hd (zrunV (n := 0) (rest := [.ref (ad 2 k)]) hC hd (e_list (hX.l hkn)) rfl (c_AL_size l G ad ow (sn (si (sn (si (sn (sc Z 7 u (xn Z 9 u) (k + 1)) 9 u ((xn Z 9 u) + 1)) 8 k (nI u)) 6 k 0) 9 k 0) 5 k 0) (k + 2) (hX.l hkn)) q_101 q_102 q_103 q_4 q_104 rfl rfl rfl (by decide +kernel) ⟨by decide, by decide⟩ rfl hl.1 (Nat.le_of_ble_eq_true rfl) d_KG_put_77 ⟨by decide, by decide⟩) (fun H locs hd => ?_)
      refine zb_v hd (zrunO (owner := "KeyGraph$Function") (n := 1) (rest := []) hC hd (e_f2 (hX.fn hkn) hk) rfl (c_Choice_begin l G ad ow (sn (si (sn (si (sn (sc Z 7 u (xn Z 9 u) (k + 1)) 9 u ((xn Z 9 u) + 1)) 8 k (nI u)) 6 k 0) 9 k 0) 5 k 0) k (hX.fn hkn) hk (xn Z 2 (k + 2))) q_429 q_431 q_430 q_432 q_433 q_15 q_434 q_443 rfl rfl rfl (by decide +kernel) ⟨by decide, by decide⟩ rfl hl.1 (Nat.le_of_ble_eq_true rfl) d_KG_put_80 ⟨by decide, by decide⟩) (fun H locs hd => ?_)
      exact zfv hC hd hr hlk d_KG_put_83 (by unfold x_put x_putA x_chkV; (repeat (first | (rw [if_pos]; rotate_left; first | assumption | decide) | (rw [if_neg]; rotate_left; first | assumption | decide))) <;> (try rfl))
    · refine lv_iconst (v := 1) hx hb d_KG_put_56 (by decide) ?_
      refine lv_goto (tgt := 61) hx hb d_KG_put_57 (by decide) ?_
      refine zputN (Z' := (si (sn (si (sn (sc Z 7 u (xn Z 9 u) (k + 1)) 9 u ((xn Z 9 u) + 1)) 8 k (nI u)) 6 k 0) 9 k 1)) (v := .int 1) hC hd (e_key hkn) rfl i_Key t_Key t_Key_ok n_Key 17 (by decide) z_137 rfl rfl (zbool (by decide)) (zboolf (by decide)) (Nat.le_of_ble_eq_true rfl) (u_checks hkn) d_KG_put_61 (fun H locs hd => ?_)
      refine lv_aload_n hx hb d_KG_put_64 rfl (lv_at hl 3 rfl) ?_
      refine lv_iconst (v := 0) hx hb d_KG_put_65 (by decide) ?_
      refine zputN (Z' := (sn (si (sn (si (sn (sc Z 7 u (xn Z 9 u) (k + 1)) 9 u ((xn Z 9 u) + 1)) 8 k (nI u)) 6 k 0) 9 k 1) 5 k 0)) (v := .int 0) hC hd (e_key hkn) rfl i_Key t_Key t_Key_ok n_Key 14 (by decide) z_133 rfl rfl rfl rfl (Nat.le_of_ble_eq_true rfl) (u_askingC hkn) d_KG_put_66 (fun H locs hd => ?_)
      refine lv_aload_n hx hb d_KG_put_69 rfl (lv_at hl 3 rfl) ?_
      refine zgetN hC hd (e_key hkn) rfl i_Key 1 (by decide) z_116 (Or.inl rfl) (v := .ref (ad 2 k)) (congrArg (fun q => some (va_rf q)) (if_neg hlf)) d_KG_put_70 ?_
      refine lv_aload_n hx hb d_KG_put_73 rfl (lv_at hl 3 rfl) ?_
      refine zgetN hC hd (e_key hkn) rfl i_Key 2 (by decide) z_118 (Or.inl rfl) (v := .ref (ad 3 (k + 2))) rfl d_KG_put_74 ?_
      refine zb_i (r := (nI (xn Z 2 (k + 2)))) hd (zrunV (n := 0) (rest := [.ref (ad 2 k)]) hC hd (e_list (hX.l hkn)) rfl (c_AL_size l G ad ow (sn (si (sn (si (sn (sc Z 7 u (xn Z 9 u) (k + 1)) 9 u ((xn Z 9 u) + 1)) 8 k (nI u)) 6 k 0) 9 k 1) 5 k 0) (k + 2) (hX.l hkn)) q_101 q_102 q_103 q_4 q_104 rfl rfl rfl (by decide +kernel) ⟨by decide, by decide⟩ rfl hl.1 (Nat.le_of_ble_eq_true rfl) d_KG_put_77 ⟨by decide, by decide⟩) (fun H locs hd => ?_)
      refine zb_v hd (zrunO (owner := "KeyGraph$Function") (n := 1) (rest := []) hC hd (e_f2 (hX.fn hkn) hk) rfl (c_Choice_begin l G ad ow (sn (si (sn (si (sn (sc Z 7 u (xn Z 9 u) (k + 1)) 9 u ((xn Z 9 u) + 1)) 8 k (nI u)) 6 k 0) 9 k 1) 5 k 0) k (hX.fn hkn) hk (xn Z 2 (k + 2))) q_429 q_431 q_430 q_432 q_433 q_15 q_434 q_443 rfl rfl rfl (by decide +kernel) ⟨by decide, by decide⟩ rfl hl.1 (Nat.le_of_ble_eq_true rfl) d_KG_put_80 ⟨by decide, by decide⟩) (fun H locs hd => ?_)
      exact zfv hC hd hr hlk d_KG_put_83 (by unfold x_put x_putA x_chkV; (repeat (first | (rw [if_pos]; rotate_left; first | assumption | decide) | (rw [if_neg]; rotate_left; first | assumption | decide))) <;> (try rfl))
set_option maxHeartbeats 4000000 in
theorem c_KG_put3 (l : Launch) (G : Gt) (ad : Nat → Nat → Nat) (ow : Nat → Nat × Nat) (Z : Zt) (hX : XS Z) (u k : Nat) (hu : u < 5) (hkn : k < xn Z 0 1) (hps : xn Z 9 u < 40) (hk : xn Z 1 k = 3) : Met l y_KG_put w_KG_put ({ frames := 2, cells := 0, slots := 0, locals := 42 }) (zPc G ad ow Z [.ref (ad 0 0), .int (nI u), .ref (ad 1 k)]) (Qd G ad ow (x_put Z u k) (none)) 0 0 (zA G) := by
  refine zopen (cc := b_KG_put) (maxL := 4) (ret := none) (by decide) rfl (Nat.le_of_ble_eq_true rfl) ?_
  intro p e s m below meth c ls hC hr hlk hnm hd hl
  have hC : Cx G p c m s _ "KeyGraph" b_KG_put 4 := hC
  have hl : lv_has ls 4 [(0, .ref (ad 0 0)), (1, .int (nI u)), (2, .ref (ad 1 k))] := hl
  have hx := hC.1
  have hb := hC.2.1
  have hlf : ¬ xn Z 1 k = 6 := by omega
  have h8 := (hX.2.2.2.1 k hkn).1
  refine lv_aload_n hx hb d_KG_put_0 rfl (lv_at hl 0 rfl) ?_
  refine zget hC hd (e_kg hX.kg) rfl i_KG 1 (by decide) q_81 (Or.inl rfl) (v := .ref (ad 8 0)) rfl d_KG_put_1 ?_
  refine lv_iload_n hx hb d_KG_put_4 rfl (lv_at hl 1 rfl) ?_
  refine zaaP (k := u) hC hd (e_piles hX.ps) (by omega) (by decide) rfl d_KG_put_5 ?_
  refine lv_astore_n (lv' := [(3, .ref (ad 6 u)), (0, .ref (ad 0 0)), (1, .int (nI u)), (2, .ref (ad 1 k))]) hx hb d_KG_put_6 rfl hl (by decide) rfl (fun ls hl => ?_)
  refine lv_aload_n hx hb d_KG_put_7 rfl (lv_at hl 0 rfl) ?_
  refine zgetN hC hd (e_pile (hX.pl hu)) rfl i_Pile 0 (by decide) z_72 (Or.inl rfl) (v := .ref (ad 7 u)) rfl d_KG_put_8 ?_
  refine lv_aload_n hx hb d_KG_put_11 rfl (lv_at hl 0 rfl) ?_
  refine zgetN hC hd (e_pile (hX.pl hu)) rfl i_Pile 1 (by decide) z_74 (Or.inl rfl) (v := .int (nI (xn Z 9 u))) rfl d_KG_put_12 ?_
  refine lv_aload_n hx hb d_KG_put_15 rfl (lv_at hl 3 rfl) ?_
  refine zasK (j := xn Z 9 u) (Z' := (sc Z 7 u (xn Z 9 u) (k + 1))) hC hd (e_pka (hX.pa hu)) (e_key hkn) (by omega) (by decide) (u_pka (hX.pa hu)) d_KG_put_16 (fun H locs hd => ?_)
  refine lv_aload_n hx hb d_KG_put_17 rfl (lv_at hl 0 rfl) ?_
  refine lv_dup hx hb d_KG_put_18 rfl ?_
  refine zgetN hC hd (e_pile (hX.pl hu)) rfl i_Pile 1 (by decide) z_74 (Or.inl rfl) (v := .int (nI (xn Z 9 u))) rfl d_KG_put_19 ?_
  refine lv_iconst (v := 1) hx hb d_KG_put_22 (by decide) ?_
  refine zaddN (x := xn Z 9 u) (y := 1) hx hb d_KG_put_23 ?_
  refine zputN (Z' := (sn (sc Z 7 u (xn Z 9 u) (k + 1)) 9 u ((xn Z 9 u) + 1))) (v := .int (nI ((xn Z 9 u) + 1))) hC hd (e_pile (hX.pl hu)) rfl i_Pile t_Pile t_Pile_ok n_Pile 1 (by decide) z_74 rfl rfl rfl rfl (Nat.le_of_ble_eq_true rfl) (u_psz (hX.pl hu)) d_KG_put_24 (fun H locs hd => ?_)
  refine lv_aload_n hx hb d_KG_put_27 rfl (lv_at hl 3 rfl) ?_
  refine lv_iload_n hx hb d_KG_put_28 rfl (lv_at hl 2 rfl) ?_
  refine zputN (Z' := (si (sn (sc Z 7 u (xn Z 9 u) (k + 1)) 9 u ((xn Z 9 u) + 1)) 8 k (nI u))) (v := .int (nI u)) hC hd (e_key hkn) rfl i_Key t_Key t_Key_ok n_Key 15 (by decide) z_135 rfl rfl rfl rfl (Nat.le_of_ble_eq_true rfl) (u_worker hkn) d_KG_put_29 (fun H locs hd => ?_)
  refine lv_aload_n hx hb d_KG_put_32 rfl (lv_at hl 3 rfl) ?_
  refine lv_iconst (v := 0) hx hb d_KG_put_33 (by decide) ?_
  refine zputN (Z' := (sn (si (sn (sc Z 7 u (xn Z 9 u) (k + 1)) 9 u ((xn Z 9 u) + 1)) 8 k (nI u)) 6 k 0)) (v := .int 0) hC hd (e_key hkn) rfl i_Key t_Key t_Key_ok n_Key 16 (by decide) z_136 rfl rfl rfl rfl (Nat.le_of_ble_eq_true rfl) (u_at hkn) d_KG_put_34 (fun H locs hd => ?_)
  refine lv_aload_n hx hb d_KG_put_37 rfl (lv_at hl 3 rfl) ?_
  refine lv_aload_n hx hb d_KG_put_38 rfl (lv_at hl 3 rfl) ?_
  refine zgetN hC hd (e_key hkn) rfl i_Key 3 (by decide) z_119 (Or.inl rfl) (v := .int (xi Z 1 k)) rfl d_KG_put_39 ?_
  refine lv_if_le (tgt := 60) hx hb d_KG_put_42 (by decide) (fun c42 => ?_) (fun c42 => ?_)
  · refine lv_iconst (v := 0) hx hb d_KG_put_60 (by decide) ?_
    refine zputN (Z' := (si (sn (si (sn (sc Z 7 u (xn Z 9 u) (k + 1)) 9 u ((xn Z 9 u) + 1)) 8 k (nI u)) 6 k 0) 9 k 0)) (v := .int 0) hC hd (e_key hkn) rfl i_Key t_Key t_Key_ok n_Key 17 (by decide) z_137 rfl rfl (zbool (by decide)) (zboolf (by decide)) (Nat.le_of_ble_eq_true rfl) (u_checks hkn) d_KG_put_61 (fun H locs hd => ?_)
    refine lv_aload_n hx hb d_KG_put_64 rfl (lv_at hl 3 rfl) ?_
    refine lv_iconst (v := 0) hx hb d_KG_put_65 (by decide) ?_
    refine zputN (Z' := (sn (si (sn (si (sn (sc Z 7 u (xn Z 9 u) (k + 1)) 9 u ((xn Z 9 u) + 1)) 8 k (nI u)) 6 k 0) 9 k 0) 5 k 0)) (v := .int 0) hC hd (e_key hkn) rfl i_Key t_Key t_Key_ok n_Key 14 (by decide) z_133 rfl rfl rfl rfl (Nat.le_of_ble_eq_true rfl) (u_askingC hkn) d_KG_put_66 (fun H locs hd => ?_)
    refine lv_aload_n hx hb d_KG_put_69 rfl (lv_at hl 3 rfl) ?_
    refine zgetN hC hd (e_key hkn) rfl i_Key 1 (by decide) z_116 (Or.inl rfl) (v := .ref (ad 2 k)) (congrArg (fun q => some (va_rf q)) (if_neg hlf)) d_KG_put_70 ?_
    refine lv_aload_n hx hb d_KG_put_73 rfl (lv_at hl 3 rfl) ?_
    refine zgetN hC hd (e_key hkn) rfl i_Key 2 (by decide) z_118 (Or.inl rfl) (v := .ref (ad 3 (k + 2))) rfl d_KG_put_74 ?_
    refine zb_i (r := (nI (xn Z 2 (k + 2)))) hd (zrunV (n := 0) (rest := [.ref (ad 2 k)]) hC hd (e_list (hX.l hkn)) rfl (c_AL_size l G ad ow (sn (si (sn (si (sn (sc Z 7 u (xn Z 9 u) (k + 1)) 9 u ((xn Z 9 u) + 1)) 8 k (nI u)) 6 k 0) 9 k 0) 5 k 0) (k + 2) (hX.l hkn)) q_101 q_102 q_103 q_4 q_104 rfl rfl rfl (by decide +kernel) ⟨by decide, by decide⟩ rfl hl.1 (Nat.le_of_ble_eq_true rfl) d_KG_put_77 ⟨by decide, by decide⟩) (fun H locs hd => ?_)
    refine zb_v hd (zrunU (owner := "KeyGraph$Function") (n := 1) (rest := []) hC hd (e_f3 (hX.fn hkn) hk) rfl (c_Fun_begin3 l G ad ow (sn (si (sn (si (sn (sc Z 7 u (xn Z 9 u) (k + 1)) 9 u ((xn Z 9 u) + 1)) 8 k (nI u)) 6 k 0) 9 k 0) 5 k 0) k (hX.fn hkn) hk (xn Z 2 (k + 2))) q_429 q_431 q_441 q_430 q_12 q_443 rfl rfl rfl rfl (by decide +kernel) ⟨by decide, by decide⟩ rfl hl.1 (Nat.le_of_ble_eq_true rfl) d_KG_put_80 ⟨by decide, by decide⟩) (fun H locs hd => ?_)
    exact zfv hC hd hr hlk d_KG_put_83 (by unfold x_put x_begin; rw [show xn (x_putA Z u k) 1 k = 3 from hk]; unfold x_putA x_chkV; (repeat (first | (rw [if_pos]; rotate_left; first | assumption | decide) | (rw [if_neg]; rotate_left; first | assumption | decide))) <;> (try rfl))
  · refine lv_aload_n hx hb d_KG_put_45 rfl (lv_at hl 3 rfl) ?_
    refine zgetN hC hd (e_key hkn) rfl i_Key 7 (by decide) z_124 (Or.inl rfl) (v := .int (xi Z 4 k)) rfl d_KG_put_46 ?_
    refine lv_aload_n hx hb d_KG_put_49 rfl (lv_at hl 3 rfl) ?_
    refine zgetN hC hd (e_key hkn) rfl i_Key 6 (by decide) z_123 (Or.inl rfl) (v := .int (xi Z 3 k)) rfl d_KG_put_50 ?_
    refine lv_icmp_gt (tgt := 60) hx hb d_KG_put_53 (by decide) (fun c53 => ?_) (fun c53 => ?_)
    · refine lv_iconst (v := 0) hx hb d_KG_put_60 (by decide) ?_
      refine zputN (Z' := (si (sn (si (sn (sc Z 7 u (xn Z 9 u) (k + 1)) 9 u ((xn Z 9 u) + 1)) 8 k (nI u)) 6 k 0) 9 k 0)) (v := .int 0) hC hd (e_key hkn) rfl i_Key t_Key t_Key_ok n_Key 17 (by decide) z_137 rfl rfl (zbool (by decide)) (zboolf (by decide)) (Nat.le_of_ble_eq_true rfl) (u_checks hkn) d_KG_put_61 (fun H locs hd => ?_)
      refine lv_aload_n hx hb d_KG_put_64 rfl (lv_at hl 3 rfl) ?_
      refine lv_iconst (v := 0) hx hb d_KG_put_65 (by decide) ?_
      refine zputN (Z' := (sn (si (sn (si (sn (sc Z 7 u (xn Z 9 u) (k + 1)) 9 u ((xn Z 9 u) + 1)) 8 k (nI u)) 6 k 0) 9 k 0) 5 k 0)) (v := .int 0) hC hd (e_key hkn) rfl i_Key t_Key t_Key_ok n_Key 14 (by decide) z_133 rfl rfl rfl rfl (Nat.le_of_ble_eq_true rfl) (u_askingC hkn) d_KG_put_66 (fun H locs hd => ?_)
      refine lv_aload_n hx hb d_KG_put_69 rfl (lv_at hl 3 rfl) ?_
      refine zgetN hC hd (e_key hkn) rfl i_Key 1 (by decide) z_116 (Or.inl rfl) (v := .ref (ad 2 k)) (congrArg (fun q => some (va_rf q)) (if_neg hlf)) d_KG_put_70 ?_
      refine lv_aload_n hx hb d_KG_put_73 rfl (lv_at hl 3 rfl) ?_
      refine zgetN hC hd (e_key hkn) rfl i_Key 2 (by decide) z_118 (Or.inl rfl) (v := .ref (ad 3 (k + 2))) rfl d_KG_put_74 ?_
      refine zb_i (r := (nI (xn Z 2 (k + 2)))) hd (zrunV (n := 0) (rest := [.ref (ad 2 k)]) hC hd (e_list (hX.l hkn)) rfl (c_AL_size l G ad ow (sn (si (sn (si (sn (sc Z 7 u (xn Z 9 u) (k + 1)) 9 u ((xn Z 9 u) + 1)) 8 k (nI u)) 6 k 0) 9 k 0) 5 k 0) (k + 2) (hX.l hkn)) q_101 q_102 q_103 q_4 q_104 rfl rfl rfl (by decide +kernel) ⟨by decide, by decide⟩ rfl hl.1 (Nat.le_of_ble_eq_true rfl) d_KG_put_77 ⟨by decide, by decide⟩) (fun H locs hd => ?_)
      refine zb_v hd (zrunU (owner := "KeyGraph$Function") (n := 1) (rest := []) hC hd (e_f3 (hX.fn hkn) hk) rfl (c_Fun_begin3 l G ad ow (sn (si (sn (si (sn (sc Z 7 u (xn Z 9 u) (k + 1)) 9 u ((xn Z 9 u) + 1)) 8 k (nI u)) 6 k 0) 9 k 0) 5 k 0) k (hX.fn hkn) hk (xn Z 2 (k + 2))) q_429 q_431 q_441 q_430 q_12 q_443 rfl rfl rfl rfl (by decide +kernel) ⟨by decide, by decide⟩ rfl hl.1 (Nat.le_of_ble_eq_true rfl) d_KG_put_80 ⟨by decide, by decide⟩) (fun H locs hd => ?_)
      exact zfv hC hd hr hlk d_KG_put_83 (by unfold x_put x_begin; rw [show xn (x_putA Z u k) 1 k = 3 from hk]; unfold x_putA x_chkV; (repeat (first | (rw [if_pos]; rotate_left; first | assumption | decide) | (rw [if_neg]; rotate_left; first | assumption | decide))) <;> (try rfl))
    · refine lv_iconst (v := 1) hx hb d_KG_put_56 (by decide) ?_
      refine lv_goto (tgt := 61) hx hb d_KG_put_57 (by decide) ?_
      refine zputN (Z' := (si (sn (si (sn (sc Z 7 u (xn Z 9 u) (k + 1)) 9 u ((xn Z 9 u) + 1)) 8 k (nI u)) 6 k 0) 9 k 1)) (v := .int 1) hC hd (e_key hkn) rfl i_Key t_Key t_Key_ok n_Key 17 (by decide) z_137 rfl rfl (zbool (by decide)) (zboolf (by decide)) (Nat.le_of_ble_eq_true rfl) (u_checks hkn) d_KG_put_61 (fun H locs hd => ?_)
      refine lv_aload_n hx hb d_KG_put_64 rfl (lv_at hl 3 rfl) ?_
      refine lv_iconst (v := 0) hx hb d_KG_put_65 (by decide) ?_
      refine zputN (Z' := (sn (si (sn (si (sn (sc Z 7 u (xn Z 9 u) (k + 1)) 9 u ((xn Z 9 u) + 1)) 8 k (nI u)) 6 k 0) 9 k 1) 5 k 0)) (v := .int 0) hC hd (e_key hkn) rfl i_Key t_Key t_Key_ok n_Key 14 (by decide) z_133 rfl rfl rfl rfl (Nat.le_of_ble_eq_true rfl) (u_askingC hkn) d_KG_put_66 (fun H locs hd => ?_)
      refine lv_aload_n hx hb d_KG_put_69 rfl (lv_at hl 3 rfl) ?_
      refine zgetN hC hd (e_key hkn) rfl i_Key 1 (by decide) z_116 (Or.inl rfl) (v := .ref (ad 2 k)) (congrArg (fun q => some (va_rf q)) (if_neg hlf)) d_KG_put_70 ?_
      refine lv_aload_n hx hb d_KG_put_73 rfl (lv_at hl 3 rfl) ?_
      refine zgetN hC hd (e_key hkn) rfl i_Key 2 (by decide) z_118 (Or.inl rfl) (v := .ref (ad 3 (k + 2))) rfl d_KG_put_74 ?_
      refine zb_i (r := (nI (xn Z 2 (k + 2)))) hd (zrunV (n := 0) (rest := [.ref (ad 2 k)]) hC hd (e_list (hX.l hkn)) rfl (c_AL_size l G ad ow (sn (si (sn (si (sn (sc Z 7 u (xn Z 9 u) (k + 1)) 9 u ((xn Z 9 u) + 1)) 8 k (nI u)) 6 k 0) 9 k 1) 5 k 0) (k + 2) (hX.l hkn)) q_101 q_102 q_103 q_4 q_104 rfl rfl rfl (by decide +kernel) ⟨by decide, by decide⟩ rfl hl.1 (Nat.le_of_ble_eq_true rfl) d_KG_put_77 ⟨by decide, by decide⟩) (fun H locs hd => ?_)
      refine zb_v hd (zrunU (owner := "KeyGraph$Function") (n := 1) (rest := []) hC hd (e_f3 (hX.fn hkn) hk) rfl (c_Fun_begin3 l G ad ow (sn (si (sn (si (sn (sc Z 7 u (xn Z 9 u) (k + 1)) 9 u ((xn Z 9 u) + 1)) 8 k (nI u)) 6 k 0) 9 k 1) 5 k 0) k (hX.fn hkn) hk (xn Z 2 (k + 2))) q_429 q_431 q_441 q_430 q_12 q_443 rfl rfl rfl rfl (by decide +kernel) ⟨by decide, by decide⟩ rfl hl.1 (Nat.le_of_ble_eq_true rfl) d_KG_put_80 ⟨by decide, by decide⟩) (fun H locs hd => ?_)
      exact zfv hC hd hr hlk d_KG_put_83 (by unfold x_put x_begin; rw [show xn (x_putA Z u k) 1 k = 3 from hk]; unfold x_putA x_chkV; (repeat (first | (rw [if_pos]; rotate_left; first | assumption | decide) | (rw [if_neg]; rotate_left; first | assumption | decide))) <;> (try rfl))
set_option maxHeartbeats 4000000 in
theorem c_KG_put4 (l : Launch) (G : Gt) (ad : Nat → Nat → Nat) (ow : Nat → Nat × Nat) (Z : Zt) (hX : XS Z) (u k : Nat) (hu : u < 5) (hkn : k < xn Z 0 1) (hps : xn Z 9 u < 40) (hk : xn Z 1 k = 4) : Met l y_KG_put w_KG_put ({ frames := 2, cells := 0, slots := 0, locals := 42 }) (zPc G ad ow Z [.ref (ad 0 0), .int (nI u), .ref (ad 1 k)]) (Qd G ad ow (x_put Z u k) (none)) 0 0 (zA G) := by
  refine zopen (cc := b_KG_put) (maxL := 4) (ret := none) (by decide) rfl (Nat.le_of_ble_eq_true rfl) ?_
  intro p e s m below meth c ls hC hr hlk hnm hd hl
  have hC : Cx G p c m s _ "KeyGraph" b_KG_put 4 := hC
  have hl : lv_has ls 4 [(0, .ref (ad 0 0)), (1, .int (nI u)), (2, .ref (ad 1 k))] := hl
  have hx := hC.1
  have hb := hC.2.1
  have hlf : ¬ xn Z 1 k = 6 := by omega
  have h8 := (hX.2.2.2.1 k hkn).1
  refine lv_aload_n hx hb d_KG_put_0 rfl (lv_at hl 0 rfl) ?_
  refine zget hC hd (e_kg hX.kg) rfl i_KG 1 (by decide) q_81 (Or.inl rfl) (v := .ref (ad 8 0)) rfl d_KG_put_1 ?_
  refine lv_iload_n hx hb d_KG_put_4 rfl (lv_at hl 1 rfl) ?_
  refine zaaP (k := u) hC hd (e_piles hX.ps) (by omega) (by decide) rfl d_KG_put_5 ?_
  refine lv_astore_n (lv' := [(3, .ref (ad 6 u)), (0, .ref (ad 0 0)), (1, .int (nI u)), (2, .ref (ad 1 k))]) hx hb d_KG_put_6 rfl hl (by decide) rfl (fun ls hl => ?_)
  refine lv_aload_n hx hb d_KG_put_7 rfl (lv_at hl 0 rfl) ?_
  refine zgetN hC hd (e_pile (hX.pl hu)) rfl i_Pile 0 (by decide) z_72 (Or.inl rfl) (v := .ref (ad 7 u)) rfl d_KG_put_8 ?_
  refine lv_aload_n hx hb d_KG_put_11 rfl (lv_at hl 0 rfl) ?_
  refine zgetN hC hd (e_pile (hX.pl hu)) rfl i_Pile 1 (by decide) z_74 (Or.inl rfl) (v := .int (nI (xn Z 9 u))) rfl d_KG_put_12 ?_
  refine lv_aload_n hx hb d_KG_put_15 rfl (lv_at hl 3 rfl) ?_
  refine zasK (j := xn Z 9 u) (Z' := (sc Z 7 u (xn Z 9 u) (k + 1))) hC hd (e_pka (hX.pa hu)) (e_key hkn) (by omega) (by decide) (u_pka (hX.pa hu)) d_KG_put_16 (fun H locs hd => ?_)
  refine lv_aload_n hx hb d_KG_put_17 rfl (lv_at hl 0 rfl) ?_
  refine lv_dup hx hb d_KG_put_18 rfl ?_
  refine zgetN hC hd (e_pile (hX.pl hu)) rfl i_Pile 1 (by decide) z_74 (Or.inl rfl) (v := .int (nI (xn Z 9 u))) rfl d_KG_put_19 ?_
  refine lv_iconst (v := 1) hx hb d_KG_put_22 (by decide) ?_
  refine zaddN (x := xn Z 9 u) (y := 1) hx hb d_KG_put_23 ?_
  refine zputN (Z' := (sn (sc Z 7 u (xn Z 9 u) (k + 1)) 9 u ((xn Z 9 u) + 1))) (v := .int (nI ((xn Z 9 u) + 1))) hC hd (e_pile (hX.pl hu)) rfl i_Pile t_Pile t_Pile_ok n_Pile 1 (by decide) z_74 rfl rfl rfl rfl (Nat.le_of_ble_eq_true rfl) (u_psz (hX.pl hu)) d_KG_put_24 (fun H locs hd => ?_)
  refine lv_aload_n hx hb d_KG_put_27 rfl (lv_at hl 3 rfl) ?_
  refine lv_iload_n hx hb d_KG_put_28 rfl (lv_at hl 2 rfl) ?_
  refine zputN (Z' := (si (sn (sc Z 7 u (xn Z 9 u) (k + 1)) 9 u ((xn Z 9 u) + 1)) 8 k (nI u))) (v := .int (nI u)) hC hd (e_key hkn) rfl i_Key t_Key t_Key_ok n_Key 15 (by decide) z_135 rfl rfl rfl rfl (Nat.le_of_ble_eq_true rfl) (u_worker hkn) d_KG_put_29 (fun H locs hd => ?_)
  refine lv_aload_n hx hb d_KG_put_32 rfl (lv_at hl 3 rfl) ?_
  refine lv_iconst (v := 0) hx hb d_KG_put_33 (by decide) ?_
  refine zputN (Z' := (sn (si (sn (sc Z 7 u (xn Z 9 u) (k + 1)) 9 u ((xn Z 9 u) + 1)) 8 k (nI u)) 6 k 0)) (v := .int 0) hC hd (e_key hkn) rfl i_Key t_Key t_Key_ok n_Key 16 (by decide) z_136 rfl rfl rfl rfl (Nat.le_of_ble_eq_true rfl) (u_at hkn) d_KG_put_34 (fun H locs hd => ?_)
  refine lv_aload_n hx hb d_KG_put_37 rfl (lv_at hl 3 rfl) ?_
  refine lv_aload_n hx hb d_KG_put_38 rfl (lv_at hl 3 rfl) ?_
  refine zgetN hC hd (e_key hkn) rfl i_Key 3 (by decide) z_119 (Or.inl rfl) (v := .int (xi Z 1 k)) rfl d_KG_put_39 ?_
  refine lv_if_le (tgt := 60) hx hb d_KG_put_42 (by decide) (fun c42 => ?_) (fun c42 => ?_)
  · refine lv_iconst (v := 0) hx hb d_KG_put_60 (by decide) ?_
    refine zputN (Z' := (si (sn (si (sn (sc Z 7 u (xn Z 9 u) (k + 1)) 9 u ((xn Z 9 u) + 1)) 8 k (nI u)) 6 k 0) 9 k 0)) (v := .int 0) hC hd (e_key hkn) rfl i_Key t_Key t_Key_ok n_Key 17 (by decide) z_137 rfl rfl (zbool (by decide)) (zboolf (by decide)) (Nat.le_of_ble_eq_true rfl) (u_checks hkn) d_KG_put_61 (fun H locs hd => ?_)
    refine lv_aload_n hx hb d_KG_put_64 rfl (lv_at hl 3 rfl) ?_
    refine lv_iconst (v := 0) hx hb d_KG_put_65 (by decide) ?_
    refine zputN (Z' := (sn (si (sn (si (sn (sc Z 7 u (xn Z 9 u) (k + 1)) 9 u ((xn Z 9 u) + 1)) 8 k (nI u)) 6 k 0) 9 k 0) 5 k 0)) (v := .int 0) hC hd (e_key hkn) rfl i_Key t_Key t_Key_ok n_Key 14 (by decide) z_133 rfl rfl rfl rfl (Nat.le_of_ble_eq_true rfl) (u_askingC hkn) d_KG_put_66 (fun H locs hd => ?_)
    refine lv_aload_n hx hb d_KG_put_69 rfl (lv_at hl 3 rfl) ?_
    refine zgetN hC hd (e_key hkn) rfl i_Key 1 (by decide) z_116 (Or.inl rfl) (v := .ref (ad 2 k)) (congrArg (fun q => some (va_rf q)) (if_neg hlf)) d_KG_put_70 ?_
    refine lv_aload_n hx hb d_KG_put_73 rfl (lv_at hl 3 rfl) ?_
    refine zgetN hC hd (e_key hkn) rfl i_Key 2 (by decide) z_118 (Or.inl rfl) (v := .ref (ad 3 (k + 2))) rfl d_KG_put_74 ?_
    refine zb_i (r := (nI (xn Z 2 (k + 2)))) hd (zrunV (n := 0) (rest := [.ref (ad 2 k)]) hC hd (e_list (hX.l hkn)) rfl (c_AL_size l G ad ow (sn (si (sn (si (sn (sc Z 7 u (xn Z 9 u) (k + 1)) 9 u ((xn Z 9 u) + 1)) 8 k (nI u)) 6 k 0) 9 k 0) 5 k 0) (k + 2) (hX.l hkn)) q_101 q_102 q_103 q_4 q_104 rfl rfl rfl (by decide +kernel) ⟨by decide, by decide⟩ rfl hl.1 (Nat.le_of_ble_eq_true rfl) d_KG_put_77 ⟨by decide, by decide⟩) (fun H locs hd => ?_)
    refine zb_v hd (zrunU (owner := "KeyGraph$Function") (n := 1) (rest := []) hC hd (e_f4 (hX.fn hkn) hk) rfl (c_Fun_begin4 l G ad ow (sn (si (sn (si (sn (sc Z 7 u (xn Z 9 u) (k + 1)) 9 u ((xn Z 9 u) + 1)) 8 k (nI u)) 6 k 0) 9 k 0) 5 k 0) k (hX.fn hkn) hk (xn Z 2 (k + 2))) q_429 q_431 q_442 q_430 q_12 q_443 rfl rfl rfl rfl (by decide +kernel) ⟨by decide, by decide⟩ rfl hl.1 (Nat.le_of_ble_eq_true rfl) d_KG_put_80 ⟨by decide, by decide⟩) (fun H locs hd => ?_)
    exact zfv hC hd hr hlk d_KG_put_83 (by unfold x_put x_begin; rw [show xn (x_putA Z u k) 1 k = 4 from hk]; unfold x_putA x_chkV; (repeat (first | (rw [if_pos]; rotate_left; first | assumption | decide) | (rw [if_neg]; rotate_left; first | assumption | decide))) <;> (try rfl))
  · refine lv_aload_n hx hb d_KG_put_45 rfl (lv_at hl 3 rfl) ?_
    refine zgetN hC hd (e_key hkn) rfl i_Key 7 (by decide) z_124 (Or.inl rfl) (v := .int (xi Z 4 k)) rfl d_KG_put_46 ?_
    refine lv_aload_n hx hb d_KG_put_49 rfl (lv_at hl 3 rfl) ?_
    refine zgetN hC hd (e_key hkn) rfl i_Key 6 (by decide) z_123 (Or.inl rfl) (v := .int (xi Z 3 k)) rfl d_KG_put_50 ?_
    refine lv_icmp_gt (tgt := 60) hx hb d_KG_put_53 (by decide) (fun c53 => ?_) (fun c53 => ?_)
    · refine lv_iconst (v := 0) hx hb d_KG_put_60 (by decide) ?_
      refine zputN (Z' := (si (sn (si (sn (sc Z 7 u (xn Z 9 u) (k + 1)) 9 u ((xn Z 9 u) + 1)) 8 k (nI u)) 6 k 0) 9 k 0)) (v := .int 0) hC hd (e_key hkn) rfl i_Key t_Key t_Key_ok n_Key 17 (by decide) z_137 rfl rfl (zbool (by decide)) (zboolf (by decide)) (Nat.le_of_ble_eq_true rfl) (u_checks hkn) d_KG_put_61 (fun H locs hd => ?_)
      refine lv_aload_n hx hb d_KG_put_64 rfl (lv_at hl 3 rfl) ?_
      refine lv_iconst (v := 0) hx hb d_KG_put_65 (by decide) ?_
      refine zputN (Z' := (sn (si (sn (si (sn (sc Z 7 u (xn Z 9 u) (k + 1)) 9 u ((xn Z 9 u) + 1)) 8 k (nI u)) 6 k 0) 9 k 0) 5 k 0)) (v := .int 0) hC hd (e_key hkn) rfl i_Key t_Key t_Key_ok n_Key 14 (by decide) z_133 rfl rfl rfl rfl (Nat.le_of_ble_eq_true rfl) (u_askingC hkn) d_KG_put_66 (fun H locs hd => ?_)
      refine lv_aload_n hx hb d_KG_put_69 rfl (lv_at hl 3 rfl) ?_
      refine zgetN hC hd (e_key hkn) rfl i_Key 1 (by decide) z_116 (Or.inl rfl) (v := .ref (ad 2 k)) (congrArg (fun q => some (va_rf q)) (if_neg hlf)) d_KG_put_70 ?_
      refine lv_aload_n hx hb d_KG_put_73 rfl (lv_at hl 3 rfl) ?_
      refine zgetN hC hd (e_key hkn) rfl i_Key 2 (by decide) z_118 (Or.inl rfl) (v := .ref (ad 3 (k + 2))) rfl d_KG_put_74 ?_
      refine zb_i (r := (nI (xn Z 2 (k + 2)))) hd (zrunV (n := 0) (rest := [.ref (ad 2 k)]) hC hd (e_list (hX.l hkn)) rfl (c_AL_size l G ad ow (sn (si (sn (si (sn (sc Z 7 u (xn Z 9 u) (k + 1)) 9 u ((xn Z 9 u) + 1)) 8 k (nI u)) 6 k 0) 9 k 0) 5 k 0) (k + 2) (hX.l hkn)) q_101 q_102 q_103 q_4 q_104 rfl rfl rfl (by decide +kernel) ⟨by decide, by decide⟩ rfl hl.1 (Nat.le_of_ble_eq_true rfl) d_KG_put_77 ⟨by decide, by decide⟩) (fun H locs hd => ?_)
      refine zb_v hd (zrunU (owner := "KeyGraph$Function") (n := 1) (rest := []) hC hd (e_f4 (hX.fn hkn) hk) rfl (c_Fun_begin4 l G ad ow (sn (si (sn (si (sn (sc Z 7 u (xn Z 9 u) (k + 1)) 9 u ((xn Z 9 u) + 1)) 8 k (nI u)) 6 k 0) 9 k 0) 5 k 0) k (hX.fn hkn) hk (xn Z 2 (k + 2))) q_429 q_431 q_442 q_430 q_12 q_443 rfl rfl rfl rfl (by decide +kernel) ⟨by decide, by decide⟩ rfl hl.1 (Nat.le_of_ble_eq_true rfl) d_KG_put_80 ⟨by decide, by decide⟩) (fun H locs hd => ?_)
      exact zfv hC hd hr hlk d_KG_put_83 (by unfold x_put x_begin; rw [show xn (x_putA Z u k) 1 k = 4 from hk]; unfold x_putA x_chkV; (repeat (first | (rw [if_pos]; rotate_left; first | assumption | decide) | (rw [if_neg]; rotate_left; first | assumption | decide))) <;> (try rfl))
    · refine lv_iconst (v := 1) hx hb d_KG_put_56 (by decide) ?_
      refine lv_goto (tgt := 61) hx hb d_KG_put_57 (by decide) ?_
      refine zputN (Z' := (si (sn (si (sn (sc Z 7 u (xn Z 9 u) (k + 1)) 9 u ((xn Z 9 u) + 1)) 8 k (nI u)) 6 k 0) 9 k 1)) (v := .int 1) hC hd (e_key hkn) rfl i_Key t_Key t_Key_ok n_Key 17 (by decide) z_137 rfl rfl (zbool (by decide)) (zboolf (by decide)) (Nat.le_of_ble_eq_true rfl) (u_checks hkn) d_KG_put_61 (fun H locs hd => ?_)
      refine lv_aload_n hx hb d_KG_put_64 rfl (lv_at hl 3 rfl) ?_
      refine lv_iconst (v := 0) hx hb d_KG_put_65 (by decide) ?_
      refine zputN (Z' := (sn (si (sn (si (sn (sc Z 7 u (xn Z 9 u) (k + 1)) 9 u ((xn Z 9 u) + 1)) 8 k (nI u)) 6 k 0) 9 k 1) 5 k 0)) (v := .int 0) hC hd (e_key hkn) rfl i_Key t_Key t_Key_ok n_Key 14 (by decide) z_133 rfl rfl rfl rfl (Nat.le_of_ble_eq_true rfl) (u_askingC hkn) d_KG_put_66 (fun H locs hd => ?_)
      refine lv_aload_n hx hb d_KG_put_69 rfl (lv_at hl 3 rfl) ?_
      refine zgetN hC hd (e_key hkn) rfl i_Key 1 (by decide) z_116 (Or.inl rfl) (v := .ref (ad 2 k)) (congrArg (fun q => some (va_rf q)) (if_neg hlf)) d_KG_put_70 ?_
      refine lv_aload_n hx hb d_KG_put_73 rfl (lv_at hl 3 rfl) ?_
      refine zgetN hC hd (e_key hkn) rfl i_Key 2 (by decide) z_118 (Or.inl rfl) (v := .ref (ad 3 (k + 2))) rfl d_KG_put_74 ?_
      refine zb_i (r := (nI (xn Z 2 (k + 2)))) hd (zrunV (n := 0) (rest := [.ref (ad 2 k)]) hC hd (e_list (hX.l hkn)) rfl (c_AL_size l G ad ow (sn (si (sn (si (sn (sc Z 7 u (xn Z 9 u) (k + 1)) 9 u ((xn Z 9 u) + 1)) 8 k (nI u)) 6 k 0) 9 k 1) 5 k 0) (k + 2) (hX.l hkn)) q_101 q_102 q_103 q_4 q_104 rfl rfl rfl (by decide +kernel) ⟨by decide, by decide⟩ rfl hl.1 (Nat.le_of_ble_eq_true rfl) d_KG_put_77 ⟨by decide, by decide⟩) (fun H locs hd => ?_)
      refine zb_v hd (zrunU (owner := "KeyGraph$Function") (n := 1) (rest := []) hC hd (e_f4 (hX.fn hkn) hk) rfl (c_Fun_begin4 l G ad ow (sn (si (sn (si (sn (sc Z 7 u (xn Z 9 u) (k + 1)) 9 u ((xn Z 9 u) + 1)) 8 k (nI u)) 6 k 0) 9 k 1) 5 k 0) k (hX.fn hkn) hk (xn Z 2 (k + 2))) q_429 q_431 q_442 q_430 q_12 q_443 rfl rfl rfl rfl (by decide +kernel) ⟨by decide, by decide⟩ rfl hl.1 (Nat.le_of_ble_eq_true rfl) d_KG_put_80 ⟨by decide, by decide⟩) (fun H locs hd => ?_)
      exact zfv hC hd hr hlk d_KG_put_83 (by unfold x_put x_begin; rw [show xn (x_putA Z u k) 1 k = 4 from hk]; unfold x_putA x_chkV; (repeat (first | (rw [if_pos]; rotate_left; first | assumption | decide) | (rw [if_neg]; rotate_left; first | assumption | decide))) <;> (try rfl))
set_option maxHeartbeats 4000000 in
theorem c_KG_put5 (l : Launch) (G : Gt) (ad : Nat → Nat → Nat) (ow : Nat → Nat × Nat) (Z : Zt) (hX : XS Z) (u k : Nat) (hu : u < 5) (hkn : k < xn Z 0 1) (hps : xn Z 9 u < 40) (hk : xn Z 1 k = 5) : Met l y_KG_put w_KG_put ({ frames := 2, cells := 0, slots := 0, locals := 42 }) (zPc G ad ow Z [.ref (ad 0 0), .int (nI u), .ref (ad 1 k)]) (Qd G ad ow (x_put Z u k) (none)) 0 0 (zA G) := by
  refine zopen (cc := b_KG_put) (maxL := 4) (ret := none) (by decide) rfl (Nat.le_of_ble_eq_true rfl) ?_
  intro p e s m below meth c ls hC hr hlk hnm hd hl
  have hC : Cx G p c m s _ "KeyGraph" b_KG_put 4 := hC
  have hl : lv_has ls 4 [(0, .ref (ad 0 0)), (1, .int (nI u)), (2, .ref (ad 1 k))] := hl
  have hx := hC.1
  have hb := hC.2.1
  have hlf : ¬ xn Z 1 k = 6 := by omega
  have h8 := (hX.2.2.2.1 k hkn).1
  refine lv_aload_n hx hb d_KG_put_0 rfl (lv_at hl 0 rfl) ?_
  refine zget hC hd (e_kg hX.kg) rfl i_KG 1 (by decide) q_81 (Or.inl rfl) (v := .ref (ad 8 0)) rfl d_KG_put_1 ?_
  refine lv_iload_n hx hb d_KG_put_4 rfl (lv_at hl 1 rfl) ?_
  refine zaaP (k := u) hC hd (e_piles hX.ps) (by omega) (by decide) rfl d_KG_put_5 ?_
  refine lv_astore_n (lv' := [(3, .ref (ad 6 u)), (0, .ref (ad 0 0)), (1, .int (nI u)), (2, .ref (ad 1 k))]) hx hb d_KG_put_6 rfl hl (by decide) rfl (fun ls hl => ?_)
  refine lv_aload_n hx hb d_KG_put_7 rfl (lv_at hl 0 rfl) ?_
  refine zgetN hC hd (e_pile (hX.pl hu)) rfl i_Pile 0 (by decide) z_72 (Or.inl rfl) (v := .ref (ad 7 u)) rfl d_KG_put_8 ?_
  refine lv_aload_n hx hb d_KG_put_11 rfl (lv_at hl 0 rfl) ?_
  refine zgetN hC hd (e_pile (hX.pl hu)) rfl i_Pile 1 (by decide) z_74 (Or.inl rfl) (v := .int (nI (xn Z 9 u))) rfl d_KG_put_12 ?_
  refine lv_aload_n hx hb d_KG_put_15 rfl (lv_at hl 3 rfl) ?_
  refine zasK (j := xn Z 9 u) (Z' := (sc Z 7 u (xn Z 9 u) (k + 1))) hC hd (e_pka (hX.pa hu)) (e_key hkn) (by omega) (by decide) (u_pka (hX.pa hu)) d_KG_put_16 (fun H locs hd => ?_)
  refine lv_aload_n hx hb d_KG_put_17 rfl (lv_at hl 0 rfl) ?_
  refine lv_dup hx hb d_KG_put_18 rfl ?_
  refine zgetN hC hd (e_pile (hX.pl hu)) rfl i_Pile 1 (by decide) z_74 (Or.inl rfl) (v := .int (nI (xn Z 9 u))) rfl d_KG_put_19 ?_
  refine lv_iconst (v := 1) hx hb d_KG_put_22 (by decide) ?_
  refine zaddN (x := xn Z 9 u) (y := 1) hx hb d_KG_put_23 ?_
  refine zputN (Z' := (sn (sc Z 7 u (xn Z 9 u) (k + 1)) 9 u ((xn Z 9 u) + 1))) (v := .int (nI ((xn Z 9 u) + 1))) hC hd (e_pile (hX.pl hu)) rfl i_Pile t_Pile t_Pile_ok n_Pile 1 (by decide) z_74 rfl rfl rfl rfl (Nat.le_of_ble_eq_true rfl) (u_psz (hX.pl hu)) d_KG_put_24 (fun H locs hd => ?_)
  refine lv_aload_n hx hb d_KG_put_27 rfl (lv_at hl 3 rfl) ?_
  refine lv_iload_n hx hb d_KG_put_28 rfl (lv_at hl 2 rfl) ?_
  refine zputN (Z' := (si (sn (sc Z 7 u (xn Z 9 u) (k + 1)) 9 u ((xn Z 9 u) + 1)) 8 k (nI u))) (v := .int (nI u)) hC hd (e_key hkn) rfl i_Key t_Key t_Key_ok n_Key 15 (by decide) z_135 rfl rfl rfl rfl (Nat.le_of_ble_eq_true rfl) (u_worker hkn) d_KG_put_29 (fun H locs hd => ?_)
  refine lv_aload_n hx hb d_KG_put_32 rfl (lv_at hl 3 rfl) ?_
  refine lv_iconst (v := 0) hx hb d_KG_put_33 (by decide) ?_
  refine zputN (Z' := (sn (si (sn (sc Z 7 u (xn Z 9 u) (k + 1)) 9 u ((xn Z 9 u) + 1)) 8 k (nI u)) 6 k 0)) (v := .int 0) hC hd (e_key hkn) rfl i_Key t_Key t_Key_ok n_Key 16 (by decide) z_136 rfl rfl rfl rfl (Nat.le_of_ble_eq_true rfl) (u_at hkn) d_KG_put_34 (fun H locs hd => ?_)
  refine lv_aload_n hx hb d_KG_put_37 rfl (lv_at hl 3 rfl) ?_
  refine lv_aload_n hx hb d_KG_put_38 rfl (lv_at hl 3 rfl) ?_
  refine zgetN hC hd (e_key hkn) rfl i_Key 3 (by decide) z_119 (Or.inl rfl) (v := .int (xi Z 1 k)) rfl d_KG_put_39 ?_
  refine lv_if_le (tgt := 60) hx hb d_KG_put_42 (by decide) (fun c42 => ?_) (fun c42 => ?_)
  · refine lv_iconst (v := 0) hx hb d_KG_put_60 (by decide) ?_
    refine zputN (Z' := (si (sn (si (sn (sc Z 7 u (xn Z 9 u) (k + 1)) 9 u ((xn Z 9 u) + 1)) 8 k (nI u)) 6 k 0) 9 k 0)) (v := .int 0) hC hd (e_key hkn) rfl i_Key t_Key t_Key_ok n_Key 17 (by decide) z_137 rfl rfl (zbool (by decide)) (zboolf (by decide)) (Nat.le_of_ble_eq_true rfl) (u_checks hkn) d_KG_put_61 (fun H locs hd => ?_)
    refine lv_aload_n hx hb d_KG_put_64 rfl (lv_at hl 3 rfl) ?_
    refine lv_iconst (v := 0) hx hb d_KG_put_65 (by decide) ?_
    refine zputN (Z' := (sn (si (sn (si (sn (sc Z 7 u (xn Z 9 u) (k + 1)) 9 u ((xn Z 9 u) + 1)) 8 k (nI u)) 6 k 0) 9 k 0) 5 k 0)) (v := .int 0) hC hd (e_key hkn) rfl i_Key t_Key t_Key_ok n_Key 14 (by decide) z_133 rfl rfl rfl rfl (Nat.le_of_ble_eq_true rfl) (u_askingC hkn) d_KG_put_66 (fun H locs hd => ?_)
    refine lv_aload_n hx hb d_KG_put_69 rfl (lv_at hl 3 rfl) ?_
    refine zgetN hC hd (e_key hkn) rfl i_Key 1 (by decide) z_116 (Or.inl rfl) (v := .ref (ad 2 k)) (congrArg (fun q => some (va_rf q)) (if_neg hlf)) d_KG_put_70 ?_
    refine lv_aload_n hx hb d_KG_put_73 rfl (lv_at hl 3 rfl) ?_
    refine zgetN hC hd (e_key hkn) rfl i_Key 2 (by decide) z_118 (Or.inl rfl) (v := .ref (ad 3 (k + 2))) rfl d_KG_put_74 ?_
    refine zb_i (r := (nI (xn Z 2 (k + 2)))) hd (zrunV (n := 0) (rest := [.ref (ad 2 k)]) hC hd (e_list (hX.l hkn)) rfl (c_AL_size l G ad ow (sn (si (sn (si (sn (sc Z 7 u (xn Z 9 u) (k + 1)) 9 u ((xn Z 9 u) + 1)) 8 k (nI u)) 6 k 0) 9 k 0) 5 k 0) (k + 2) (hX.l hkn)) q_101 q_102 q_103 q_4 q_104 rfl rfl rfl (by decide +kernel) ⟨by decide, by decide⟩ rfl hl.1 (Nat.le_of_ble_eq_true rfl) d_KG_put_77 ⟨by decide, by decide⟩) (fun H locs hd => ?_)
    refine zb_v hd (zrunO (owner := "KeyGraph$Function") (n := 1) (rest := []) hC hd (e_f5 (hX.fn hkn) hk) rfl (c_Great_begin l G ad ow (sn (si (sn (si (sn (sc Z 7 u (xn Z 9 u) (k + 1)) 9 u ((xn Z 9 u) + 1)) 8 k (nI u)) 6 k 0) 9 k 0) 5 k 0) k (hX.fn hkn) hk (xn Z 2 (k + 2)) (by omega)) q_429 q_431 q_430 q_437 q_438 q_17 q_439 q_443 rfl rfl rfl (by decide +kernel) ⟨by decide, by decide⟩ rfl hl.1 (Nat.le_of_ble_eq_true rfl) d_KG_put_80 ⟨by decide, by decide⟩) (fun H locs hd => ?_)
    exact zfv hC hd hr hlk d_KG_put_83 (by unfold x_put x_putA x_chkV; (repeat (first | (rw [if_pos]; rotate_left; first | assumption | decide) | (rw [if_neg]; rotate_left; first | assumption | decide))) <;> (try rfl))
  · refine lv_aload_n hx hb d_KG_put_45 rfl (lv_at hl 3 rfl) ?_
    refine zgetN hC hd (e_key hkn) rfl i_Key 7 (by decide) z_124 (Or.inl rfl) (v := .int (xi Z 4 k)) rfl d_KG_put_46 ?_
    refine lv_aload_n hx hb d_KG_put_49 rfl (lv_at hl 3 rfl) ?_
    refine zgetN hC hd (e_key hkn) rfl i_Key 6 (by decide) z_123 (Or.inl rfl) (v := .int (xi Z 3 k)) rfl d_KG_put_50 ?_
    refine lv_icmp_gt (tgt := 60) hx hb d_KG_put_53 (by decide) (fun c53 => ?_) (fun c53 => ?_)
    · refine lv_iconst (v := 0) hx hb d_KG_put_60 (by decide) ?_
      refine zputN (Z' := (si (sn (si (sn (sc Z 7 u (xn Z 9 u) (k + 1)) 9 u ((xn Z 9 u) + 1)) 8 k (nI u)) 6 k 0) 9 k 0)) (v := .int 0) hC hd (e_key hkn) rfl i_Key t_Key t_Key_ok n_Key 17 (by decide) z_137 rfl rfl (zbool (by decide)) (zboolf (by decide)) (Nat.le_of_ble_eq_true rfl) (u_checks hkn) d_KG_put_61 (fun H locs hd => ?_)
      refine lv_aload_n hx hb d_KG_put_64 rfl (lv_at hl 3 rfl) ?_
      refine lv_iconst (v := 0) hx hb d_KG_put_65 (by decide) ?_
      refine zputN (Z' := (sn (si (sn (si (sn (sc Z 7 u (xn Z 9 u) (k + 1)) 9 u ((xn Z 9 u) + 1)) 8 k (nI u)) 6 k 0) 9 k 0) 5 k 0)) (v := .int 0) hC hd (e_key hkn) rfl i_Key t_Key t_Key_ok n_Key 14 (by decide) z_133 rfl rfl rfl rfl (Nat.le_of_ble_eq_true rfl) (u_askingC hkn) d_KG_put_66 (fun H locs hd => ?_)
      refine lv_aload_n hx hb d_KG_put_69 rfl (lv_at hl 3 rfl) ?_
      refine zgetN hC hd (e_key hkn) rfl i_Key 1 (by decide) z_116 (Or.inl rfl) (v := .ref (ad 2 k)) (congrArg (fun q => some (va_rf q)) (if_neg hlf)) d_KG_put_70 ?_
      refine lv_aload_n hx hb d_KG_put_73 rfl (lv_at hl 3 rfl) ?_
      refine zgetN hC hd (e_key hkn) rfl i_Key 2 (by decide) z_118 (Or.inl rfl) (v := .ref (ad 3 (k + 2))) rfl d_KG_put_74 ?_
      refine zb_i (r := (nI (xn Z 2 (k + 2)))) hd (zrunV (n := 0) (rest := [.ref (ad 2 k)]) hC hd (e_list (hX.l hkn)) rfl (c_AL_size l G ad ow (sn (si (sn (si (sn (sc Z 7 u (xn Z 9 u) (k + 1)) 9 u ((xn Z 9 u) + 1)) 8 k (nI u)) 6 k 0) 9 k 0) 5 k 0) (k + 2) (hX.l hkn)) q_101 q_102 q_103 q_4 q_104 rfl rfl rfl (by decide +kernel) ⟨by decide, by decide⟩ rfl hl.1 (Nat.le_of_ble_eq_true rfl) d_KG_put_77 ⟨by decide, by decide⟩) (fun H locs hd => ?_)
      refine zb_v hd (zrunO (owner := "KeyGraph$Function") (n := 1) (rest := []) hC hd (e_f5 (hX.fn hkn) hk) rfl (c_Great_begin l G ad ow (sn (si (sn (si (sn (sc Z 7 u (xn Z 9 u) (k + 1)) 9 u ((xn Z 9 u) + 1)) 8 k (nI u)) 6 k 0) 9 k 0) 5 k 0) k (hX.fn hkn) hk (xn Z 2 (k + 2)) (by omega)) q_429 q_431 q_430 q_437 q_438 q_17 q_439 q_443 rfl rfl rfl (by decide +kernel) ⟨by decide, by decide⟩ rfl hl.1 (Nat.le_of_ble_eq_true rfl) d_KG_put_80 ⟨by decide, by decide⟩) (fun H locs hd => ?_)
      exact zfv hC hd hr hlk d_KG_put_83 (by unfold x_put x_putA x_chkV; (repeat (first | (rw [if_pos]; rotate_left; first | assumption | decide) | (rw [if_neg]; rotate_left; first | assumption | decide))) <;> (try rfl))
    · refine lv_iconst (v := 1) hx hb d_KG_put_56 (by decide) ?_
      refine lv_goto (tgt := 61) hx hb d_KG_put_57 (by decide) ?_
      refine zputN (Z' := (si (sn (si (sn (sc Z 7 u (xn Z 9 u) (k + 1)) 9 u ((xn Z 9 u) + 1)) 8 k (nI u)) 6 k 0) 9 k 1)) (v := .int 1) hC hd (e_key hkn) rfl i_Key t_Key t_Key_ok n_Key 17 (by decide) z_137 rfl rfl (zbool (by decide)) (zboolf (by decide)) (Nat.le_of_ble_eq_true rfl) (u_checks hkn) d_KG_put_61 (fun H locs hd => ?_)
      refine lv_aload_n hx hb d_KG_put_64 rfl (lv_at hl 3 rfl) ?_
      refine lv_iconst (v := 0) hx hb d_KG_put_65 (by decide) ?_
      refine zputN (Z' := (sn (si (sn (si (sn (sc Z 7 u (xn Z 9 u) (k + 1)) 9 u ((xn Z 9 u) + 1)) 8 k (nI u)) 6 k 0) 9 k 1) 5 k 0)) (v := .int 0) hC hd (e_key hkn) rfl i_Key t_Key t_Key_ok n_Key 14 (by decide) z_133 rfl rfl rfl rfl (Nat.le_of_ble_eq_true rfl) (u_askingC hkn) d_KG_put_66 (fun H locs hd => ?_)
      refine lv_aload_n hx hb d_KG_put_69 rfl (lv_at hl 3 rfl) ?_
      refine zgetN hC hd (e_key hkn) rfl i_Key 1 (by decide) z_116 (Or.inl rfl) (v := .ref (ad 2 k)) (congrArg (fun q => some (va_rf q)) (if_neg hlf)) d_KG_put_70 ?_
      refine lv_aload_n hx hb d_KG_put_73 rfl (lv_at hl 3 rfl) ?_
      refine zgetN hC hd (e_key hkn) rfl i_Key 2 (by decide) z_118 (Or.inl rfl) (v := .ref (ad 3 (k + 2))) rfl d_KG_put_74 ?_
      refine zb_i (r := (nI (xn Z 2 (k + 2)))) hd (zrunV (n := 0) (rest := [.ref (ad 2 k)]) hC hd (e_list (hX.l hkn)) rfl (c_AL_size l G ad ow (sn (si (sn (si (sn (sc Z 7 u (xn Z 9 u) (k + 1)) 9 u ((xn Z 9 u) + 1)) 8 k (nI u)) 6 k 0) 9 k 1) 5 k 0) (k + 2) (hX.l hkn)) q_101 q_102 q_103 q_4 q_104 rfl rfl rfl (by decide +kernel) ⟨by decide, by decide⟩ rfl hl.1 (Nat.le_of_ble_eq_true rfl) d_KG_put_77 ⟨by decide, by decide⟩) (fun H locs hd => ?_)
      refine zb_v hd (zrunO (owner := "KeyGraph$Function") (n := 1) (rest := []) hC hd (e_f5 (hX.fn hkn) hk) rfl (c_Great_begin l G ad ow (sn (si (sn (si (sn (sc Z 7 u (xn Z 9 u) (k + 1)) 9 u ((xn Z 9 u) + 1)) 8 k (nI u)) 6 k 0) 9 k 1) 5 k 0) k (hX.fn hkn) hk (xn Z 2 (k + 2)) (by omega)) q_429 q_431 q_430 q_437 q_438 q_17 q_439 q_443 rfl rfl rfl (by decide +kernel) ⟨by decide, by decide⟩ rfl hl.1 (Nat.le_of_ble_eq_true rfl) d_KG_put_80 ⟨by decide, by decide⟩) (fun H locs hd => ?_)
      exact zfv hC hd hr hlk d_KG_put_83 (by unfold x_put x_putA x_chkV; (repeat (first | (rw [if_pos]; rotate_left; first | assumption | decide) | (rw [if_neg]; rotate_left; first | assumption | decide))) <;> (try rfl))
theorem c_KG_put (l : Launch) (G : Gt) (ad : Nat → Nat → Nat) (ow : Nat → Nat × Nat) (Z : Zt) (hX : XS Z) (u k : Nat) (hu : u < 5) (hkn : k < xn Z 0 1) (hps : xn Z 9 u < 40) (hk : xn Z 1 k < 6) : Met l y_KG_put w_KG_put ({ frames := 2, cells := 0, slots := 0, locals := 42 }) (zPc G ad ow Z [.ref (ad 0 0), .int (nI u), .ref (ad 1 k)]) (Qd G ad ow (x_put Z u k) (none)) 0 0 (zA G) := by
  rcases (show xn Z 1 k = 0 ∨ xn Z 1 k = 1 ∨ xn Z 1 k = 2 ∨ xn Z 1 k = 3 ∨ xn Z 1 k = 4 ∨ xn Z 1 k = 5 by omega) with h | h | h | h | h | h
  · exact c_KG_put0 l G ad ow Z hX u k hu hkn hps h
  · exact c_KG_put1 l G ad ow Z hX u k hu hkn hps h
  · exact c_KG_put2 l G ad ow Z hX u k hu hkn hps h
  · exact c_KG_put3 l G ad ow Z hX u k hu hkn hps h
  · exact c_KG_put4 l G ad ow Z hX u k hu hkn hps h
  · exact c_KG_put5 l G ad ow Z hX u k hu hkn hps h
set_option maxHeartbeats 4000000 in
theorem c_KG_found (l : Launch) (G : Gt) (ad : Nat → Nat → Nat) (ow : Nat → Nat × Nat) (Z : Zt) (hX : XS Z) (u k : Nat) (hu : u < 5) (hkn : k < xn Z 0 1) (h1 : 1 ≤ xn Z 9 u) (h40 : xn Z 9 u ≤ 40) (hne : xc Z 7 u (xn Z 9 u - 1) = k + 1) : Met l y_KG_found w_KG_found ({ frames := 1, cells := 0, slots := 0, locals := 20 }) (zPc G ad ow Z [.ref (ad 0 0), .ref (ad 6 u)]) (Qd G ad ow (x_found Z u k) (some (.int 2))) 0 0 (zA G) := by
  refine zopen (cc := b_KG_found) (maxL := 3) (ret := (some FieldType.int)) (by decide) rfl (Nat.le_of_ble_eq_true rfl) ?_
  intro p e s m below meth c ls hC hr hlk hnm hd hl
  have hC : Cx G p c m s _ "KeyGraph" b_KG_found 3 := hC
  have hl : lv_has ls 3 [(0, .ref (ad 0 0)), (1, .ref (ad 6 u))] := hl
  have hx := hC.1
  have hb := hC.2.1
  refine lv_aload_n hx hb d_KG_found_0 rfl (lv_at hl 1 rfl) ?_
  refine zb_a (r := (ad 1 k)) hd (zrunV (n := 0) (rest := []) hC hd (e_pile (hX.pl hu)) rfl (c_Pile_top l G ad ow Z hX u hu (by omega) (by omega) k hne) q_394 q_395 q_396 q_5 q_397 rfl rfl rfl (by decide +kernel) ⟨by decide, by decide⟩ rfl hl.1 (Nat.le_of_ble_eq_true rfl) d_KG_found_1 ⟨by decide, by decide⟩) (fun H locs hd => ?_)
  refine lv_astore_n (lv' := [(2, .ref (ad 1 k)), (0, .ref (ad 0 0)), (1, .ref (ad 6 u))]) hx hb d_KG_found_4 rfl hl (by decide) rfl (fun ls hl => ?_)
  refine lv_aload_n hx hb d_KG_found_5 rfl (lv_at hl 0 rfl) ?_
  refine lv_aload_n hx hb d_KG_found_6 rfl (lv_at hl 1 rfl) ?_
  refine zget hC hd (e_kg hX.kg) rfl i_KG 3 (by decide) q_83 (Or.inl rfl) (v := .int (xi Z 14 0)) rfl d_KG_found_7 ?_
  refine zputN (Z' := (si Z 3 k (xi Z 14 0))) (v := .int (xi Z 14 0)) hC hd (e_key hkn) rfl i_Key t_Key t_Key_ok n_Key 6 (by decide) z_123 rfl rfl rfl rfl (Nat.le_of_ble_eq_true rfl) (u_sure hkn) d_KG_found_10 (fun H locs hd => ?_)
  refine lv_aload_n hx hb d_KG_found_13 rfl (lv_at hl 0 rfl) ?_
  refine lv_iconst (v := (-1)) hx hb d_KG_found_14 (by decide) ?_
  refine zputN (Z' := (si (si Z 3 k (xi Z 14 0)) 8 k (-1))) (v := .int (-1)) hC hd (e_key hkn) rfl i_Key t_Key t_Key_ok n_Key 15 (by decide) z_135 rfl rfl rfl rfl (Nat.le_of_ble_eq_true rfl) (u_worker hkn) d_KG_found_15 (fun H locs hd => ?_)
  refine lv_aload_n hx hb d_KG_found_18 rfl (lv_at hl 2 rfl) ?_
  refine lv_dup hx hb d_KG_found_19 rfl ?_
  refine zgetN hC hd (e_pile (hX.pl hu)) rfl i_Pile 1 (by decide) z_74 (Or.inl rfl) (v := .int (nI (xn Z 9 u))) rfl d_KG_found_20 ?_
  refine lv_iconst (v := 1) hx hb d_KG_found_23 (by decide) ?_
  refine zsubN (x := xn Z 9 u) (y := 1) (by omega) hx hb d_KG_found_24 ?_
  refine zputN (Z' := (sn (si (si Z 3 k (xi Z 14 0)) 8 k (-1)) 9 u ((xn Z 9 u) - 1))) (v := .int (nI ((xn Z 9 u) - 1))) hC hd (e_pile (hX.pl hu)) rfl i_Pile t_Pile t_Pile_ok n_Pile 1 (by decide) z_74 rfl rfl rfl rfl (Nat.le_of_ble_eq_true rfl) (u_psz (hX.pl hu)) d_KG_found_25 (fun H locs hd => ?_)
  refine lv_iconst (v := 2) hx hb d_KG_found_28 (by decide) ?_
  exact zfi hC hd hr hlk d_KG_found_29 rfl rfl
theorem XS.of {Z Z' : Zt} (hX : XS Z) (h0 : ∀ i, xn Z' 0 i = xn Z 0 i) (h2 : ∀ i, xn Z' 2 i = xn Z 2 i) (h3 : ∀ i, xn Z' 3 i = xn Z 3 i) (hc : ∀ i j, xc Z' 4 i j = xc Z 4 i j) (ha : ∀ k, k < xn Z 0 1 → xn Z' 7 k < 2 * xn Z 0 1 ∧ xn Z' 8 k < 2 * xn Z 0 1) : XS Z' := by
  obtain ⟨a1, a2, a3, a4, a5, a6⟩ := hX
  unfold XS
  simp only [h0, h2, h3, hc]
  exact ⟨a1, a2, a3, a4, a5, ha⟩
theorem zswap {Z : Zt} (hX : XS Z) (k : Nat) (hk : k < xn Z 0 1) : ∀ q, q < xn Z 0 1 → xn (sn (sn Z 7 k (xn Z 8 k)) 8 k (xn Z 7 k)) 7 q < 2 * xn Z 0 1 ∧ xn (sn (sn Z 7 k (xn Z 8 k)) 8 k (xn Z 7 k)) 8 q < 2 * xn Z 0 1 := by
  intro q hq
  have h1 := hX.2.2.2.2.2 q hq
  have h2 := hX.2.2.2.2.2 k hk
  refine ⟨?_, ?_⟩
  · show xn (sn Z 7 k (xn Z 8 k)) 7 q < _
    rw [xn_sn]; split
    · exact h2.2
    · exact h1.1
  · rw [xn_sn]; split
    · exact h2.1
    · exact h1.2
set_option maxHeartbeats 4000000 in
theorem c_KG_ends (l : Launch) (G : Gt) (ad : Nat → Nat → Nat) (ow : Nat → Nat × Nat) (Z : Zt) (hX : XS Z) (u k : Nat) (hu : u < 5) (hkn : k < xn Z 0 1) (h1 : 1 ≤ xn Z 9 u) (h40 : xn Z 9 u ≤ 40) (hne : xc Z 7 u (xn Z 9 u - 1) = k + 1) (st : Int32) (v : Int64) : Met l y_KG_ends w_KG_ends ({ frames := 2, cells := 0, slots := 0, locals := 42 }) (zPc G ad ow Z [.ref (ad 0 0), .ref (ad 6 u), .int st, .long v]) (Qd G ad ow (x_ends Z u k st v) (some (.int 2))) 0 0 (zA G) := by
  refine zopen (cc := b_KG_ends) (maxL := 7) (ret := (some FieldType.int)) (by decide) rfl (Nat.le_of_ble_eq_true rfl) ?_
  intro p e s m below meth c ls hC hr hlk hnm hd hl
  have hC : Cx G p c m s _ "KeyGraph" b_KG_ends 7 := hC
  have hl : lv_has ls 7 [(0, .ref (ad 0 0)), (1, .ref (ad 6 u)), (2, .int st), (3, .long v)] := hl
  have hx := hC.1
  have hb := hC.2.1
  refine lv_aload_n hx hb d_KG_ends_0 rfl (lv_at hl 1 rfl) ?_
  refine zb_a (r := (ad 1 k)) hd (zrunV (n := 0) (rest := []) hC hd (e_pile (hX.pl hu)) rfl (c_Pile_top l G ad ow Z hX u hu (by omega) (by omega) k hne) q_394 q_395 q_396 q_5 q_397 rfl rfl rfl (by decide +kernel) ⟨by decide, by decide⟩ rfl hl.1 (Nat.le_of_ble_eq_true rfl) d_KG_ends_1 ⟨by decide, by decide⟩) (fun H locs hd => ?_)
  refine lv_astore (lv' := [(5, .ref (ad 1 k)), (0, .ref (ad 0 0)), (1, .ref (ad 6 u)), (2, .int st), (3, .long v)]) hx hb d_KG_ends_4 hl (by decide) rfl (fun ls hl => ?_)
  refine lv_aload hx hb d_KG_ends_6 (lv_at hl 0 rfl) ?_
  refine zgetN hC hd (e_key hkn) rfl i_Key 3 (by decide) z_119 (Or.inl rfl) (v := .int (xi Z 1 k)) rfl d_KG_ends_8 ?_
  refine lv_iload_n hx hb d_KG_ends_11 rfl (lv_at hl 3 rfl) ?_
  refine lv_icmp_ne (tgt := 25) hx hb d_KG_ends_12 (by decide) (fun c12 => ?_) (fun c12 => ?_)
  · refine lv_aload hx hb d_KG_ends_25 (lv_at hl 0 rfl) ?_
    refine lv_aload_n hx hb d_KG_ends_27 rfl (lv_at hl 1 rfl) ?_
    refine zget hC hd (e_kg hX.kg) rfl i_KG 3 (by decide) q_83 (Or.inl rfl) (v := .int (xi Z 14 0)) rfl d_KG_ends_28 ?_
    refine zputN (Z' := (si Z 2 k (xi Z 14 0))) (v := .int (xi Z 14 0)) hC hd (e_key hkn) rfl i_Key t_Key t_Key_ok n_Key 5 (by decide) z_121 rfl rfl rfl rfl (Nat.le_of_ble_eq_true rfl) (u_chg hkn) d_KG_ends_31 (fun H locs hd => ?_)
    refine lv_aload hx hb d_KG_ends_34 (lv_at hl 0 rfl) ?_
    refine lv_iload_n hx hb d_KG_ends_36 rfl (lv_at hl 3 rfl) ?_
    refine zputN (Z' := (si (si Z 2 k (xi Z 14 0)) 1 k st)) (v := .int st) hC hd (e_key hkn) rfl i_Key t_Key t_Key_ok n_Key 3 (by decide) z_119 rfl rfl rfl rfl (Nat.le_of_ble_eq_true rfl) (u_st hkn) d_KG_ends_37 (fun H locs hd => ?_)
    refine lv_aload hx hb d_KG_ends_40 (lv_at hl 0 rfl) ?_
    refine lv_lload_n hx hb d_KG_ends_42 rfl (lv_at hl 4 rfl) ?_
    refine zputN (Z' := (sl (si (si Z 2 k (xi Z 14 0)) 1 k st) 1 k v)) (v := .long v) hC hd (e_key hkn) rfl i_Key t_Key t_Key_ok n_Key 4 (by decide) z_120 rfl rfl rfl rfl (Nat.le_of_ble_eq_true rfl) (u_val hkn) d_KG_ends_43 (fun H locs hd => ?_)
    refine lv_aload hx hb d_KG_ends_46 (lv_at hl 0 rfl) ?_
    refine zgetN hC hd (e_key hkn) rfl i_Key 11 (by decide) z_129 (Or.inl rfl) (v := .ref (ad 5 (xn Z 7 k))) rfl d_KG_ends_48 ?_
    refine lv_astore (lv' := [(6, .ref (ad 5 (xn Z 7 k))), (5, .ref (ad 1 k)), (0, .ref (ad 0 0)), (1, .ref (ad 6 u)), (2, .int st), (3, .long v)]) hx hb d_KG_ends_51 hl (by decide) rfl (fun ls hl => ?_)
    refine lv_aload hx hb d_KG_ends_53 (lv_at hl 1 rfl) ?_
    refine lv_aload hx hb d_KG_ends_55 (lv_at hl 1 rfl) ?_
    refine zgetN hC hd (e_key hkn) rfl i_Key 12 (by decide) z_131 (Or.inl rfl) (v := .ref (ad 5 (xn Z 8 k))) rfl d_KG_ends_57 ?_
    refine zputN (Z' := (sn (sl (si (si Z 2 k (xi Z 14 0)) 1 k st) 1 k v) 7 k (xn Z 8 k))) (v := .ref (ad 5 (xn Z 8 k))) hC hd (e_key hkn) rfl i_Key t_Key t_Key_ok n_Key 11 (by decide) z_129 rfl rfl rfl rfl (Nat.le_of_ble_eq_true rfl) (u_aA hkn) d_KG_ends_60 (fun H locs hd => ?_)
    refine lv_aload hx hb d_KG_ends_63 (lv_at hl 1 rfl) ?_
    refine lv_aload hx hb d_KG_ends_65 (lv_at hl 0 rfl) ?_
    refine zputN (Z' := (sn (sn (sl (si (si Z 2 k (xi Z 14 0)) 1 k st) 1 k v) 7 k (xn Z 8 k)) 8 k (xn Z 7 k))) (v := .ref (ad 5 (xn Z 7 k))) hC hd (e_key hkn) rfl i_Key t_Key t_Key_ok n_Key 12 (by decide) z_131 rfl rfl rfl rfl (Nat.le_of_ble_eq_true rfl) (u_aB hkn) d_KG_ends_67 (fun H locs hd => ?_)
    refine lv_aload hx hb d_KG_ends_70 (lv_at hl 1 rfl) ?_
    refine lv_aload hx hb d_KG_ends_72 (lv_at hl 1 rfl) ?_
    refine zgetN hC hd (e_key hkn) rfl i_Key 14 (by decide) z_133 (Or.inl rfl) (v := .int (nI (xn Z 5 k))) rfl d_KG_ends_74 ?_
    refine zputN (Z' := (sn (sn (sn (sl (si (si Z 2 k (xi Z 14 0)) 1 k st) 1 k v) 7 k (xn Z 8 k)) 8 k (xn Z 7 k)) 4 k (xn Z 5 k))) (v := .int (nI (xn Z 5 k))) hC hd (e_key hkn) rfl i_Key t_Key t_Key_ok n_Key 13 (by decide) z_132 rfl rfl rfl rfl (Nat.le_of_ble_eq_true rfl) (u_askedC hkn) d_KG_ends_77 (fun H locs hd => ?_)
    refine lv_aload hx hb d_KG_ends_80 (lv_at hl 1 rfl) ?_
    refine lv_dup hx hb d_KG_ends_82 rfl ?_
    refine zgetN hC hd (e_key hkn) rfl i_Key 8 (by decide) z_125 (Or.inl rfl) (v := .int (xi Z 5 k)) rfl d_KG_ends_83 ?_
    refine lv_iconst (v := 1) hx hb d_KG_ends_86 (by decide) ?_
    refine lv_iadd hx hb d_KG_ends_87 ?_
    refine zputN (Z' := (si (sn (sn (sn (sl (si (si Z 2 k (xi Z 14 0)) 1 k st) 1 k v) 7 k (xn Z 8 k)) 8 k (xn Z 7 k)) 4 k (xn Z 5 k)) 5 k ((xi Z 5 k) + 1))) (v := .int ((xi Z 5 k) + 1)) hC hd (e_key hkn) rfl i_Key t_Key t_Key_ok n_Key 8 (by decide) z_125 rfl rfl rfl rfl (Nat.le_of_ble_eq_true rfl) (u_wrk hkn) d_KG_ends_88 (fun H locs hd => ?_)
    refine lv_aload_n hx hb d_KG_ends_91 rfl (lv_at hl 2 rfl) ?_
    refine lv_aload_n hx hb d_KG_ends_92 rfl (lv_at hl 3 rfl) ?_
    have hX9 : XS (si (sn (sn (sn (sl (si (si Z 2 k (xi Z 14 0)) 1 k st) 1 k v) 7 k (xn Z 8 k)) 8 k (xn Z 7 k)) 4 k (xn Z 5 k)) 5 k ((xi Z 5 k) + 1)) := hX.of (fun _ => rfl) (fun _ => rfl) (fun _ => rfl) (fun _ _ => rfl) (zswap hX k hkn)
    refine zb_i (r := 2) hd (zrunV (n := 1) (rest := []) hC hd (e_kg hX.kg) rfl (c_KG_found l G ad ow (si (sn (sn (sn (sl (si (si Z 2 k (xi Z 14 0)) 1 k st) 1 k v) 7 k (xn Z 8 k)) 8 k (xn Z 7 k)) 4 k (xn Z 5 k)) 5 k ((xi Z 5 k) + 1)) hX9 u k hu hkn h1 h40 hne) q_457 q_459 qp_13 q_1 q_460 rfl rfl rfl (by decide +kernel) ⟨by decide, by decide⟩ rfl hl.1 (Nat.le_of_ble_eq_true rfl) d_KG_ends_93 ⟨by decide, by decide⟩) (fun H locs hd => ?_)
    exact zfi hC hd hr hlk d_KG_ends_96 rfl (by unfold x_ends x_endsA; (repeat (first | (rw [if_pos]; rotate_left; first | assumption | decide) | (rw [if_neg]; rotate_left; first | assumption | decide))) <;> (try rfl))
  · refine lv_aload hx hb d_KG_ends_15 (lv_at hl 0 rfl) ?_
    refine zgetN hC hd (e_key hkn) rfl i_Key 4 (by decide) z_120 (Or.inl rfl) (v := .long (xl Z 1 k)) rfl d_KG_ends_17 ?_
    refine lv_lload_n hx hb d_KG_ends_20 rfl (lv_at hl 4 rfl) ?_
    refine W.lcmp hx hb d_KG_ends_21 ?_
    refine lv_if_eq (tgt := 34) hx hb d_KG_ends_22 (by decide) (fun c22 => ?_) (fun c22 => ?_)
    · simp only [ne_eq, lg_cmp_eq, lg_cmp_le, lg_cmp_lt, lg_cmp_ge, lg_cmp_gt] at c22
      refine lv_aload hx hb d_KG_ends_34 (lv_at hl 0 rfl) ?_
      refine lv_iload_n hx hb d_KG_ends_36 rfl (lv_at hl 3 rfl) ?_
      refine zputN (Z' := (si Z 1 k st)) (v := .int st) hC hd (e_key hkn) rfl i_Key t_Key t_Key_ok n_Key 3 (by decide) z_119 rfl rfl rfl rfl (Nat.le_of_ble_eq_true rfl) (u_st hkn) d_KG_ends_37 (fun H locs hd => ?_)
      refine lv_aload hx hb d_KG_ends_40 (lv_at hl 0 rfl) ?_
      refine lv_lload_n hx hb d_KG_ends_42 rfl (lv_at hl 4 rfl) ?_
      refine zputN (Z' := (sl (si Z 1 k st) 1 k v)) (v := .long v) hC hd (e_key hkn) rfl i_Key t_Key t_Key_ok n_Key 4 (by decide) z_120 rfl rfl rfl rfl (Nat.le_of_ble_eq_true rfl) (u_val hkn) d_KG_ends_43 (fun H locs hd => ?_)
      refine lv_aload hx hb d_KG_ends_46 (lv_at hl 0 rfl) ?_
      refine zgetN hC hd (e_key hkn) rfl i_Key 11 (by decide) z_129 (Or.inl rfl) (v := .ref (ad 5 (xn Z 7 k))) rfl d_KG_ends_48 ?_
      refine lv_astore (lv' := [(6, .ref (ad 5 (xn Z 7 k))), (5, .ref (ad 1 k)), (0, .ref (ad 0 0)), (1, .ref (ad 6 u)), (2, .int st), (3, .long v)]) hx hb d_KG_ends_51 hl (by decide) rfl (fun ls hl => ?_)
      refine lv_aload hx hb d_KG_ends_53 (lv_at hl 1 rfl) ?_
      refine lv_aload hx hb d_KG_ends_55 (lv_at hl 1 rfl) ?_
      refine zgetN hC hd (e_key hkn) rfl i_Key 12 (by decide) z_131 (Or.inl rfl) (v := .ref (ad 5 (xn Z 8 k))) rfl d_KG_ends_57 ?_
      refine zputN (Z' := (sn (sl (si Z 1 k st) 1 k v) 7 k (xn Z 8 k))) (v := .ref (ad 5 (xn Z 8 k))) hC hd (e_key hkn) rfl i_Key t_Key t_Key_ok n_Key 11 (by decide) z_129 rfl rfl rfl rfl (Nat.le_of_ble_eq_true rfl) (u_aA hkn) d_KG_ends_60 (fun H locs hd => ?_)
      refine lv_aload hx hb d_KG_ends_63 (lv_at hl 1 rfl) ?_
      refine lv_aload hx hb d_KG_ends_65 (lv_at hl 0 rfl) ?_
      refine zputN (Z' := (sn (sn (sl (si Z 1 k st) 1 k v) 7 k (xn Z 8 k)) 8 k (xn Z 7 k))) (v := .ref (ad 5 (xn Z 7 k))) hC hd (e_key hkn) rfl i_Key t_Key t_Key_ok n_Key 12 (by decide) z_131 rfl rfl rfl rfl (Nat.le_of_ble_eq_true rfl) (u_aB hkn) d_KG_ends_67 (fun H locs hd => ?_)
      refine lv_aload hx hb d_KG_ends_70 (lv_at hl 1 rfl) ?_
      refine lv_aload hx hb d_KG_ends_72 (lv_at hl 1 rfl) ?_
      refine zgetN hC hd (e_key hkn) rfl i_Key 14 (by decide) z_133 (Or.inl rfl) (v := .int (nI (xn Z 5 k))) rfl d_KG_ends_74 ?_
      refine zputN (Z' := (sn (sn (sn (sl (si Z 1 k st) 1 k v) 7 k (xn Z 8 k)) 8 k (xn Z 7 k)) 4 k (xn Z 5 k))) (v := .int (nI (xn Z 5 k))) hC hd (e_key hkn) rfl i_Key t_Key t_Key_ok n_Key 13 (by decide) z_132 rfl rfl rfl rfl (Nat.le_of_ble_eq_true rfl) (u_askedC hkn) d_KG_ends_77 (fun H locs hd => ?_)
      refine lv_aload hx hb d_KG_ends_80 (lv_at hl 1 rfl) ?_
      refine lv_dup hx hb d_KG_ends_82 rfl ?_
      refine zgetN hC hd (e_key hkn) rfl i_Key 8 (by decide) z_125 (Or.inl rfl) (v := .int (xi Z 5 k)) rfl d_KG_ends_83 ?_
      refine lv_iconst (v := 1) hx hb d_KG_ends_86 (by decide) ?_
      refine lv_iadd hx hb d_KG_ends_87 ?_
      refine zputN (Z' := (si (sn (sn (sn (sl (si Z 1 k st) 1 k v) 7 k (xn Z 8 k)) 8 k (xn Z 7 k)) 4 k (xn Z 5 k)) 5 k ((xi Z 5 k) + 1))) (v := .int ((xi Z 5 k) + 1)) hC hd (e_key hkn) rfl i_Key t_Key t_Key_ok n_Key 8 (by decide) z_125 rfl rfl rfl rfl (Nat.le_of_ble_eq_true rfl) (u_wrk hkn) d_KG_ends_88 (fun H locs hd => ?_)
      refine lv_aload_n hx hb d_KG_ends_91 rfl (lv_at hl 2 rfl) ?_
      refine lv_aload_n hx hb d_KG_ends_92 rfl (lv_at hl 3 rfl) ?_
      have hX9 : XS (si (sn (sn (sn (sl (si Z 1 k st) 1 k v) 7 k (xn Z 8 k)) 8 k (xn Z 7 k)) 4 k (xn Z 5 k)) 5 k ((xi Z 5 k) + 1)) := hX.of (fun _ => rfl) (fun _ => rfl) (fun _ => rfl) (fun _ _ => rfl) (zswap hX k hkn)
      refine zb_i (r := 2) hd (zrunV (n := 1) (rest := []) hC hd (e_kg hX.kg) rfl (c_KG_found l G ad ow (si (sn (sn (sn (sl (si Z 1 k st) 1 k v) 7 k (xn Z 8 k)) 8 k (xn Z 7 k)) 4 k (xn Z 5 k)) 5 k ((xi Z 5 k) + 1)) hX9 u k hu hkn h1 h40 hne) q_457 q_459 qp_13 q_1 q_460 rfl rfl rfl (by decide +kernel) ⟨by decide, by decide⟩ rfl hl.1 (Nat.le_of_ble_eq_true rfl) d_KG_ends_93 ⟨by decide, by decide⟩) (fun H locs hd => ?_)
      exact zfi hC hd hr hlk d_KG_ends_96 rfl (by unfold x_ends x_endsA; (repeat (first | (rw [if_pos]; rotate_left; first | assumption | decide) | (rw [if_neg]; rotate_left; first | assumption | decide))) <;> (try rfl))
    · simp only [ne_eq, lg_cmp_eq, lg_cmp_le, lg_cmp_lt, lg_cmp_ge, lg_cmp_gt] at c22
      refine lv_aload hx hb d_KG_ends_25 (lv_at hl 0 rfl) ?_
      refine lv_aload_n hx hb d_KG_ends_27 rfl (lv_at hl 1 rfl) ?_
      refine zget hC hd (e_kg hX.kg) rfl i_KG 3 (by decide) q_83 (Or.inl rfl) (v := .int (xi Z 14 0)) rfl d_KG_ends_28 ?_
      refine zputN (Z' := (si Z 2 k (xi Z 14 0))) (v := .int (xi Z 14 0)) hC hd (e_key hkn) rfl i_Key t_Key t_Key_ok n_Key 5 (by decide) z_121 rfl rfl rfl rfl (Nat.le_of_ble_eq_true rfl) (u_chg hkn) d_KG_ends_31 (fun H locs hd => ?_)
      refine lv_aload hx hb d_KG_ends_34 (lv_at hl 0 rfl) ?_
      refine lv_iload_n hx hb d_KG_ends_36 rfl (lv_at hl 3 rfl) ?_
      refine zputN (Z' := (si (si Z 2 k (xi Z 14 0)) 1 k st)) (v := .int st) hC hd (e_key hkn) rfl i_Key t_Key t_Key_ok n_Key 3 (by decide) z_119 rfl rfl rfl rfl (Nat.le_of_ble_eq_true rfl) (u_st hkn) d_KG_ends_37 (fun H locs hd => ?_)
      refine lv_aload hx hb d_KG_ends_40 (lv_at hl 0 rfl) ?_
      refine lv_lload_n hx hb d_KG_ends_42 rfl (lv_at hl 4 rfl) ?_
      refine zputN (Z' := (sl (si (si Z 2 k (xi Z 14 0)) 1 k st) 1 k v)) (v := .long v) hC hd (e_key hkn) rfl i_Key t_Key t_Key_ok n_Key 4 (by decide) z_120 rfl rfl rfl rfl (Nat.le_of_ble_eq_true rfl) (u_val hkn) d_KG_ends_43 (fun H locs hd => ?_)
      refine lv_aload hx hb d_KG_ends_46 (lv_at hl 0 rfl) ?_
      refine zgetN hC hd (e_key hkn) rfl i_Key 11 (by decide) z_129 (Or.inl rfl) (v := .ref (ad 5 (xn Z 7 k))) rfl d_KG_ends_48 ?_
      refine lv_astore (lv' := [(6, .ref (ad 5 (xn Z 7 k))), (5, .ref (ad 1 k)), (0, .ref (ad 0 0)), (1, .ref (ad 6 u)), (2, .int st), (3, .long v)]) hx hb d_KG_ends_51 hl (by decide) rfl (fun ls hl => ?_)
      refine lv_aload hx hb d_KG_ends_53 (lv_at hl 1 rfl) ?_
      refine lv_aload hx hb d_KG_ends_55 (lv_at hl 1 rfl) ?_
      refine zgetN hC hd (e_key hkn) rfl i_Key 12 (by decide) z_131 (Or.inl rfl) (v := .ref (ad 5 (xn Z 8 k))) rfl d_KG_ends_57 ?_
      refine zputN (Z' := (sn (sl (si (si Z 2 k (xi Z 14 0)) 1 k st) 1 k v) 7 k (xn Z 8 k))) (v := .ref (ad 5 (xn Z 8 k))) hC hd (e_key hkn) rfl i_Key t_Key t_Key_ok n_Key 11 (by decide) z_129 rfl rfl rfl rfl (Nat.le_of_ble_eq_true rfl) (u_aA hkn) d_KG_ends_60 (fun H locs hd => ?_)
      refine lv_aload hx hb d_KG_ends_63 (lv_at hl 1 rfl) ?_
      refine lv_aload hx hb d_KG_ends_65 (lv_at hl 0 rfl) ?_
      refine zputN (Z' := (sn (sn (sl (si (si Z 2 k (xi Z 14 0)) 1 k st) 1 k v) 7 k (xn Z 8 k)) 8 k (xn Z 7 k))) (v := .ref (ad 5 (xn Z 7 k))) hC hd (e_key hkn) rfl i_Key t_Key t_Key_ok n_Key 12 (by decide) z_131 rfl rfl rfl rfl (Nat.le_of_ble_eq_true rfl) (u_aB hkn) d_KG_ends_67 (fun H locs hd => ?_)
      refine lv_aload hx hb d_KG_ends_70 (lv_at hl 1 rfl) ?_
      refine lv_aload hx hb d_KG_ends_72 (lv_at hl 1 rfl) ?_
      refine zgetN hC hd (e_key hkn) rfl i_Key 14 (by decide) z_133 (Or.inl rfl) (v := .int (nI (xn Z 5 k))) rfl d_KG_ends_74 ?_
      refine zputN (Z' := (sn (sn (sn (sl (si (si Z 2 k (xi Z 14 0)) 1 k st) 1 k v) 7 k (xn Z 8 k)) 8 k (xn Z 7 k)) 4 k (xn Z 5 k))) (v := .int (nI (xn Z 5 k))) hC hd (e_key hkn) rfl i_Key t_Key t_Key_ok n_Key 13 (by decide) z_132 rfl rfl rfl rfl (Nat.le_of_ble_eq_true rfl) (u_askedC hkn) d_KG_ends_77 (fun H locs hd => ?_)
      refine lv_aload hx hb d_KG_ends_80 (lv_at hl 1 rfl) ?_
      refine lv_dup hx hb d_KG_ends_82 rfl ?_
      refine zgetN hC hd (e_key hkn) rfl i_Key 8 (by decide) z_125 (Or.inl rfl) (v := .int (xi Z 5 k)) rfl d_KG_ends_83 ?_
      refine lv_iconst (v := 1) hx hb d_KG_ends_86 (by decide) ?_
      refine lv_iadd hx hb d_KG_ends_87 ?_
      refine zputN (Z' := (si (sn (sn (sn (sl (si (si Z 2 k (xi Z 14 0)) 1 k st) 1 k v) 7 k (xn Z 8 k)) 8 k (xn Z 7 k)) 4 k (xn Z 5 k)) 5 k ((xi Z 5 k) + 1))) (v := .int ((xi Z 5 k) + 1)) hC hd (e_key hkn) rfl i_Key t_Key t_Key_ok n_Key 8 (by decide) z_125 rfl rfl rfl rfl (Nat.le_of_ble_eq_true rfl) (u_wrk hkn) d_KG_ends_88 (fun H locs hd => ?_)
      refine lv_aload_n hx hb d_KG_ends_91 rfl (lv_at hl 2 rfl) ?_
      refine lv_aload_n hx hb d_KG_ends_92 rfl (lv_at hl 3 rfl) ?_
      have hX9 : XS (si (sn (sn (sn (sl (si (si Z 2 k (xi Z 14 0)) 1 k st) 1 k v) 7 k (xn Z 8 k)) 8 k (xn Z 7 k)) 4 k (xn Z 5 k)) 5 k ((xi Z 5 k) + 1)) := hX.of (fun _ => rfl) (fun _ => rfl) (fun _ => rfl) (fun _ _ => rfl) (zswap hX k hkn)
      refine zb_i (r := 2) hd (zrunV (n := 1) (rest := []) hC hd (e_kg hX.kg) rfl (c_KG_found l G ad ow (si (sn (sn (sn (sl (si (si Z 2 k (xi Z 14 0)) 1 k st) 1 k v) 7 k (xn Z 8 k)) 8 k (xn Z 7 k)) 4 k (xn Z 5 k)) 5 k ((xi Z 5 k) + 1)) hX9 u k hu hkn h1 h40 hne) q_457 q_459 qp_13 q_1 q_460 rfl rfl rfl (by decide +kernel) ⟨by decide, by decide⟩ rfl hl.1 (Nat.le_of_ble_eq_true rfl) d_KG_ends_93 ⟨by decide, by decide⟩) (fun H locs hd => ?_)
      exact zfi hC hd hr hlk d_KG_ends_96 rfl (by unfold x_ends x_endsA; (repeat (first | (rw [if_pos]; rotate_left; first | assumption | decide) | (rw [if_neg]; rotate_left; first | assumption | decide))) <;> (try rfl))
set_option maxHeartbeats 4000000 in
theorem c_KG_goesDown (l : Launch) (G : Gt) (ad : Nat → Nat → Nat) (ow : Nat → Nat × Nat) (Z : Zt) (hX : XS Z) (u k : Nat) (hu : u < 5) (hkn : k < xn Z 0 1) (hk : xn Z 1 k < 6) (hps : xi Z 8 k < 0 → xn Z 9 u < 40) : Met l y_KG_goesDown w_KG_goesDown ({ frames := 3, cells := 0, slots := 0, locals := 65 }) (zPc G ad ow Z [.ref (ad 0 0), .int (nI u), .ref (ad 1 k)]) (Qd G ad ow ((x_goesDown Z u k).1) (some (.int (x_goesDown Z u k).2))) 0 0 (zA G) := by
  refine zopen (cc := b_KG_goesDown) (maxL := 3) (ret := (some FieldType.int)) (by decide) rfl (Nat.le_of_ble_eq_true rfl) ?_
  intro p e s m below meth c ls hC hr hlk hnm hd hl
  have hC : Cx G p c m s _ "KeyGraph" b_KG_goesDown 3 := hC
  have hl : lv_has ls 3 [(0, .ref (ad 0 0)), (1, .int (nI u)), (2, .ref (ad 1 k))] := hl
  have hx := hC.1
  have hb := hC.2.1
  refine lv_aload_n hx hb d_KG_goesDown_0 rfl (lv_at hl 2 rfl) ?_
  refine zgetN hC hd (e_key hkn) rfl i_Key 15 (by decide) z_135 (Or.inl rfl) (v := .int (xi Z 8 k)) rfl d_KG_goesDown_1 ?_
  refine lv_if_lt (tgt := 9) hx hb d_KG_goesDown_4 (by decide) (fun c4 => ?_) (fun c4 => ?_)
  · refine lv_aload_n hx hb d_KG_goesDown_9 rfl (lv_at hl 0 rfl) ?_
    refine lv_iload_n hx hb d_KG_goesDown_10 rfl (lv_at hl 1 rfl) ?_
    refine lv_aload_n hx hb d_KG_goesDown_11 rfl (lv_at hl 2 rfl) ?_
    refine zb_v hd (zrunV (n := 2) (rest := []) hC hd (e_kg hX.kg) rfl (c_KG_put l G ad ow Z hX u k (by omega) hkn (hps c4) hk) q_425 q_427 qp_10 q_1 q_428 rfl rfl rfl (by decide +kernel) ⟨by decide, by decide⟩ rfl hl.1 (Nat.le_of_ble_eq_true rfl) d_KG_goesDown_12 ⟨by decide, by decide⟩) (fun H locs hd => ?_)
    refine lv_iconst (v := 1) hx hb d_KG_goesDown_15 (by decide) ?_
    exact zfi hC hd hr hlk d_KG_goesDown_16 (by unfold x_goesDown; (repeat (first | (rw [if_pos]; rotate_left; first | assumption | decide) | (rw [if_neg]; rotate_left; first | assumption | decide))) <;> (try rfl)) (by unfold x_goesDown; (repeat (first | (rw [if_pos]; rotate_left; first | assumption | decide) | (rw [if_neg]; rotate_left; first | assumption | decide))) <;> (try rfl))
  · refine lv_iconst (v := 3) hx hb d_KG_goesDown_7 (by decide) ?_
    exact zfi hC hd hr hlk d_KG_goesDown_8 (by unfold x_goesDown; (repeat (first | (rw [if_pos]; rotate_left; first | assumption | decide) | (rw [if_neg]; rotate_left; first | assumption | decide))) <;> (try rfl)) (by unfold x_goesDown; (repeat (first | (rw [if_pos]; rotate_left; first | assumption | decide) | (rw [if_neg]; rotate_left; first | assumption | decide))) <;> (try rfl))
end
section
def x_check (Z : Zt) (u k : Nat) : Zt × Int32 := if xn Z 6 k = xn Z 4 k then (x_found (si Z 6 k (xi Z 6 k + 1)) u k, 2) else if x_isSure Z (xc Z 4 (k + 2) (xc Z 5 (xn Z 7 k) (xn Z 6 k)) - 1) = 0 then x_goesDown Z u (xc Z 4 (k + 2) (xc Z 5 (xn Z 7 k) (xn Z 6 k)) - 1) else if xi Z 2 (xc Z 4 (k + 2) (xc Z 5 (xn Z 7 k) (xn Z 6 k)) - 1) ≤ xi Z 3 k then (sn Z 6 k (xn Z 6 k + 1), 4) else (si Z 9 k 0, 5)
def x_workN (Z : Zt) (u k j : Nat) : Zt × Int32 := if x_isSure Z (xc Z 4 (k + 2) j - 1) = 0 then x_goesDown Z u (xc Z 4 (k + 2) j - 1) else if xi Z 1 (xc Z 4 (k + 2) j - 1) = 1 then (x_take (sn (sc Z 5 (xn Z 8 k) (xn Z 5 k) j) 5 k (xn Z 5 k + 1)) k (xl Z 1 (xc Z 4 (k + 2) j - 1)), 6) else (x_ends (sn (sc Z 5 (xn Z 8 k) (xn Z 5 k) j) 5 k (xn Z 5 k + 1)) u k 3 0, 2)
def x_work (Z : Zt) (u k : Nat) : Zt × Int32 := if xi Z 7 k = 0 then (if xi Z 12 k = 0 then (if 0 ≤ x_next Z k then x_workN Z u k (x_next Z k).toNatClampNeg else (x_ends Z u k 1 (x_result Z k), 2)) else (x_ends Z u k 2 0, 2)) else (x_ends Z u k 2 0, 2)
def x_step1 (Z : Zt) (u k : Nat) : Zt × Int32 := if xi Z 9 k = 0 then x_work Z u k else x_check Z u k
def x_stepOf (Z : Zt) (u : Nat) : Zt × Int32 := if xn Z 9 u = 0 then (Z, 0) else x_step1 Z u (xc Z 7 u (xn Z 9 u - 1) - 1)
/-- what a step of pile u, with k on top, may be asked for -/
def DownOk (Z : Zt) (u : Nat) : Prop := ∀ q, q < xn Z 0 1 → x_isSure Z q = 0 → xn Z 1 q < 6 ∧ (xi Z 8 q < 0 → xn Z 9 u < 40)
def CheckPre (Z : Zt) (k : Nat) : Prop := ¬ xn Z 6 k = xn Z 4 k → xn Z 6 k < 8 ∧ xc Z 5 (xn Z 7 k) (xn Z 6 k) < xn Z 2 (k + 2)
def WorkPre (Z : Zt) (k : Nat) : Prop := (xi Z 12 k = 0 ∨ xi Z 12 k = 1) ∧ (0 ≤ x_next Z k → (x_next Z k).toNatClampNeg < xn Z 2 (k + 2) ∧ xn Z 5 k < 8) ∧ (xn Z 1 k = 2 → xi Z 13 k = 0 → ¬ xi Z 10 k = 1 → ¬ (xi Z 10 k - 1).toInt64 = 0)
def StepPre (Z : Zt) (u : Nat) : Prop := XS Z ∧ u < 5 ∧ xn Z 9 u ≤ 40 ∧ (¬ xn Z 9 u = 0 → ∃ k, k < xn Z 0 1 ∧ xc Z 7 u (xn Z 9 u - 1) = k + 1 ∧ xn Z 1 k < 6 ∧ DownOk Z u ∧ (¬ xi Z 9 k = 0 → CheckPre Z k) ∧ (xi Z 9 k = 0 → WorkPre Z k))

set_option maxHeartbeats 4000000 in
theorem c_KG_check (l : Launch) (G : Gt) (ad : Nat → Nat → Nat) (ow : Nat → Nat × Nat) (Z : Zt) (hX : XS Z) (u k : Nat) (hu : u < 5) (hkn : k < xn Z 0 1) (h1 : 1 ≤ xn Z 9 u) (h40 : xn Z 9 u ≤ 40) (hne : xc Z 7 u (xn Z 9 u - 1) = k + 1) (hdo : DownOk Z u) (hcp : CheckPre Z k) (hab : xn Z 6 k ≤ 2147483647 ∧ xn Z 4 k ≤ 2147483647) : Met l y_KG_check w_KG_check ({ frames := 4, cells := 0, slots := 0, locals := 87 }) (zPc G ad ow Z [.ref (ad 0 0), .int (nI u), .ref (ad 6 u), .ref (ad 1 k)]) (Qd G ad ow ((x_check Z u k).1) (some (.int (x_check Z u k).2))) 0 0 (zA G) := by
  refine zopen (cc := b_KG_check) (maxL := 5) (ret := (some FieldType.int)) (by decide) rfl (Nat.le_of_ble_eq_true rfl) ?_
  intro p e s m below meth c ls hC hr hlk hnm hd hl
  have hC : Cx G p c m s _ "KeyGraph" b_KG_check 5 := hC
  have hl : lv_has ls 5 [(0, .ref (ad 0 0)), (1, .int (nI u)), (2, .ref (ad 6 u)), (3, .ref (ad 1 k))] := hl
  have hx := hC.1
  have hb := hC.2.1
  have hk40 := hX.k40
  refine lv_aload_n hx hb d_KG_check_0 rfl (lv_at hl 3 rfl) ?_
  refine zgetN hC hd (e_key hkn) rfl i_Key 16 (by decide) z_136 (Or.inl rfl) (v := .int (nI (xn Z 6 k))) rfl d_KG_check_1 ?_
  refine lv_aload_n hx hb d_KG_check_4 rfl (lv_at hl 3 rfl) ?_
  refine zgetN hC hd (e_key hkn) rfl i_Key 13 (by decide) z_132 (Or.inl rfl) (v := .int (nI (xn Z 4 k))) rfl d_KG_check_5 ?_
  refine zc_ne (x := xn Z 6 k) (y := xn Z 4 k) (tgt := 27) hab.1 hab.2 hx hb d_KG_check_8 (by decide) (fun c8 => ?_) (fun c8 => ?_)
  · obtain ⟨hat, hj⟩ := hcp c8
    have hrow := (hX.2.2.2.1 k hkn).2 _ hj
    obtain ⟨q, hq⟩ : ∃ q, xc Z 4 (k + 2) (xc Z 5 (xn Z 7 k) (xn Z 6 k)) = q + 1 := ⟨xc Z 4 (k + 2) (xc Z 5 (xn Z 7 k) (xn Z 6 k)) - 1, by omega⟩
    have hq1 : xc Z 4 (k + 2) (xc Z 5 (xn Z 7 k) (xn Z 6 k)) - 1 = q := by omega
    have hqn : q < xn Z 0 1 := by omega
    refine lv_aload_n hx hb d_KG_check_27 rfl (lv_at hl 3 rfl) ?_
    refine zgetN hC hd (e_key hkn) rfl i_Key 2 (by decide) z_118 (Or.inl rfl) (v := .ref (ad 3 (k + 2))) rfl d_KG_check_28 ?_
    refine lv_aload_n hx hb d_KG_check_31 rfl (lv_at hl 3 rfl) ?_
    refine zgetN hC hd (e_key hkn) rfl i_Key 11 (by decide) z_129 (Or.inl rfl) (v := .ref (ad 5 (xn Z 7 k))) rfl d_KG_check_32 ?_
    refine lv_aload_n hx hb d_KG_check_35 rfl (lv_at hl 3 rfl) ?_
    refine zgetN hC hd (e_key hkn) rfl i_Key 16 (by decide) z_136 (Or.inl rfl) (v := .int (nI (xn Z 6 k))) rfl d_KG_check_36 ?_
    refine ziaN (k := xn Z 6 k) (f := fun j => xc Z 5 (xn Z 7 k) j) hC hd (e_arr (hX.ar (hX.2.2.2.2.2 _ hkn).1)) (by omega) (by decide) d_KG_check_39 ?_
    refine zb_a (r := (ad 1 q)) hd (zrunV (n := 1) (rest := []) hC hd (e_list (hX.l hkn)) rfl (c_get l G ad ow Z hX (k + 2) (xc Z 5 (xn Z 7 k) (xn Z 6 k)) q (hX.l hkn) hj hq) q_352 q_353 q_354 q_4 q_355 rfl rfl rfl (by decide +kernel) ⟨by decide, by decide⟩ rfl hl.1 (Nat.le_of_ble_eq_true rfl) d_KG_check_40 ⟨by decide, by decide⟩) (fun H locs hd => ?_)
    refine zcast hC hd (e_key hqn) q_105 d_KG_check_43 ?_
    refine lv_astore (lv' := [(4, .ref (ad 1 q)), (0, .ref (ad 0 0)), (1, .int (nI u)), (2, .ref (ad 6 u)), (3, .ref (ad 1 k))]) hx hb d_KG_check_46 hl (by decide) rfl (fun ls hl => ?_)
    refine lv_aload_n hx hb d_KG_check_48 rfl (lv_at hl 1 rfl) ?_
    refine lv_aload hx hb d_KG_check_49 (lv_at hl 0 rfl) ?_
    refine zb_i (r := (x_isSure Z q)) hd (zrunV (n := 1) (rest := []) hC hd (e_kg hX.kg) rfl (c_KG_isSure l G ad ow Z hX q (x_isSure Z q) hqn rfl) q_421 q_423 qp_9 q_1 q_424 rfl rfl rfl (by decide +kernel) ⟨by decide, by decide⟩ rfl hl.1 (Nat.le_of_ble_eq_true rfl) d_KG_check_51 ⟨by decide, by decide⟩) (fun H locs hd => ?_)
    refine lv_if_ne (tgt := 65) hx hb d_KG_check_54 (by decide) (fun c54 => ?_) (fun c54 => ?_)
    · refine lv_aload hx hb d_KG_check_65 (lv_at hl 0 rfl) ?_
      refine zgetN hC hd (e_key hqn) rfl i_Key 5 (by decide) z_121 (Or.inl rfl) (v := .int (xi Z 2 q)) rfl d_KG_check_67 ?_
      refine lv_aload_n hx hb d_KG_check_70 rfl (lv_at hl 4 rfl) ?_
      refine zgetN hC hd (e_key hkn) rfl i_Key 6 (by decide) z_123 (Or.inl rfl) (v := .int (xi Z 3 k)) rfl d_KG_check_71 ?_
      refine lv_icmp_le (tgt := 84) hx hb d_KG_check_74 (by decide) (fun c74 => ?_) (fun c74 => ?_)
      · refine lv_aload_n hx hb d_KG_check_84 rfl (lv_at hl 4 rfl) ?_
        refine lv_dup hx hb d_KG_check_85 rfl ?_
        refine zgetN hC hd (e_key hkn) rfl i_Key 16 (by decide) z_136 (Or.inl rfl) (v := .int (nI (xn Z 6 k))) rfl d_KG_check_86 ?_
        refine lv_iconst (v := 1) hx hb d_KG_check_89 (by decide) ?_
        refine zaddN (x := xn Z 6 k) (y := 1) hx hb d_KG_check_90 ?_
        refine zputN (Z' := (sn Z 6 k ((xn Z 6 k) + 1))) (v := .int (nI ((xn Z 6 k) + 1))) hC hd (e_key hkn) rfl i_Key t_Key t_Key_ok n_Key 16 (by decide) z_136 rfl rfl rfl rfl (Nat.le_of_ble_eq_true rfl) (u_at hkn) d_KG_check_91 (fun H locs hd => ?_)
        refine lv_iconst (v := 4) hx hb d_KG_check_94 (by decide) ?_
        exact zfi hC hd hr hlk d_KG_check_95 (by unfold x_check; rw [hq1]; (repeat (first | (rw [if_pos]; rotate_left; first | assumption | decide) | (rw [if_neg]; rotate_left; first | assumption | decide))) <;> (try rfl)) (by unfold x_check; rw [hq1]; (repeat (first | (rw [if_pos]; rotate_left; first | assumption | decide) | (rw [if_neg]; rotate_left; first | assumption | decide))) <;> (try rfl))
      · refine lv_aload_n hx hb d_KG_check_77 rfl (lv_at hl 4 rfl) ?_
        refine lv_iconst (v := 0) hx hb d_KG_check_78 (by decide) ?_
        refine zputN (Z' := (si Z 9 k 0)) (v := .int 0) hC hd (e_key hkn) rfl i_Key t_Key t_Key_ok n_Key 17 (by decide) z_137 rfl rfl (zbool (by decide)) (zboolf (by decide)) (Nat.le_of_ble_eq_true rfl) (u_checks hkn) d_KG_check_79 (fun H locs hd => ?_)
        refine lv_iconst (v := 5) hx hb d_KG_check_82 (by decide) ?_
        exact zfi hC hd hr hlk d_KG_check_83 (by unfold x_check; rw [hq1]; (repeat (first | (rw [if_pos]; rotate_left; first | assumption | decide) | (rw [if_neg]; rotate_left; first | assumption | decide))) <;> (try rfl)) (by unfold x_check; rw [hq1]; (repeat (first | (rw [if_pos]; rotate_left; first | assumption | decide) | (rw [if_neg]; rotate_left; first | assumption | decide))) <;> (try rfl))
    · refine lv_aload_n hx hb d_KG_check_57 rfl (lv_at hl 1 rfl) ?_
      refine lv_iload_n hx hb d_KG_check_58 rfl (lv_at hl 2 rfl) ?_
      refine lv_aload hx hb d_KG_check_59 (lv_at hl 0 rfl) ?_
      refine zb_i (r := ((x_goesDown Z u q).2)) hd (zrunV (n := 2) (rest := []) hC hd (e_kg hX.kg) rfl (c_KG_goesDown l G ad ow Z hX u q hu hqn (hdo q hqn c54).1 (hdo q hqn c54).2) q_461 q_463 qp_14 q_1 q_464 rfl rfl rfl (by decide +kernel) ⟨by decide, by decide⟩ rfl hl.1 (Nat.le_of_ble_eq_true rfl) d_KG_check_61 ⟨by decide, by decide⟩) (fun H locs hd => ?_)
      exact zfi hC hd hr hlk d_KG_check_64 (by unfold x_check; rw [hq1]; (repeat (first | (rw [if_pos]; rotate_left; first | assumption | decide) | (rw [if_neg]; rotate_left; first | assumption | decide))) <;> (try rfl)) (by unfold x_check; rw [hq1]; (repeat (first | (rw [if_pos]; rotate_left; first | assumption | decide) | (rw [if_neg]; rotate_left; first | assumption | decide))) <;> (try rfl))
  · refine lv_aload_n hx hb d_KG_check_11 rfl (lv_at hl 3 rfl) ?_
    refine lv_dup hx hb d_KG_check_12 rfl ?_
    refine zgetN hC hd (e_key hkn) rfl i_Key 9 (by decide) z_126 (Or.inl rfl) (v := .int (xi Z 6 k)) rfl d_KG_check_13 ?_
    refine lv_iconst (v := 1) hx hb d_KG_check_16 (by decide) ?_
    refine lv_iadd hx hb d_KG_check_17 ?_
    refine zputN (Z' := (si Z 6 k ((xi Z 6 k) + 1))) (v := .int ((xi Z 6 k) + 1)) hC hd (e_key hkn) rfl i_Key t_Key t_Key_ok n_Key 9 (by decide) z_126 rfl rfl rfl rfl (Nat.le_of_ble_eq_true rfl) (u_kpt hkn) d_KG_check_18 (fun H locs hd => ?_)
    refine lv_aload_n hx hb d_KG_check_21 rfl (lv_at hl 0 rfl) ?_
    refine lv_aload_n hx hb d_KG_check_22 rfl (lv_at hl 2 rfl) ?_
    refine zb_i (r := 2) hd (zrunV (n := 1) (rest := []) hC hd (e_kg hX.kg) rfl (c_KG_found l G ad ow (si Z 6 k ((xi Z 6 k) + 1)) hX u k hu hkn h1 h40 hne) q_457 q_459 qp_13 q_1 q_460 rfl rfl rfl (by decide +kernel) ⟨by decide, by decide⟩ rfl hl.1 (Nat.le_of_ble_eq_true rfl) d_KG_check_23 ⟨by decide, by decide⟩) (fun H locs hd => ?_)
    exact zfi hC hd hr hlk d_KG_check_26 (by unfold x_check; (repeat (first | (rw [if_pos]; rotate_left; first | assumption | decide) | (rw [if_neg]; rotate_left; first | assumption | decide))) <;> (try rfl)) (by unfold x_check; (repeat (first | (rw [if_pos]; rotate_left; first | assumption | decide) | (rw [if_neg]; rotate_left; first | assumption | decide))) <;> (try rfl))
set_option maxHeartbeats 4000000 in
theorem c_KG_stepOf0 (l : Launch) (G : Gt) (ad : Nat → Nat → Nat) (ow : Nat → Nat × Nat) (Z : Zt) (hX : XS Z) (u k : Nat) (hu : u < 5) (hkn : k < xn Z 0 1) (h0 : ¬ xn Z 9 u = 0) (h40 : xn Z 9 u ≤ 40) (hne : xc Z 7 u (xn Z 9 u - 1) = k + 1) (hk : xn Z 1 k = 0) (hdo : DownOk Z u) (hcp : ¬ xi Z 9 k = 0 → CheckPre Z k) (hwp : xi Z 9 k = 0 → WorkPre Z k) (hab : xn Z 6 k ≤ 2147483647 ∧ xn Z 4 k ≤ 2147483647) : Met l y_KG_stepOf w_KG_stepOf ({ frames := 5, cells := 0, slots := 0, locals := 111 }) (zPc G ad ow Z [.ref (ad 0 0), .int (nI u)]) (Qd G ad ow ((x_stepOf Z u).1) (some (.int (x_stepOf Z u).2))) 0 0 (zA G) := by
  refine zopen (cc := b_KG_stepOf) (maxL := 6) (ret := (some FieldType.int)) (by decide) rfl (Nat.le_of_ble_eq_true rfl) ?_
  intro p e s m below meth c ls hC hr hlk hnm hd hl
  have hC : Cx G p c m s _ "KeyGraph" b_KG_stepOf 6 := hC
  have hl : lv_has ls 6 [(0, .ref (ad 0 0)), (1, .int (nI u))] := hl
  have hx := hC.1
  have hb := hC.2.1
  have hlf : ¬ xn Z 1 k = 6 := by omega
  have hk40 := hX.k40
  have hne1 : xc Z 7 u (xn Z 9 u - 1) - 1 = k := by omega
  refine lv_aload_n hx hb d_KG_stepOf_0 rfl (lv_at hl 0 rfl) ?_
  refine zget hC hd (e_kg hX.kg) rfl i_KG 1 (by decide) q_81 (Or.inl rfl) (v := .ref (ad 8 0)) rfl d_KG_stepOf_1 ?_
  refine lv_iload_n hx hb d_KG_stepOf_4 rfl (lv_at hl 1 rfl) ?_
  refine zaaP (k := u) hC hd (e_piles hX.ps) (by omega) (by decide) rfl d_KG_stepOf_5 ?_
  refine lv_astore_n (lv' := [(2, .ref (ad 6 u)), (0, .ref (ad 0 0)), (1, .int (nI u))]) hx hb d_KG_stepOf_6 rfl hl (by decide) rfl (fun ls hl => ?_)
  refine lv_aload_n hx hb d_KG_stepOf_7 rfl (lv_at hl 0 rfl) ?_
  refine zgetN hC hd (e_pile (hX.pl hu)) rfl i_Pile 1 (by decide) z_74 (Or.inl rfl) (v := .int (nI (xn Z 9 u))) rfl d_KG_stepOf_8 ?_
  refine zi_ne (x := xn Z 9 u) (tgt := 16) (by omega) hx hb d_KG_stepOf_11 (by decide) (fun c11 => ?_) (fun c11 => absurd c11 (by omega))
  refine lv_aload_n hx hb d_KG_stepOf_16 rfl (lv_at hl 0 rfl) ?_
  refine zb_a (r := (ad 1 k)) hd (zrunV (n := 0) (rest := []) hC hd (e_pile (hX.pl hu)) rfl (c_Pile_top l G ad ow Z hX u hu (by omega) (by omega) k hne) q_394 q_395 q_396 q_5 q_397 rfl rfl rfl (by decide +kernel) ⟨by decide, by decide⟩ rfl hl.1 (Nat.le_of_ble_eq_true rfl) d_KG_stepOf_17 ⟨by decide, by decide⟩) (fun H locs hd => ?_)
  refine lv_astore_n (lv' := [(3, .ref (ad 1 k)), (2, .ref (ad 6 u)), (0, .ref (ad 0 0)), (1, .int (nI u))]) hx hb d_KG_stepOf_20 rfl hl (by decide) rfl (fun ls hl => ?_)
  refine lv_aload_n hx hb d_KG_stepOf_21 rfl (lv_at hl 0 rfl) ?_
  refine zgetN hC hd (e_key hkn) rfl i_Key 17 (by decide) z_137 (Or.inl rfl) (v := .int (xi Z 9 k)) rfl d_KG_stepOf_22 ?_
  refine lv_if_eq (tgt := 36) hx hb d_KG_stepOf_25 (by decide) (fun c25 => ?_) (fun c25 => ?_)
  · refine lv_aload_n hx hb d_KG_stepOf_36 rfl (lv_at hl 0 rfl) ?_
    refine zgetN hC hd (e_key hkn) rfl i_Key 10 (by decide) z_127 (Or.inl rfl) (v := .int (xi Z 7 k)) rfl d_KG_stepOf_37 ?_
    refine lv_if_eq (tgt := 51) hx hb d_KG_stepOf_40 (by decide) (fun c40 => ?_) (fun c40 => ?_)
    · refine lv_aload_n hx hb d_KG_stepOf_51 rfl (lv_at hl 0 rfl) ?_
      refine zgetN hC hd (e_key hkn) rfl i_Key 1 (by decide) z_116 (Or.inl rfl) (v := .ref (ad 2 k)) (congrArg (fun q => some (va_rf q)) (if_neg hlf)) d_KG_stepOf_52 ?_
      refine zb_i (r := (xi Z 12 k)) hd (zrunU (owner := "KeyGraph$Function") (n := 0) (rest := []) hC hd (e_f0 (hX.fn hkn) hk) rfl (c_Fun_fails0 l G ad ow Z k (hX.fn hkn) hk (hwp c25).1) q_469 q_471 q_476 q_470 q_12 q_477 rfl rfl rfl rfl (by decide +kernel) ⟨by decide, by decide⟩ rfl hl.1 (Nat.le_of_ble_eq_true rfl) d_KG_stepOf_55 ⟨by decide, by decide⟩) (fun H locs hd => ?_)
      refine lv_if_eq (tgt := 69) hx hb d_KG_stepOf_58 (by decide) (fun c58 => ?_) (fun c58 => ?_)
      · refine lv_aload_n hx hb d_KG_stepOf_69 rfl (lv_at hl 0 rfl) ?_
        refine zgetN hC hd (e_key hkn) rfl i_Key 1 (by decide) z_116 (Or.inl rfl) (v := .ref (ad 2 k)) (congrArg (fun q => some (va_rf q)) (if_neg hlf)) d_KG_stepOf_70 ?_
        refine zb_i (r := (x_next Z k)) hd (zrunU (owner := "KeyGraph$Function") (n := 0) (rest := []) hC hd (e_f0 (hX.fn hkn) hk) rfl (c_Fun_next0 l G ad ow Z k (hX.fn hkn) hk) q_478 q_480 q_487 q_479 q_12 q_488 rfl rfl rfl rfl (by decide +kernel) ⟨by decide, by decide⟩ rfl hl.1 (Nat.le_of_ble_eq_true rfl) d_KG_stepOf_73 ⟨by decide, by decide⟩) (fun H locs hd => ?_)
        refine lv_istore (lv' := [(4, .int (x_next Z k)), (3, .ref (ad 1 k)), (2, .ref (ad 6 u)), (0, .ref (ad 0 0)), (1, .int (nI u))]) hx hb d_KG_stepOf_76 hl (by decide) rfl (fun ls hl => ?_)
        refine lv_iload hx hb d_KG_stepOf_78 (lv_at hl 0 rfl) ?_
        refine lv_if_ge (tgt := 97) hx hb d_KG_stepOf_80 (by decide) (fun c80 => ?_) (fun c80 => ?_)
        · obtain ⟨hj, hak⟩ := (hwp c25).2.1 c80
          obtain ⟨j, hj9, ej⟩ := nI_of (Int32.not_lt.mpr c80)
          have ejc : (x_next Z k).toNatClampNeg = j := by rw [ej, nI_clamp hj9]
          rw [ejc] at hj
          rw [ej] at hl
          have hrow := (hX.2.2.2.1 k hkn).2 _ hj
          obtain ⟨q, hq⟩ : ∃ q, xc Z 4 (k + 2) j = q + 1 := ⟨xc Z 4 (k + 2) j - 1, by omega⟩
          have hq1 : xc Z 4 (k + 2) j - 1 = q := by omega
          have hqn : q < xn Z 0 1 := by omega
          refine lv_aload_n hx hb d_KG_stepOf_97 rfl (lv_at hl 1 rfl) ?_
          refine zgetN hC hd (e_key hkn) rfl i_Key 2 (by decide) z_118 (Or.inl rfl) (v := .ref (ad 3 (k + 2))) rfl d_KG_stepOf_98 ?_
          refine lv_iload hx hb d_KG_stepOf_101 (lv_at hl 0 rfl) ?_
          refine zb_a (r := (ad 1 q)) hd (zrunV (n := 1) (rest := []) hC hd (e_list (hX.l hkn)) rfl (c_get l G ad ow Z hX (k + 2) j q (hX.l hkn) hj hq) q_352 q_353 q_354 q_4 q_355 rfl rfl rfl (by decide +kernel) ⟨by decide, by decide⟩ rfl hl.1 (Nat.le_of_ble_eq_true rfl) d_KG_stepOf_103 ⟨by decide, by decide⟩) (fun H locs hd => ?_)
          refine zcast hC hd (e_key hqn) q_105 d_KG_stepOf_106 ?_
          refine lv_astore (lv' := [(5, .ref (ad 1 q)), (4, .int (nI j)), (3, .ref (ad 1 k)), (2, .ref (ad 6 u)), (0, .ref (ad 0 0)), (1, .int (nI u))]) hx hb d_KG_stepOf_109 hl (by decide) rfl (fun ls hl => ?_)
          refine lv_aload_n hx hb d_KG_stepOf_111 rfl (lv_at hl 4 rfl) ?_
          refine lv_aload hx hb d_KG_stepOf_112 (lv_at hl 0 rfl) ?_
          refine zb_i (r := (x_isSure Z q)) hd (zrunV (n := 1) (rest := []) hC hd (e_kg hX.kg) rfl (c_KG_isSure l G ad ow Z hX q (x_isSure Z q) hqn rfl) q_421 q_423 qp_9 q_1 q_424 rfl rfl rfl (by decide +kernel) ⟨by decide, by decide⟩ rfl hl.1 (Nat.le_of_ble_eq_true rfl) d_KG_stepOf_114 ⟨by decide, by decide⟩) (fun H locs hd => ?_)
          refine lv_if_ne (tgt := 128) hx hb d_KG_stepOf_117 (by decide) (fun c117 => ?_) (fun c117 => ?_)
          · refine lv_aload_n hx hb d_KG_stepOf_128 rfl (lv_at hl 2 rfl) ?_
            refine zgetN hC hd (e_key hkn) rfl i_Key 12 (by decide) z_131 (Or.inl rfl) (v := .ref (ad 5 (xn Z 8 k))) rfl d_KG_stepOf_129 ?_
            refine lv_aload_n hx hb d_KG_stepOf_132 rfl (lv_at hl 2 rfl) ?_
            refine zgetN hC hd (e_key hkn) rfl i_Key 14 (by decide) z_133 (Or.inl rfl) (v := .int (nI (xn Z 5 k))) rfl d_KG_stepOf_133 ?_
            refine lv_iload hx hb d_KG_stepOf_136 (lv_at hl 1 rfl) ?_
            refine ziaS (k := xn Z 5 k) (Z' := (sc Z 5 (xn Z 8 k) (xn Z 5 k) j)) hC hd (e_arr (hX.ar (hX.2.2.2.2.2 k hkn).2)) (by omega) (by decide) (u_arr (hX.ar (hX.2.2.2.2.2 k hkn).2)) d_KG_stepOf_138 (fun H locs hd => ?_)
            refine lv_aload_n hx hb d_KG_stepOf_139 rfl (lv_at hl 2 rfl) ?_
            refine lv_dup hx hb d_KG_stepOf_140 rfl ?_
            refine zgetN hC hd (e_key hkn) rfl i_Key 14 (by decide) z_133 (Or.inl rfl) (v := .int (nI (xn Z 5 k))) rfl d_KG_stepOf_141 ?_
            refine lv_iconst (v := 1) hx hb d_KG_stepOf_144 (by decide) ?_
            refine zaddN (x := xn Z 5 k) (y := 1) hx hb d_KG_stepOf_145 ?_
            refine zputN (Z' := (sn (sc Z 5 (xn Z 8 k) (xn Z 5 k) j) 5 k ((xn Z 5 k) + 1))) (v := .int (nI ((xn Z 5 k) + 1))) hC hd (e_key hkn) rfl i_Key t_Key t_Key_ok n_Key 14 (by decide) z_133 rfl rfl rfl rfl (Nat.le_of_ble_eq_true rfl) (u_askingC hkn) d_KG_stepOf_146 (fun H locs hd => ?_)
            refine lv_aload hx hb d_KG_stepOf_149 (lv_at hl 0 rfl) ?_
            refine zgetN hC hd (e_key hqn) rfl i_Key 3 (by decide) z_119 (Or.inl rfl) (v := .int (xi Z 1 q)) rfl d_KG_stepOf_151 ?_
            refine lv_iconst (v := 1) hx hb d_KG_stepOf_154 (by decide) ?_
            refine lv_icmp_eq (tgt := 166) hx hb d_KG_stepOf_155 (by decide) (fun c155 => ?_) (fun c155 => ?_)
            · refine lv_aload_n hx hb d_KG_stepOf_166 rfl (lv_at hl 2 rfl) ?_
              refine zgetN hC hd (e_key hkn) rfl i_Key 1 (by decide) z_116 (Or.inl rfl) (v := .ref (ad 2 k)) (congrArg (fun q => some (va_rf q)) (if_neg hlf)) d_KG_stepOf_167 ?_
              refine lv_aload hx hb d_KG_stepOf_170 (lv_at hl 0 rfl) ?_
              refine zgetN hC hd (e_key hqn) rfl i_Key 4 (by decide) z_120 (Or.inl rfl) (v := .long (xl Z 1 q)) rfl d_KG_stepOf_172 ?_
              refine zb_v hd (zrunU (owner := "KeyGraph$Function") (n := 1) (rest := []) hC hd (e_f0 (hX.fn hkn) hk) rfl (c_Fun_take0 l G ad ow (sn (sc Z 5 (xn Z 8 k) (xn Z 5 k) j) 5 k ((xn Z 5 k) + 1)) k (hX.fn hkn) hk (xl Z 1 q)) q_500 q_502 q_513 q_501 q_12 q_514 rfl rfl rfl rfl (by decide +kernel) ⟨by decide, by decide⟩ rfl hl.1 (Nat.le_of_ble_eq_true rfl) d_KG_stepOf_175 ⟨by decide, by decide⟩) (fun H locs hd => ?_)
              refine lv_bipush (v := 6) hx hb d_KG_stepOf_178 (by decide) ?_
              exact zfi hC hd hr hlk d_KG_stepOf_180 (by unfold x_stepOf x_step1 x_work; rw [hne1, ejc]; unfold x_workN; rw [hq1]; (repeat (first | (rw [if_pos]; rotate_left; first | assumption | decide) | (rw [if_neg]; rotate_left; first | assumption | decide))) <;> (try rfl)) (by unfold x_stepOf x_step1 x_work; rw [hne1, ejc]; unfold x_workN; rw [hq1]; (repeat (first | (rw [if_pos]; rotate_left; first | assumption | decide) | (rw [if_neg]; rotate_left; first | assumption | decide))) <;> (try rfl))
            · refine lv_aload_n hx hb d_KG_stepOf_158 rfl (lv_at hl 4 rfl) ?_
              refine lv_aload_n hx hb d_KG_stepOf_159 rfl (lv_at hl 3 rfl) ?_
              refine lv_iconst (v := 3) hx hb d_KG_stepOf_160 (by decide) ?_
              refine lv_lconst (v := 0) hx hb d_KG_stepOf_161 (by decide) ?_
              refine zb_i (r := 2) hd (zrunV (n := 3) (rest := []) hC hd (e_kg hX.kg) rfl (c_KG_ends l G ad ow (sn (sc Z 5 (xn Z 8 k) (xn Z 5 k) j) 5 k ((xn Z 5 k) + 1)) hX u k hu hkn (show 1 ≤ xn Z 9 u by omega) h40 hne 3 0) q_465 q_467 qp_15 q_1 q_468 rfl rfl rfl (by decide +kernel) ⟨by decide, by decide⟩ rfl hl.1 (Nat.le_of_ble_eq_true rfl) d_KG_stepOf_162 ⟨by decide, by decide⟩) (fun H locs hd => ?_)
              exact zfi hC hd hr hlk d_KG_stepOf_165 (by unfold x_stepOf x_step1 x_work; rw [hne1, ejc]; unfold x_workN; rw [hq1]; (repeat (first | (rw [if_pos]; rotate_left; first | assumption | decide) | (rw [if_neg]; rotate_left; first | assumption | decide))) <;> (try rfl)) (by unfold x_stepOf x_step1 x_work; rw [hne1, ejc]; unfold x_workN; rw [hq1]; (repeat (first | (rw [if_pos]; rotate_left; first | assumption | decide) | (rw [if_neg]; rotate_left; first | assumption | decide))) <;> (try rfl))
          · refine lv_aload_n hx hb d_KG_stepOf_120 rfl (lv_at hl 4 rfl) ?_
            refine lv_iload_n hx hb d_KG_stepOf_121 rfl (lv_at hl 5 rfl) ?_
            refine lv_aload hx hb d_KG_stepOf_122 (lv_at hl 0 rfl) ?_
            refine zb_i (r := ((x_goesDown Z u q).2)) hd (zrunV (n := 2) (rest := []) hC hd (e_kg hX.kg) rfl (c_KG_goesDown l G ad ow Z hX u q hu hqn (hdo q hqn c117).1 (hdo q hqn c117).2) q_461 q_463 qp_14 q_1 q_464 rfl rfl rfl (by decide +kernel) ⟨by decide, by decide⟩ rfl hl.1 (Nat.le_of_ble_eq_true rfl) d_KG_stepOf_124 ⟨by decide, by decide⟩) (fun H locs hd => ?_)
            exact zfi hC hd hr hlk d_KG_stepOf_127 (by unfold x_stepOf x_step1 x_work; rw [hne1, ejc]; unfold x_workN; rw [hq1]; (repeat (first | (rw [if_pos]; rotate_left; first | assumption | decide) | (rw [if_neg]; rotate_left; first | assumption | decide))) <;> (try rfl)) (by unfold x_stepOf x_step1 x_work; rw [hne1, ejc]; unfold x_workN; rw [hq1]; (repeat (first | (rw [if_pos]; rotate_left; first | assumption | decide) | (rw [if_neg]; rotate_left; first | assumption | decide))) <;> (try rfl))
        · refine lv_aload_n hx hb d_KG_stepOf_83 rfl (lv_at hl 3 rfl) ?_
          refine lv_aload_n hx hb d_KG_stepOf_84 rfl (lv_at hl 2 rfl) ?_
          refine lv_iconst (v := 1) hx hb d_KG_stepOf_85 (by decide) ?_
          refine lv_aload_n hx hb d_KG_stepOf_86 rfl (lv_at hl 1 rfl) ?_
          refine zgetN hC hd (e_key hkn) rfl i_Key 1 (by decide) z_116 (Or.inl rfl) (v := .ref (ad 2 k)) (congrArg (fun q => some (va_rf q)) (if_neg hlf)) d_KG_stepOf_87 ?_
          refine zb_l (r := (x_result Z k)) hd (zrunO (owner := "KeyGraph$Function") (n := 0) (rest := [.int 1, .ref (ad 6 u), .ref (ad 0 0)]) hC hd (e_f0 (hX.fn hkn) hk) rfl (c_Sum_result0 l G ad ow Z k (hX.fn hkn) hk) q_489 q_491 q_490 q_496 q_497 q_13 q_498 q_499 rfl rfl rfl (by decide +kernel) ⟨by decide, by decide⟩ rfl hl.1 (Nat.le_of_ble_eq_true rfl) d_KG_stepOf_90 ⟨by decide, by decide⟩) (fun H locs hd => ?_)
          refine zb_i (r := 2) hd (zrunV (n := 3) (rest := []) hC hd (e_kg hX.kg) rfl (c_KG_ends l G ad ow Z hX u k hu hkn (show 1 ≤ xn Z 9 u by omega) h40 hne 1 (x_result Z k)) q_465 q_467 qp_15 q_1 q_468 rfl rfl rfl (by decide +kernel) ⟨by decide, by decide⟩ rfl hl.1 (Nat.le_of_ble_eq_true rfl) d_KG_stepOf_93 ⟨by decide, by decide⟩) (fun H locs hd => ?_)
          exact zfi hC hd hr hlk d_KG_stepOf_96 (by unfold x_stepOf x_step1 x_work; rw [hne1]; (repeat (first | (rw [if_pos]; rotate_left; first | assumption | decide) | (rw [if_neg]; rotate_left; first | assumption | decide))) <;> (try rfl)) (by unfold x_stepOf x_step1 x_work; rw [hne1]; (repeat (first | (rw [if_pos]; rotate_left; first | assumption | decide) | (rw [if_neg]; rotate_left; first | assumption | decide))) <;> (try rfl))
      · refine lv_aload_n hx hb d_KG_stepOf_61 rfl (lv_at hl 2 rfl) ?_
        refine lv_aload_n hx hb d_KG_stepOf_62 rfl (lv_at hl 1 rfl) ?_
        refine lv_iconst (v := 2) hx hb d_KG_stepOf_63 (by decide) ?_
        refine lv_lconst (v := 0) hx hb d_KG_stepOf_64 (by decide) ?_
        refine zb_i (r := 2) hd (zrunV (n := 3) (rest := []) hC hd (e_kg hX.kg) rfl (c_KG_ends l G ad ow Z hX u k hu hkn (show 1 ≤ xn Z 9 u by omega) h40 hne 2 0) q_465 q_467 qp_15 q_1 q_468 rfl rfl rfl (by decide +kernel) ⟨by decide, by decide⟩ rfl hl.1 (Nat.le_of_ble_eq_true rfl) d_KG_stepOf_65 ⟨by decide, by decide⟩) (fun H locs hd => ?_)
        exact zfi hC hd hr hlk d_KG_stepOf_68 (by unfold x_stepOf x_step1 x_work; rw [hne1]; (repeat (first | (rw [if_pos]; rotate_left; first | assumption | decide) | (rw [if_neg]; rotate_left; first | assumption | decide))) <;> (try rfl)) (by unfold x_stepOf x_step1 x_work; rw [hne1]; (repeat (first | (rw [if_pos]; rotate_left; first | assumption | decide) | (rw [if_neg]; rotate_left; first | assumption | decide))) <;> (try rfl))
    · refine lv_aload_n hx hb d_KG_stepOf_43 rfl (lv_at hl 2 rfl) ?_
      refine lv_aload_n hx hb d_KG_stepOf_44 rfl (lv_at hl 1 rfl) ?_
      refine lv_iconst (v := 2) hx hb d_KG_stepOf_45 (by decide) ?_
      refine lv_lconst (v := 0) hx hb d_KG_stepOf_46 (by decide) ?_
      refine zb_i (r := 2) hd (zrunV (n := 3) (rest := []) hC hd (e_kg hX.kg) rfl (c_KG_ends l G ad ow Z hX u k hu hkn (show 1 ≤ xn Z 9 u by omega) h40 hne 2 0) q_465 q_467 qp_15 q_1 q_468 rfl rfl rfl (by decide +kernel) ⟨by decide, by decide⟩ rfl hl.1 (Nat.le_of_ble_eq_true rfl) d_KG_stepOf_47 ⟨by decide, by decide⟩) (fun H locs hd => ?_)
      exact zfi hC hd hr hlk d_KG_stepOf_50 (by unfold x_stepOf x_step1 x_work; rw [hne1]; (repeat (first | (rw [if_pos]; rotate_left; first | assumption | decide) | (rw [if_neg]; rotate_left; first | assumption | decide))) <;> (try rfl)) (by unfold x_stepOf x_step1 x_work; rw [hne1]; (repeat (first | (rw [if_pos]; rotate_left; first | assumption | decide) | (rw [if_neg]; rotate_left; first | assumption | decide))) <;> (try rfl))
  · refine lv_aload_n hx hb d_KG_stepOf_28 rfl (lv_at hl 2 rfl) ?_
    refine lv_iload_n hx hb d_KG_stepOf_29 rfl (lv_at hl 3 rfl) ?_
    refine lv_aload_n hx hb d_KG_stepOf_30 rfl (lv_at hl 1 rfl) ?_
    refine lv_aload_n hx hb d_KG_stepOf_31 rfl (lv_at hl 0 rfl) ?_
    refine zb_i (r := ((x_check Z u k).2)) hd (zrunV (n := 3) (rest := []) hC hd (e_kg hX.kg) rfl (c_KG_check l G ad ow Z hX u k hu hkn (by omega) h40 hne hdo (hcp c25) hab) q_453 q_455 qp_12 q_1 q_456 rfl rfl rfl (by decide +kernel) ⟨by decide, by decide⟩ rfl hl.1 (Nat.le_of_ble_eq_true rfl) d_KG_stepOf_32 ⟨by decide, by decide⟩) (fun H locs hd => ?_)
    exact zfi hC hd hr hlk d_KG_stepOf_35 (by unfold x_stepOf x_step1 x_work; rw [hne1]; (repeat (first | (rw [if_pos]; rotate_left; first | assumption | decide) | (rw [if_neg]; rotate_left; first | assumption | decide))) <;> (try rfl)) (by unfold x_stepOf x_step1 x_work; rw [hne1]; (repeat (first | (rw [if_pos]; rotate_left; first | assumption | decide) | (rw [if_neg]; rotate_left; first | assumption | decide))) <;> (try rfl))
set_option maxHeartbeats 4000000 in
theorem c_KG_stepOf1 (l : Launch) (G : Gt) (ad : Nat → Nat → Nat) (ow : Nat → Nat × Nat) (Z : Zt) (hX : XS Z) (u k : Nat) (hu : u < 5) (hkn : k < xn Z 0 1) (h0 : ¬ xn Z 9 u = 0) (h40 : xn Z 9 u ≤ 40) (hne : xc Z 7 u (xn Z 9 u - 1) = k + 1) (hk : xn Z 1 k = 1) (hdo : DownOk Z u) (hcp : ¬ xi Z 9 k = 0 → CheckPre Z k) (hwp : xi Z 9 k = 0 → WorkPre Z k) (hab : xn Z 6 k ≤ 2147483647 ∧ xn Z 4 k ≤ 2147483647) : Met l y_KG_stepOf w_KG_stepOf ({ frames := 5, cells := 0, slots := 0, locals := 111 }) (zPc G ad ow Z [.ref (ad 0 0), .int (nI u)]) (Qd G ad ow ((x_stepOf Z u).1) (some (.int (x_stepOf Z u).2))) 0 0 (zA G) := by
  refine zopen (cc := b_KG_stepOf) (maxL := 6) (ret := (some FieldType.int)) (by decide) rfl (Nat.le_of_ble_eq_true rfl) ?_
  intro p e s m below meth c ls hC hr hlk hnm hd hl
  have hC : Cx G p c m s _ "KeyGraph" b_KG_stepOf 6 := hC
  have hl : lv_has ls 6 [(0, .ref (ad 0 0)), (1, .int (nI u))] := hl
  have hx := hC.1
  have hb := hC.2.1
  have hlf : ¬ xn Z 1 k = 6 := by omega
  have hk40 := hX.k40
  have hne1 : xc Z 7 u (xn Z 9 u - 1) - 1 = k := by omega
  refine lv_aload_n hx hb d_KG_stepOf_0 rfl (lv_at hl 0 rfl) ?_
  refine zget hC hd (e_kg hX.kg) rfl i_KG 1 (by decide) q_81 (Or.inl rfl) (v := .ref (ad 8 0)) rfl d_KG_stepOf_1 ?_
  refine lv_iload_n hx hb d_KG_stepOf_4 rfl (lv_at hl 1 rfl) ?_
  refine zaaP (k := u) hC hd (e_piles hX.ps) (by omega) (by decide) rfl d_KG_stepOf_5 ?_
  refine lv_astore_n (lv' := [(2, .ref (ad 6 u)), (0, .ref (ad 0 0)), (1, .int (nI u))]) hx hb d_KG_stepOf_6 rfl hl (by decide) rfl (fun ls hl => ?_)
  refine lv_aload_n hx hb d_KG_stepOf_7 rfl (lv_at hl 0 rfl) ?_
  refine zgetN hC hd (e_pile (hX.pl hu)) rfl i_Pile 1 (by decide) z_74 (Or.inl rfl) (v := .int (nI (xn Z 9 u))) rfl d_KG_stepOf_8 ?_
  refine zi_ne (x := xn Z 9 u) (tgt := 16) (by omega) hx hb d_KG_stepOf_11 (by decide) (fun c11 => ?_) (fun c11 => absurd c11 (by omega))
  refine lv_aload_n hx hb d_KG_stepOf_16 rfl (lv_at hl 0 rfl) ?_
  refine zb_a (r := (ad 1 k)) hd (zrunV (n := 0) (rest := []) hC hd (e_pile (hX.pl hu)) rfl (c_Pile_top l G ad ow Z hX u hu (by omega) (by omega) k hne) q_394 q_395 q_396 q_5 q_397 rfl rfl rfl (by decide +kernel) ⟨by decide, by decide⟩ rfl hl.1 (Nat.le_of_ble_eq_true rfl) d_KG_stepOf_17 ⟨by decide, by decide⟩) (fun H locs hd => ?_)
  refine lv_astore_n (lv' := [(3, .ref (ad 1 k)), (2, .ref (ad 6 u)), (0, .ref (ad 0 0)), (1, .int (nI u))]) hx hb d_KG_stepOf_20 rfl hl (by decide) rfl (fun ls hl => ?_)
  refine lv_aload_n hx hb d_KG_stepOf_21 rfl (lv_at hl 0 rfl) ?_
  refine zgetN hC hd (e_key hkn) rfl i_Key 17 (by decide) z_137 (Or.inl rfl) (v := .int (xi Z 9 k)) rfl d_KG_stepOf_22 ?_
  refine lv_if_eq (tgt := 36) hx hb d_KG_stepOf_25 (by decide) (fun c25 => ?_) (fun c25 => ?_)
  · refine lv_aload_n hx hb d_KG_stepOf_36 rfl (lv_at hl 0 rfl) ?_
    refine zgetN hC hd (e_key hkn) rfl i_Key 10 (by decide) z_127 (Or.inl rfl) (v := .int (xi Z 7 k)) rfl d_KG_stepOf_37 ?_
    refine lv_if_eq (tgt := 51) hx hb d_KG_stepOf_40 (by decide) (fun c40 => ?_) (fun c40 => ?_)
    · refine lv_aload_n hx hb d_KG_stepOf_51 rfl (lv_at hl 0 rfl) ?_
      refine zgetN hC hd (e_key hkn) rfl i_Key 1 (by decide) z_116 (Or.inl rfl) (v := .ref (ad 2 k)) (congrArg (fun q => some (va_rf q)) (if_neg hlf)) d_KG_stepOf_52 ?_
      refine zb_i (r := (xi Z 12 k)) hd (zrunU (owner := "KeyGraph$Function") (n := 0) (rest := []) hC hd (e_f1 (hX.fn hkn) hk) rfl (c_Fun_fails1 l G ad ow Z k (hX.fn hkn) hk (hwp c25).1) q_469 q_471 q_473 q_470 q_12 q_477 rfl rfl rfl rfl (by decide +kernel) ⟨by decide, by decide⟩ rfl hl.1 (Nat.le_of_ble_eq_true rfl) d_KG_stepOf_55 ⟨by decide, by decide⟩) (fun H locs hd => ?_)
      refine lv_if_eq (tgt := 69) hx hb d_KG_stepOf_58 (by decide) (fun c58 => ?_) (fun c58 => ?_)
      · refine lv_aload_n hx hb d_KG_stepOf_69 rfl (lv_at hl 0 rfl) ?_
        refine zgetN hC hd (e_key hkn) rfl i_Key 1 (by decide) z_116 (Or.inl rfl) (v := .ref (ad 2 k)) (congrArg (fun q => some (va_rf q)) (if_neg hlf)) d_KG_stepOf_70 ?_
        refine zb_i (r := (x_next Z k)) hd (zrunU (owner := "KeyGraph$Function") (n := 0) (rest := []) hC hd (e_f1 (hX.fn hkn) hk) rfl (c_Fun_next1 l G ad ow Z k (hX.fn hkn) hk) q_478 q_480 q_484 q_479 q_12 q_488 rfl rfl rfl rfl (by decide +kernel) ⟨by decide, by decide⟩ rfl hl.1 (Nat.le_of_ble_eq_true rfl) d_KG_stepOf_73 ⟨by decide, by decide⟩) (fun H locs hd => ?_)
        refine lv_istore (lv' := [(4, .int (x_next Z k)), (3, .ref (ad 1 k)), (2, .ref (ad 6 u)), (0, .ref (ad 0 0)), (1, .int (nI u))]) hx hb d_KG_stepOf_76 hl (by decide) rfl (fun ls hl => ?_)
        refine lv_iload hx hb d_KG_stepOf_78 (lv_at hl 0 rfl) ?_
        refine lv_if_ge (tgt := 97) hx hb d_KG_stepOf_80 (by decide) (fun c80 => ?_) (fun c80 => ?_)
        · obtain ⟨hj, hak⟩ := (hwp c25).2.1 c80
          obtain ⟨j, hj9, ej⟩ := nI_of (Int32.not_lt.mpr c80)
          have ejc : (x_next Z k).toNatClampNeg = j := by rw [ej, nI_clamp hj9]
          rw [ejc] at hj
          rw [ej] at hl
          have hrow := (hX.2.2.2.1 k hkn).2 _ hj
          obtain ⟨q, hq⟩ : ∃ q, xc Z 4 (k + 2) j = q + 1 := ⟨xc Z 4 (k + 2) j - 1, by omega⟩
          have hq1 : xc Z 4 (k + 2) j - 1 = q := by omega
          have hqn : q < xn Z 0 1 := by omega
          refine lv_aload_n hx hb d_KG_stepOf_97 rfl (lv_at hl 1 rfl) ?_
          refine zgetN hC hd (e_key hkn) rfl i_Key 2 (by decide) z_118 (Or.inl rfl) (v := .ref (ad 3 (k + 2))) rfl d_KG_stepOf_98 ?_
          refine lv_iload hx hb d_KG_stepOf_101 (lv_at hl 0 rfl) ?_
          refine zb_a (r := (ad 1 q)) hd (zrunV (n := 1) (rest := []) hC hd (e_list (hX.l hkn)) rfl (c_get l G ad ow Z hX (k + 2) j q (hX.l hkn) hj hq) q_352 q_353 q_354 q_4 q_355 rfl rfl rfl (by decide +kernel) ⟨by decide, by decide⟩ rfl hl.1 (Nat.le_of_ble_eq_true rfl) d_KG_stepOf_103 ⟨by decide, by decide⟩) (fun H locs hd => ?_)
          refine zcast hC hd (e_key hqn) q_105 d_KG_stepOf_106 ?_
          refine lv_astore (lv' := [(5, .ref (ad 1 q)), (4, .int (nI j)), (3, .ref (ad 1 k)), (2, .ref (ad 6 u)), (0, .ref (ad 0 0)), (1, .int (nI u))]) hx hb d_KG_stepOf_109 hl (by decide) rfl (fun ls hl => ?_)
          refine lv_aload_n hx hb d_KG_stepOf_111 rfl (lv_at hl 4 rfl) ?_
          refine lv_aload hx hb d_KG_stepOf_112 (lv_at hl 0 rfl) ?_
          refine zb_i (r := (x_isSure Z q)) hd (zrunV (n := 1) (rest := []) hC hd (e_kg hX.kg) rfl (c_KG_isSure l G ad ow Z hX q (x_isSure Z q) hqn rfl) q_421 q_423 qp_9 q_1 q_424 rfl rfl rfl (by decide +kernel) ⟨by decide, by decide⟩ rfl hl.1 (Nat.le_of_ble_eq_true rfl) d_KG_stepOf_114 ⟨by decide, by decide⟩) (fun H locs hd => ?_)
          refine lv_if_ne (tgt := 128) hx hb d_KG_stepOf_117 (by decide) (fun c117 => ?_) (fun c117 => ?_)
          · refine lv_aload_n hx hb d_KG_stepOf_128 rfl (lv_at hl 2 rfl) ?_
            refine zgetN hC hd (e_key hkn) rfl i_Key 12 (by decide) z_131 (Or.inl rfl) (v := .ref (ad 5 (xn Z 8 k))) rfl d_KG_stepOf_129 ?_
            refine lv_aload_n hx hb d_KG_stepOf_132 rfl (lv_at hl 2 rfl) ?_
            refine zgetN hC hd (e_key hkn) rfl i_Key 14 (by decide) z_133 (Or.inl rfl) (v := .int (nI (xn Z 5 k))) rfl d_KG_stepOf_133 ?_
            refine lv_iload hx hb d_KG_stepOf_136 (lv_at hl 1 rfl) ?_
            refine ziaS (k := xn Z 5 k) (Z' := (sc Z 5 (xn Z 8 k) (xn Z 5 k) j)) hC hd (e_arr (hX.ar (hX.2.2.2.2.2 k hkn).2)) (by omega) (by decide) (u_arr (hX.ar (hX.2.2.2.2.2 k hkn).2)) d_KG_stepOf_138 (fun H locs hd => ?_)
            refine lv_aload_n hx hb d_KG_stepOf_139 rfl (lv_at hl 2 rfl) ?_
            refine lv_dup hx hb d_KG_stepOf_140 rfl ?_
            refine zgetN hC hd (e_key hkn) rfl i_Key 14 (by decide) z_133 (Or.inl rfl) (v := .int (nI (xn Z 5 k))) rfl d_KG_stepOf_141 ?_
            refine lv_iconst (v := 1) hx hb d_KG_stepOf_144 (by decide) ?_
            refine zaddN (x := xn Z 5 k) (y := 1) hx hb d_KG_stepOf_145 ?_
            refine zputN (Z' := (sn (sc Z 5 (xn Z 8 k) (xn Z 5 k) j) 5 k ((xn Z 5 k) + 1))) (v := .int (nI ((xn Z 5 k) + 1))) hC hd (e_key hkn) rfl i_Key t_Key t_Key_ok n_Key 14 (by decide) z_133 rfl rfl rfl rfl (Nat.le_of_ble_eq_true rfl) (u_askingC hkn) d_KG_stepOf_146 (fun H locs hd => ?_)
            refine lv_aload hx hb d_KG_stepOf_149 (lv_at hl 0 rfl) ?_
            refine zgetN hC hd (e_key hqn) rfl i_Key 3 (by decide) z_119 (Or.inl rfl) (v := .int (xi Z 1 q)) rfl d_KG_stepOf_151 ?_
            refine lv_iconst (v := 1) hx hb d_KG_stepOf_154 (by decide) ?_
            refine lv_icmp_eq (tgt := 166) hx hb d_KG_stepOf_155 (by decide) (fun c155 => ?_) (fun c155 => ?_)
            · refine lv_aload_n hx hb d_KG_stepOf_166 rfl (lv_at hl 2 rfl) ?_
              refine zgetN hC hd (e_key hkn) rfl i_Key 1 (by decide) z_116 (Or.inl rfl) (v := .ref (ad 2 k)) (congrArg (fun q => some (va_rf q)) (if_neg hlf)) d_KG_stepOf_167 ?_
              refine lv_aload hx hb d_KG_stepOf_170 (lv_at hl 0 rfl) ?_
              refine zgetN hC hd (e_key hqn) rfl i_Key 4 (by decide) z_120 (Or.inl rfl) (v := .long (xl Z 1 q)) rfl d_KG_stepOf_172 ?_
              refine zb_v hd (zrunU (owner := "KeyGraph$Function") (n := 1) (rest := []) hC hd (e_f1 (hX.fn hkn) hk) rfl (c_Fun_take1 l G ad ow (sn (sc Z 5 (xn Z 8 k) (xn Z 5 k) j) 5 k ((xn Z 5 k) + 1)) k (hX.fn hkn) hk (xl Z 1 q)) q_500 q_502 q_510 q_501 q_12 q_514 rfl rfl rfl rfl (by decide +kernel) ⟨by decide, by decide⟩ rfl hl.1 (Nat.le_of_ble_eq_true rfl) d_KG_stepOf_175 ⟨by decide, by decide⟩) (fun H locs hd => ?_)
              refine lv_bipush (v := 6) hx hb d_KG_stepOf_178 (by decide) ?_
              exact zfi hC hd hr hlk d_KG_stepOf_180 (by unfold x_stepOf x_step1 x_work; rw [hne1, ejc]; unfold x_workN; rw [hq1]; (repeat (first | (rw [if_pos]; rotate_left; first | assumption | decide) | (rw [if_neg]; rotate_left; first | assumption | decide))) <;> (try rfl)) (by unfold x_stepOf x_step1 x_work; rw [hne1, ejc]; unfold x_workN; rw [hq1]; (repeat (first | (rw [if_pos]; rotate_left; first | assumption | decide) | (rw [if_neg]; rotate_left; first | assumption | decide))) <;> (try rfl))
            · refine lv_aload_n hx hb d_KG_stepOf_158 rfl (lv_at hl 4 rfl) ?_
              refine lv_aload_n hx hb d_KG_stepOf_159 rfl (lv_at hl 3 rfl) ?_
              refine lv_iconst (v := 3) hx hb d_KG_stepOf_160 (by decide) ?_
              refine lv_lconst (v := 0) hx hb d_KG_stepOf_161 (by decide) ?_
              refine zb_i (r := 2) hd (zrunV (n := 3) (rest := []) hC hd (e_kg hX.kg) rfl (c_KG_ends l G ad ow (sn (sc Z 5 (xn Z 8 k) (xn Z 5 k) j) 5 k ((xn Z 5 k) + 1)) hX u k hu hkn (show 1 ≤ xn Z 9 u by omega) h40 hne 3 0) q_465 q_467 qp_15 q_1 q_468 rfl rfl rfl (by decide +kernel) ⟨by decide, by decide⟩ rfl hl.1 (Nat.le_of_ble_eq_true rfl) d_KG_stepOf_162 ⟨by decide, by decide⟩) (fun H locs hd => ?_)
              exact zfi hC hd hr hlk d_KG_stepOf_165 (by unfold x_stepOf x_step1 x_work; rw [hne1, ejc]; unfold x_workN; rw [hq1]; (repeat (first | (rw [if_pos]; rotate_left; first | assumption | decide) | (rw [if_neg]; rotate_left; first | assumption | decide))) <;> (try rfl)) (by unfold x_stepOf x_step1 x_work; rw [hne1, ejc]; unfold x_workN; rw [hq1]; (repeat (first | (rw [if_pos]; rotate_left; first | assumption | decide) | (rw [if_neg]; rotate_left; first | assumption | decide))) <;> (try rfl))
          · refine lv_aload_n hx hb d_KG_stepOf_120 rfl (lv_at hl 4 rfl) ?_
            refine lv_iload_n hx hb d_KG_stepOf_121 rfl (lv_at hl 5 rfl) ?_
            refine lv_aload hx hb d_KG_stepOf_122 (lv_at hl 0 rfl) ?_
            refine zb_i (r := ((x_goesDown Z u q).2)) hd (zrunV (n := 2) (rest := []) hC hd (e_kg hX.kg) rfl (c_KG_goesDown l G ad ow Z hX u q hu hqn (hdo q hqn c117).1 (hdo q hqn c117).2) q_461 q_463 qp_14 q_1 q_464 rfl rfl rfl (by decide +kernel) ⟨by decide, by decide⟩ rfl hl.1 (Nat.le_of_ble_eq_true rfl) d_KG_stepOf_124 ⟨by decide, by decide⟩) (fun H locs hd => ?_)
            exact zfi hC hd hr hlk d_KG_stepOf_127 (by unfold x_stepOf x_step1 x_work; rw [hne1, ejc]; unfold x_workN; rw [hq1]; (repeat (first | (rw [if_pos]; rotate_left; first | assumption | decide) | (rw [if_neg]; rotate_left; first | assumption | decide))) <;> (try rfl)) (by unfold x_stepOf x_step1 x_work; rw [hne1, ejc]; unfold x_workN; rw [hq1]; (repeat (first | (rw [if_pos]; rotate_left; first | assumption | decide) | (rw [if_neg]; rotate_left; first | assumption | decide))) <;> (try rfl))
        · refine lv_aload_n hx hb d_KG_stepOf_83 rfl (lv_at hl 3 rfl) ?_
          refine lv_aload_n hx hb d_KG_stepOf_84 rfl (lv_at hl 2 rfl) ?_
          refine lv_iconst (v := 1) hx hb d_KG_stepOf_85 (by decide) ?_
          refine lv_aload_n hx hb d_KG_stepOf_86 rfl (lv_at hl 1 rfl) ?_
          refine zgetN hC hd (e_key hkn) rfl i_Key 1 (by decide) z_116 (Or.inl rfl) (v := .ref (ad 2 k)) (congrArg (fun q => some (va_rf q)) (if_neg hlf)) d_KG_stepOf_87 ?_
          refine zb_l (r := (x_result Z k)) hd (zrunU (owner := "KeyGraph$Function") (n := 0) (rest := [.int 1, .ref (ad 6 u), .ref (ad 0 0)]) hC hd (e_f1 (hX.fn hkn) hk) rfl (c_Fun_result1 l G ad ow Z k (hX.fn hkn) hk) q_489 q_491 q_493 q_490 q_12 q_499 rfl rfl rfl rfl (by decide +kernel) ⟨by decide, by decide⟩ rfl hl.1 (Nat.le_of_ble_eq_true rfl) d_KG_stepOf_90 ⟨by decide, by decide⟩) (fun H locs hd => ?_)
          refine zb_i (r := 2) hd (zrunV (n := 3) (rest := []) hC hd (e_kg hX.kg) rfl (c_KG_ends l G ad ow Z hX u k hu hkn (show 1 ≤ xn Z 9 u by omega) h40 hne 1 (x_result Z k)) q_465 q_467 qp_15 q_1 q_468 rfl rfl rfl (by decide +kernel) ⟨by decide, by decide⟩ rfl hl.1 (Nat.le_of_ble_eq_true rfl) d_KG_stepOf_93 ⟨by decide, by decide⟩) (fun H locs hd => ?_)
          exact zfi hC hd hr hlk d_KG_stepOf_96 (by unfold x_stepOf x_step1 x_work; rw [hne1]; (repeat (first | (rw [if_pos]; rotate_left; first | assumption | decide) | (rw [if_neg]; rotate_left; first | assumption | decide))) <;> (try rfl)) (by unfold x_stepOf x_step1 x_work; rw [hne1]; (repeat (first | (rw [if_pos]; rotate_left; first | assumption | decide) | (rw [if_neg]; rotate_left; first | assumption | decide))) <;> (try rfl))
      · refine lv_aload_n hx hb d_KG_stepOf_61 rfl (lv_at hl 2 rfl) ?_
        refine lv_aload_n hx hb d_KG_stepOf_62 rfl (lv_at hl 1 rfl) ?_
        refine lv_iconst (v := 2) hx hb d_KG_stepOf_63 (by decide) ?_
        refine lv_lconst (v := 0) hx hb d_KG_stepOf_64 (by decide) ?_
        refine zb_i (r := 2) hd (zrunV (n := 3) (rest := []) hC hd (e_kg hX.kg) rfl (c_KG_ends l G ad ow Z hX u k hu hkn (show 1 ≤ xn Z 9 u by omega) h40 hne 2 0) q_465 q_467 qp_15 q_1 q_468 rfl rfl rfl (by decide +kernel) ⟨by decide, by decide⟩ rfl hl.1 (Nat.le_of_ble_eq_true rfl) d_KG_stepOf_65 ⟨by decide, by decide⟩) (fun H locs hd => ?_)
        exact zfi hC hd hr hlk d_KG_stepOf_68 (by unfold x_stepOf x_step1 x_work; rw [hne1]; (repeat (first | (rw [if_pos]; rotate_left; first | assumption | decide) | (rw [if_neg]; rotate_left; first | assumption | decide))) <;> (try rfl)) (by unfold x_stepOf x_step1 x_work; rw [hne1]; (repeat (first | (rw [if_pos]; rotate_left; first | assumption | decide) | (rw [if_neg]; rotate_left; first | assumption | decide))) <;> (try rfl))
    · refine lv_aload_n hx hb d_KG_stepOf_43 rfl (lv_at hl 2 rfl) ?_
      refine lv_aload_n hx hb d_KG_stepOf_44 rfl (lv_at hl 1 rfl) ?_
      refine lv_iconst (v := 2) hx hb d_KG_stepOf_45 (by decide) ?_
      refine lv_lconst (v := 0) hx hb d_KG_stepOf_46 (by decide) ?_
      refine zb_i (r := 2) hd (zrunV (n := 3) (rest := []) hC hd (e_kg hX.kg) rfl (c_KG_ends l G ad ow Z hX u k hu hkn (show 1 ≤ xn Z 9 u by omega) h40 hne 2 0) q_465 q_467 qp_15 q_1 q_468 rfl rfl rfl (by decide +kernel) ⟨by decide, by decide⟩ rfl hl.1 (Nat.le_of_ble_eq_true rfl) d_KG_stepOf_47 ⟨by decide, by decide⟩) (fun H locs hd => ?_)
      exact zfi hC hd hr hlk d_KG_stepOf_50 (by unfold x_stepOf x_step1 x_work; rw [hne1]; (repeat (first | (rw [if_pos]; rotate_left; first | assumption | decide) | (rw [if_neg]; rotate_left; first | assumption | decide))) <;> (try rfl)) (by unfold x_stepOf x_step1 x_work; rw [hne1]; (repeat (first | (rw [if_pos]; rotate_left; first | assumption | decide) | (rw [if_neg]; rotate_left; first | assumption | decide))) <;> (try rfl))
  · refine lv_aload_n hx hb d_KG_stepOf_28 rfl (lv_at hl 2 rfl) ?_
    refine lv_iload_n hx hb d_KG_stepOf_29 rfl (lv_at hl 3 rfl) ?_
    refine lv_aload_n hx hb d_KG_stepOf_30 rfl (lv_at hl 1 rfl) ?_
    refine lv_aload_n hx hb d_KG_stepOf_31 rfl (lv_at hl 0 rfl) ?_
    refine zb_i (r := ((x_check Z u k).2)) hd (zrunV (n := 3) (rest := []) hC hd (e_kg hX.kg) rfl (c_KG_check l G ad ow Z hX u k hu hkn (by omega) h40 hne hdo (hcp c25) hab) q_453 q_455 qp_12 q_1 q_456 rfl rfl rfl (by decide +kernel) ⟨by decide, by decide⟩ rfl hl.1 (Nat.le_of_ble_eq_true rfl) d_KG_stepOf_32 ⟨by decide, by decide⟩) (fun H locs hd => ?_)
    exact zfi hC hd hr hlk d_KG_stepOf_35 (by unfold x_stepOf x_step1 x_work; rw [hne1]; (repeat (first | (rw [if_pos]; rotate_left; first | assumption | decide) | (rw [if_neg]; rotate_left; first | assumption | decide))) <;> (try rfl)) (by unfold x_stepOf x_step1 x_work; rw [hne1]; (repeat (first | (rw [if_pos]; rotate_left; first | assumption | decide) | (rw [if_neg]; rotate_left; first | assumption | decide))) <;> (try rfl))
set_option maxHeartbeats 4000000 in
theorem c_KG_stepOf2 (l : Launch) (G : Gt) (ad : Nat → Nat → Nat) (ow : Nat → Nat × Nat) (Z : Zt) (hX : XS Z) (u k : Nat) (hu : u < 5) (hkn : k < xn Z 0 1) (h0 : ¬ xn Z 9 u = 0) (h40 : xn Z 9 u ≤ 40) (hne : xc Z 7 u (xn Z 9 u - 1) = k + 1) (hk : xn Z 1 k = 2) (hdo : DownOk Z u) (hcp : ¬ xi Z 9 k = 0 → CheckPre Z k) (hwp : xi Z 9 k = 0 → WorkPre Z k) (hab : xn Z 6 k ≤ 2147483647 ∧ xn Z 4 k ≤ 2147483647) : Met l y_KG_stepOf w_KG_stepOf ({ frames := 5, cells := 0, slots := 0, locals := 111 }) (zPc G ad ow Z [.ref (ad 0 0), .int (nI u)]) (Qd G ad ow ((x_stepOf Z u).1) (some (.int (x_stepOf Z u).2))) 0 0 (zA G) := by
  refine zopen (cc := b_KG_stepOf) (maxL := 6) (ret := (some FieldType.int)) (by decide) rfl (Nat.le_of_ble_eq_true rfl) ?_
  intro p e s m below meth c ls hC hr hlk hnm hd hl
  have hC : Cx G p c m s _ "KeyGraph" b_KG_stepOf 6 := hC
  have hl : lv_has ls 6 [(0, .ref (ad 0 0)), (1, .int (nI u))] := hl
  have hx := hC.1
  have hb := hC.2.1
  have hlf : ¬ xn Z 1 k = 6 := by omega
  have hk40 := hX.k40
  have hne1 : xc Z 7 u (xn Z 9 u - 1) - 1 = k := by omega
  refine lv_aload_n hx hb d_KG_stepOf_0 rfl (lv_at hl 0 rfl) ?_
  refine zget hC hd (e_kg hX.kg) rfl i_KG 1 (by decide) q_81 (Or.inl rfl) (v := .ref (ad 8 0)) rfl d_KG_stepOf_1 ?_
  refine lv_iload_n hx hb d_KG_stepOf_4 rfl (lv_at hl 1 rfl) ?_
  refine zaaP (k := u) hC hd (e_piles hX.ps) (by omega) (by decide) rfl d_KG_stepOf_5 ?_
  refine lv_astore_n (lv' := [(2, .ref (ad 6 u)), (0, .ref (ad 0 0)), (1, .int (nI u))]) hx hb d_KG_stepOf_6 rfl hl (by decide) rfl (fun ls hl => ?_)
  refine lv_aload_n hx hb d_KG_stepOf_7 rfl (lv_at hl 0 rfl) ?_
  refine zgetN hC hd (e_pile (hX.pl hu)) rfl i_Pile 1 (by decide) z_74 (Or.inl rfl) (v := .int (nI (xn Z 9 u))) rfl d_KG_stepOf_8 ?_
  refine zi_ne (x := xn Z 9 u) (tgt := 16) (by omega) hx hb d_KG_stepOf_11 (by decide) (fun c11 => ?_) (fun c11 => absurd c11 (by omega))
  refine lv_aload_n hx hb d_KG_stepOf_16 rfl (lv_at hl 0 rfl) ?_
  refine zb_a (r := (ad 1 k)) hd (zrunV (n := 0) (rest := []) hC hd (e_pile (hX.pl hu)) rfl (c_Pile_top l G ad ow Z hX u hu (by omega) (by omega) k hne) q_394 q_395 q_396 q_5 q_397 rfl rfl rfl (by decide +kernel) ⟨by decide, by decide⟩ rfl hl.1 (Nat.le_of_ble_eq_true rfl) d_KG_stepOf_17 ⟨by decide, by decide⟩) (fun H locs hd => ?_)
  refine lv_astore_n (lv' := [(3, .ref (ad 1 k)), (2, .ref (ad 6 u)), (0, .ref (ad 0 0)), (1, .int (nI u))]) hx hb d_KG_stepOf_20 rfl hl (by decide) rfl (fun ls hl => ?_)
  refine lv_aload_n hx hb d_KG_stepOf_21 rfl (lv_at hl 0 rfl) ?_
  refine zgetN hC hd (e_key hkn) rfl i_Key 17 (by decide) z_137 (Or.inl rfl) (v := .int (xi Z 9 k)) rfl d_KG_stepOf_22 ?_
  refine lv_if_eq (tgt := 36) hx hb d_KG_stepOf_25 (by decide) (fun c25 => ?_) (fun c25 => ?_)
  · refine lv_aload_n hx hb d_KG_stepOf_36 rfl (lv_at hl 0 rfl) ?_
    refine zgetN hC hd (e_key hkn) rfl i_Key 10 (by decide) z_127 (Or.inl rfl) (v := .int (xi Z 7 k)) rfl d_KG_stepOf_37 ?_
    refine lv_if_eq (tgt := 51) hx hb d_KG_stepOf_40 (by decide) (fun c40 => ?_) (fun c40 => ?_)
    · refine lv_aload_n hx hb d_KG_stepOf_51 rfl (lv_at hl 0 rfl) ?_
      refine zgetN hC hd (e_key hkn) rfl i_Key 1 (by decide) z_116 (Or.inl rfl) (v := .ref (ad 2 k)) (congrArg (fun q => some (va_rf q)) (if_neg hlf)) d_KG_stepOf_52 ?_
      refine zb_i (r := (xi Z 12 k)) hd (zrunU (owner := "KeyGraph$Function") (n := 0) (rest := []) hC hd (e_f2 (hX.fn hkn) hk) rfl (c_Fun_fails2 l G ad ow Z k (hX.fn hkn) hk (hwp c25).1) q_469 q_471 q_472 q_470 q_12 q_477 rfl rfl rfl rfl (by decide +kernel) ⟨by decide, by decide⟩ rfl hl.1 (Nat.le_of_ble_eq_true rfl) d_KG_stepOf_55 ⟨by decide, by decide⟩) (fun H locs hd => ?_)
      refine lv_if_eq (tgt := 69) hx hb d_KG_stepOf_58 (by decide) (fun c58 => ?_) (fun c58 => ?_)
      · refine lv_aload_n hx hb d_KG_stepOf_69 rfl (lv_at hl 0 rfl) ?_
        refine zgetN hC hd (e_key hkn) rfl i_Key 1 (by decide) z_116 (Or.inl rfl) (v := .ref (ad 2 k)) (congrArg (fun q => some (va_rf q)) (if_neg hlf)) d_KG_stepOf_70 ?_
        refine zb_i (r := (x_next Z k)) hd (zrunO (owner := "KeyGraph$Function") (n := 0) (rest := []) hC hd (e_f2 (hX.fn hkn) hk) rfl (c_Choice_next l G ad ow Z k (hX.fn hkn) hk) q_478 q_480 q_479 q_481 q_482 q_15 q_483 q_488 rfl rfl rfl (by decide +kernel) ⟨by decide, by decide⟩ rfl hl.1 (Nat.le_of_ble_eq_true rfl) d_KG_stepOf_73 ⟨by decide, by decide⟩) (fun H locs hd => ?_)
        refine lv_istore (lv' := [(4, .int (x_next Z k)), (3, .ref (ad 1 k)), (2, .ref (ad 6 u)), (0, .ref (ad 0 0)), (1, .int (nI u))]) hx hb d_KG_stepOf_76 hl (by decide) rfl (fun ls hl => ?_)
        refine lv_iload hx hb d_KG_stepOf_78 (lv_at hl 0 rfl) ?_
        refine lv_if_ge (tgt := 97) hx hb d_KG_stepOf_80 (by decide) (fun c80 => ?_) (fun c80 => ?_)
        · obtain ⟨hj, hak⟩ := (hwp c25).2.1 c80
          obtain ⟨j, hj9, ej⟩ := nI_of (Int32.not_lt.mpr c80)
          have ejc : (x_next Z k).toNatClampNeg = j := by rw [ej, nI_clamp hj9]
          rw [ejc] at hj
          rw [ej] at hl
          have hrow := (hX.2.2.2.1 k hkn).2 _ hj
          obtain ⟨q, hq⟩ : ∃ q, xc Z 4 (k + 2) j = q + 1 := ⟨xc Z 4 (k + 2) j - 1, by omega⟩
          have hq1 : xc Z 4 (k + 2) j - 1 = q := by omega
          have hqn : q < xn Z 0 1 := by omega
          refine lv_aload_n hx hb d_KG_stepOf_97 rfl (lv_at hl 1 rfl) ?_
          refine zgetN hC hd (e_key hkn) rfl i_Key 2 (by decide) z_118 (Or.inl rfl) (v := .ref (ad 3 (k + 2))) rfl d_KG_stepOf_98 ?_
          refine lv_iload hx hb d_KG_stepOf_101 (lv_at hl 0 rfl) ?_
          refine zb_a (r := (ad 1 q)) hd (zrunV (n := 1) (rest := []) hC hd (e_list (hX.l hkn)) rfl (c_get l G ad ow Z hX (k + 2) j q (hX.l hkn) hj hq) q_352 q_353 q_354 q_4 q_355 rfl rfl rfl (by decide +kernel) ⟨by decide, by decide⟩ rfl hl.1 (Nat.le_of_ble_eq_true rfl) d_KG_stepOf_103 ⟨by decide, by decide⟩) (fun H locs hd => ?_)
          refine zcast hC hd (e_key hqn) q_105 d_KG_stepOf_106 ?_
          refine lv_astore (lv' := [(5, .ref (ad 1 q)), (4, .int (nI j)), (3, .ref (ad 1 k)), (2, .ref (ad 6 u)), (0, .ref (ad 0 0)), (1, .int (nI u))]) hx hb d_KG_stepOf_109 hl (by decide) rfl (fun ls hl => ?_)
          refine lv_aload_n hx hb d_KG_stepOf_111 rfl (lv_at hl 4 rfl) ?_
          refine lv_aload hx hb d_KG_stepOf_112 (lv_at hl 0 rfl) ?_
          refine zb_i (r := (x_isSure Z q)) hd (zrunV (n := 1) (rest := []) hC hd (e_kg hX.kg) rfl (c_KG_isSure l G ad ow Z hX q (x_isSure Z q) hqn rfl) q_421 q_423 qp_9 q_1 q_424 rfl rfl rfl (by decide +kernel) ⟨by decide, by decide⟩ rfl hl.1 (Nat.le_of_ble_eq_true rfl) d_KG_stepOf_114 ⟨by decide, by decide⟩) (fun H locs hd => ?_)
          refine lv_if_ne (tgt := 128) hx hb d_KG_stepOf_117 (by decide) (fun c117 => ?_) (fun c117 => ?_)
          · refine lv_aload_n hx hb d_KG_stepOf_128 rfl (lv_at hl 2 rfl) ?_
            refine zgetN hC hd (e_key hkn) rfl i_Key 12 (by decide) z_131 (Or.inl rfl) (v := .ref (ad 5 (xn Z 8 k))) rfl d_KG_stepOf_129 ?_
            refine lv_aload_n hx hb d_KG_stepOf_132 rfl (lv_at hl 2 rfl) ?_
            refine zgetN hC hd (e_key hkn) rfl i_Key 14 (by decide) z_133 (Or.inl rfl) (v := .int (nI (xn Z 5 k))) rfl d_KG_stepOf_133 ?_
            refine lv_iload hx hb d_KG_stepOf_136 (lv_at hl 1 rfl) ?_
            refine ziaS (k := xn Z 5 k) (Z' := (sc Z 5 (xn Z 8 k) (xn Z 5 k) j)) hC hd (e_arr (hX.ar (hX.2.2.2.2.2 k hkn).2)) (by omega) (by decide) (u_arr (hX.ar (hX.2.2.2.2.2 k hkn).2)) d_KG_stepOf_138 (fun H locs hd => ?_)
            refine lv_aload_n hx hb d_KG_stepOf_139 rfl (lv_at hl 2 rfl) ?_
            refine lv_dup hx hb d_KG_stepOf_140 rfl ?_
            refine zgetN hC hd (e_key hkn) rfl i_Key 14 (by decide) z_133 (Or.inl rfl) (v := .int (nI (xn Z 5 k))) rfl d_KG_stepOf_141 ?_
            refine lv_iconst (v := 1) hx hb d_KG_stepOf_144 (by decide) ?_
            refine zaddN (x := xn Z 5 k) (y := 1) hx hb d_KG_stepOf_145 ?_
            refine zputN (Z' := (sn (sc Z 5 (xn Z 8 k) (xn Z 5 k) j) 5 k ((xn Z 5 k) + 1))) (v := .int (nI ((xn Z 5 k) + 1))) hC hd (e_key hkn) rfl i_Key t_Key t_Key_ok n_Key 14 (by decide) z_133 rfl rfl rfl rfl (Nat.le_of_ble_eq_true rfl) (u_askingC hkn) d_KG_stepOf_146 (fun H locs hd => ?_)
            refine lv_aload hx hb d_KG_stepOf_149 (lv_at hl 0 rfl) ?_
            refine zgetN hC hd (e_key hqn) rfl i_Key 3 (by decide) z_119 (Or.inl rfl) (v := .int (xi Z 1 q)) rfl d_KG_stepOf_151 ?_
            refine lv_iconst (v := 1) hx hb d_KG_stepOf_154 (by decide) ?_
            refine lv_icmp_eq (tgt := 166) hx hb d_KG_stepOf_155 (by decide) (fun c155 => ?_) (fun c155 => ?_)
            · refine lv_aload_n hx hb d_KG_stepOf_166 rfl (lv_at hl 2 rfl) ?_
              refine zgetN hC hd (e_key hkn) rfl i_Key 1 (by decide) z_116 (Or.inl rfl) (v := .ref (ad 2 k)) (congrArg (fun q => some (va_rf q)) (if_neg hlf)) d_KG_stepOf_167 ?_
              refine lv_aload hx hb d_KG_stepOf_170 (lv_at hl 0 rfl) ?_
              refine zgetN hC hd (e_key hqn) rfl i_Key 4 (by decide) z_120 (Or.inl rfl) (v := .long (xl Z 1 q)) rfl d_KG_stepOf_172 ?_
              refine zb_v hd (zrunO (owner := "KeyGraph$Function") (n := 1) (rest := []) hC hd (e_f2 (hX.fn hkn) hk) rfl (c_Choice_take l G ad ow (sn (sc Z 5 (xn Z 8 k) (xn Z 5 k) j) 5 k ((xn Z 5 k) + 1)) k (hX.fn hkn) hk (xl Z 1 q) ((hwp c25).2.2 hk)) q_500 q_502 q_501 q_503 q_504 q_15 q_505 q_514 rfl rfl rfl (by decide +kernel) ⟨by decide, by decide⟩ rfl hl.1 (Nat.le_of_ble_eq_true rfl) d_KG_stepOf_175 ⟨by decide, by decide⟩) (fun H locs hd => ?_)
              refine lv_bipush (v := 6) hx hb d_KG_stepOf_178 (by decide) ?_
              exact zfi hC hd hr hlk d_KG_stepOf_180 (by unfold x_stepOf x_step1 x_work; rw [hne1, ejc]; unfold x_workN; rw [hq1]; (repeat (first | (rw [if_pos]; rotate_left; first | assumption | decide) | (rw [if_neg]; rotate_left; first | assumption | decide))) <;> (try rfl)) (by unfold x_stepOf x_step1 x_work; rw [hne1, ejc]; unfold x_workN; rw [hq1]; (repeat (first | (rw [if_pos]; rotate_left; first | assumption | decide) | (rw [if_neg]; rotate_left; first | assumption | decide))) <;> (try rfl))
            · refine lv_aload_n hx hb d_KG_stepOf_158 rfl (lv_at hl 4 rfl) ?_
              refine lv_aload_n hx hb d_KG_stepOf_159 rfl (lv_at hl 3 rfl) ?_
              refine lv_iconst (v := 3) hx hb d_KG_stepOf_160 (by decide) ?_
              refine lv_lconst (v := 0) hx hb d_KG_stepOf_161 (by decide) ?_
              refine zb_i (r := 2) hd (zrunV (n := 3) (rest := []) hC hd (e_kg hX.kg) rfl (c_KG_ends l G ad ow (sn (sc Z 5 (xn Z 8 k) (xn Z 5 k) j) 5 k ((xn Z 5 k) + 1)) hX u k hu hkn (show 1 ≤ xn Z 9 u by omega) h40 hne 3 0) q_465 q_467 qp_15 q_1 q_468 rfl rfl rfl (by decide +kernel) ⟨by decide, by decide⟩ rfl hl.1 (Nat.le_of_ble_eq_true rfl) d_KG_stepOf_162 ⟨by decide, by decide⟩) (fun H locs hd => ?_)
              exact zfi hC hd hr hlk d_KG_stepOf_165 (by unfold x_stepOf x_step1 x_work; rw [hne1, ejc]; unfold x_workN; rw [hq1]; (repeat (first | (rw [if_pos]; rotate_left; first | assumption | decide) | (rw [if_neg]; rotate_left; first | assumption | decide))) <;> (try rfl)) (by unfold x_stepOf x_step1 x_work; rw [hne1, ejc]; unfold x_workN; rw [hq1]; (repeat (first | (rw [if_pos]; rotate_left; first | assumption | decide) | (rw [if_neg]; rotate_left; first | assumption | decide))) <;> (try rfl))
          · refine lv_aload_n hx hb d_KG_stepOf_120 rfl (lv_at hl 4 rfl) ?_
            refine lv_iload_n hx hb d_KG_stepOf_121 rfl (lv_at hl 5 rfl) ?_
            refine lv_aload hx hb d_KG_stepOf_122 (lv_at hl 0 rfl) ?_
            refine zb_i (r := ((x_goesDown Z u q).2)) hd (zrunV (n := 2) (rest := []) hC hd (e_kg hX.kg) rfl (c_KG_goesDown l G ad ow Z hX u q hu hqn (hdo q hqn c117).1 (hdo q hqn c117).2) q_461 q_463 qp_14 q_1 q_464 rfl rfl rfl (by decide +kernel) ⟨by decide, by decide⟩ rfl hl.1 (Nat.le_of_ble_eq_true rfl) d_KG_stepOf_124 ⟨by decide, by decide⟩) (fun H locs hd => ?_)
            exact zfi hC hd hr hlk d_KG_stepOf_127 (by unfold x_stepOf x_step1 x_work; rw [hne1, ejc]; unfold x_workN; rw [hq1]; (repeat (first | (rw [if_pos]; rotate_left; first | assumption | decide) | (rw [if_neg]; rotate_left; first | assumption | decide))) <;> (try rfl)) (by unfold x_stepOf x_step1 x_work; rw [hne1, ejc]; unfold x_workN; rw [hq1]; (repeat (first | (rw [if_pos]; rotate_left; first | assumption | decide) | (rw [if_neg]; rotate_left; first | assumption | decide))) <;> (try rfl))
        · refine lv_aload_n hx hb d_KG_stepOf_83 rfl (lv_at hl 3 rfl) ?_
          refine lv_aload_n hx hb d_KG_stepOf_84 rfl (lv_at hl 2 rfl) ?_
          refine lv_iconst (v := 1) hx hb d_KG_stepOf_85 (by decide) ?_
          refine lv_aload_n hx hb d_KG_stepOf_86 rfl (lv_at hl 1 rfl) ?_
          refine zgetN hC hd (e_key hkn) rfl i_Key 1 (by decide) z_116 (Or.inl rfl) (v := .ref (ad 2 k)) (congrArg (fun q => some (va_rf q)) (if_neg hlf)) d_KG_stepOf_87 ?_
          refine zb_l (r := (x_result Z k)) hd (zrunU (owner := "KeyGraph$Function") (n := 0) (rest := [.int 1, .ref (ad 6 u), .ref (ad 0 0)]) hC hd (e_f2 (hX.fn hkn) hk) rfl (c_Fun_result2 l G ad ow Z k (hX.fn hkn) hk) q_489 q_491 q_492 q_490 q_12 q_499 rfl rfl rfl rfl (by decide +kernel) ⟨by decide, by decide⟩ rfl hl.1 (Nat.le_of_ble_eq_true rfl) d_KG_stepOf_90 ⟨by decide, by decide⟩) (fun H locs hd => ?_)
          refine zb_i (r := 2) hd (zrunV (n := 3) (rest := []) hC hd (e_kg hX.kg) rfl (c_KG_ends l G ad ow Z hX u k hu hkn (show 1 ≤ xn Z 9 u by omega) h40 hne 1 (x_result Z k)) q_465 q_467 qp_15 q_1 q_468 rfl rfl rfl (by decide +kernel) ⟨by decide, by decide⟩ rfl hl.1 (Nat.le_of_ble_eq_true rfl) d_KG_stepOf_93 ⟨by decide, by decide⟩) (fun H locs hd => ?_)
          exact zfi hC hd hr hlk d_KG_stepOf_96 (by unfold x_stepOf x_step1 x_work; rw [hne1]; (repeat (first | (rw [if_pos]; rotate_left; first | assumption | decide) | (rw [if_neg]; rotate_left; first | assumption | decide))) <;> (try rfl)) (by unfold x_stepOf x_step1 x_work; rw [hne1]; (repeat (first | (rw [if_pos]; rotate_left; first | assumption | decide) | (rw [if_neg]; rotate_left; first | assumption | decide))) <;> (try rfl))
      · refine lv_aload_n hx hb d_KG_stepOf_61 rfl (lv_at hl 2 rfl) ?_
        refine lv_aload_n hx hb d_KG_stepOf_62 rfl (lv_at hl 1 rfl) ?_
        refine lv_iconst (v := 2) hx hb d_KG_stepOf_63 (by decide) ?_
        refine lv_lconst (v := 0) hx hb d_KG_stepOf_64 (by decide) ?_
        refine zb_i (r := 2) hd (zrunV (n := 3) (rest := []) hC hd (e_kg hX.kg) rfl (c_KG_ends l G ad ow Z hX u k hu hkn (show 1 ≤ xn Z 9 u by omega) h40 hne 2 0) q_465 q_467 qp_15 q_1 q_468 rfl rfl rfl (by decide +kernel) ⟨by decide, by decide⟩ rfl hl.1 (Nat.le_of_ble_eq_true rfl) d_KG_stepOf_65 ⟨by decide, by decide⟩) (fun H locs hd => ?_)
        exact zfi hC hd hr hlk d_KG_stepOf_68 (by unfold x_stepOf x_step1 x_work; rw [hne1]; (repeat (first | (rw [if_pos]; rotate_left; first | assumption | decide) | (rw [if_neg]; rotate_left; first | assumption | decide))) <;> (try rfl)) (by unfold x_stepOf x_step1 x_work; rw [hne1]; (repeat (first | (rw [if_pos]; rotate_left; first | assumption | decide) | (rw [if_neg]; rotate_left; first | assumption | decide))) <;> (try rfl))
    · refine lv_aload_n hx hb d_KG_stepOf_43 rfl (lv_at hl 2 rfl) ?_
      refine lv_aload_n hx hb d_KG_stepOf_44 rfl (lv_at hl 1 rfl) ?_
      refine lv_iconst (v := 2) hx hb d_KG_stepOf_45 (by decide) ?_
      refine lv_lconst (v := 0) hx hb d_KG_stepOf_46 (by decide) ?_
      refine zb_i (r := 2) hd (zrunV (n := 3) (rest := []) hC hd (e_kg hX.kg) rfl (c_KG_ends l G ad ow Z hX u k hu hkn (show 1 ≤ xn Z 9 u by omega) h40 hne 2 0) q_465 q_467 qp_15 q_1 q_468 rfl rfl rfl (by decide +kernel) ⟨by decide, by decide⟩ rfl hl.1 (Nat.le_of_ble_eq_true rfl) d_KG_stepOf_47 ⟨by decide, by decide⟩) (fun H locs hd => ?_)
      exact zfi hC hd hr hlk d_KG_stepOf_50 (by unfold x_stepOf x_step1 x_work; rw [hne1]; (repeat (first | (rw [if_pos]; rotate_left; first | assumption | decide) | (rw [if_neg]; rotate_left; first | assumption | decide))) <;> (try rfl)) (by unfold x_stepOf x_step1 x_work; rw [hne1]; (repeat (first | (rw [if_pos]; rotate_left; first | assumption | decide) | (rw [if_neg]; rotate_left; first | assumption | decide))) <;> (try rfl))
  · refine lv_aload_n hx hb d_KG_stepOf_28 rfl (lv_at hl 2 rfl) ?_
    refine lv_iload_n hx hb d_KG_stepOf_29 rfl (lv_at hl 3 rfl) ?_
    refine lv_aload_n hx hb d_KG_stepOf_30 rfl (lv_at hl 1 rfl) ?_
    refine lv_aload_n hx hb d_KG_stepOf_31 rfl (lv_at hl 0 rfl) ?_
    refine zb_i (r := ((x_check Z u k).2)) hd (zrunV (n := 3) (rest := []) hC hd (e_kg hX.kg) rfl (c_KG_check l G ad ow Z hX u k hu hkn (by omega) h40 hne hdo (hcp c25) hab) q_453 q_455 qp_12 q_1 q_456 rfl rfl rfl (by decide +kernel) ⟨by decide, by decide⟩ rfl hl.1 (Nat.le_of_ble_eq_true rfl) d_KG_stepOf_32 ⟨by decide, by decide⟩) (fun H locs hd => ?_)
    exact zfi hC hd hr hlk d_KG_stepOf_35 (by unfold x_stepOf x_step1 x_work; rw [hne1]; (repeat (first | (rw [if_pos]; rotate_left; first | assumption | decide) | (rw [if_neg]; rotate_left; first | assumption | decide))) <;> (try rfl)) (by unfold x_stepOf x_step1 x_work; rw [hne1]; (repeat (first | (rw [if_pos]; rotate_left; first | assumption | decide) | (rw [if_neg]; rotate_left; first | assumption | decide))) <;> (try rfl))
set_option maxHeartbeats 4000000 in
theorem c_KG_stepOf3 (l : Launch) (G : Gt) (ad : Nat → Nat → Nat) (ow : Nat → Nat × Nat) (Z : Zt) (hX : XS Z) (u k : Nat) (hu : u < 5) (hkn : k < xn Z 0 1) (h0 : ¬ xn Z 9 u = 0) (h40 : xn Z 9 u ≤ 40) (hne : xc Z 7 u (xn Z 9 u - 1) = k + 1) (hk : xn Z 1 k = 3) (hdo : DownOk Z u) (hcp : ¬ xi Z 9 k = 0 → CheckPre Z k) (hwp : xi Z 9 k = 0 → WorkPre Z k) (hab : xn Z 6 k ≤ 2147483647 ∧ xn Z 4 k ≤ 2147483647) : Met l y_KG_stepOf w_KG_stepOf ({ frames := 5, cells := 0, slots := 0, locals := 111 }) (zPc G ad ow Z [.ref (ad 0 0), .int (nI u)]) (Qd G ad ow ((x_stepOf Z u).1) (some (.int (x_stepOf Z u).2))) 0 0 (zA G) := by
  refine zopen (cc := b_KG_stepOf) (maxL := 6) (ret := (some FieldType.int)) (by decide) rfl (Nat.le_of_ble_eq_true rfl) ?_
  intro p e s m below meth c ls hC hr hlk hnm hd hl
  have hC : Cx G p c m s _ "KeyGraph" b_KG_stepOf 6 := hC
  have hl : lv_has ls 6 [(0, .ref (ad 0 0)), (1, .int (nI u))] := hl
  have hx := hC.1
  have hb := hC.2.1
  have hlf : ¬ xn Z 1 k = 6 := by omega
  have hk40 := hX.k40
  have hne1 : xc Z 7 u (xn Z 9 u - 1) - 1 = k := by omega
  refine lv_aload_n hx hb d_KG_stepOf_0 rfl (lv_at hl 0 rfl) ?_
  refine zget hC hd (e_kg hX.kg) rfl i_KG 1 (by decide) q_81 (Or.inl rfl) (v := .ref (ad 8 0)) rfl d_KG_stepOf_1 ?_
  refine lv_iload_n hx hb d_KG_stepOf_4 rfl (lv_at hl 1 rfl) ?_
  refine zaaP (k := u) hC hd (e_piles hX.ps) (by omega) (by decide) rfl d_KG_stepOf_5 ?_
  refine lv_astore_n (lv' := [(2, .ref (ad 6 u)), (0, .ref (ad 0 0)), (1, .int (nI u))]) hx hb d_KG_stepOf_6 rfl hl (by decide) rfl (fun ls hl => ?_)
  refine lv_aload_n hx hb d_KG_stepOf_7 rfl (lv_at hl 0 rfl) ?_
  refine zgetN hC hd (e_pile (hX.pl hu)) rfl i_Pile 1 (by decide) z_74 (Or.inl rfl) (v := .int (nI (xn Z 9 u))) rfl d_KG_stepOf_8 ?_
  refine zi_ne (x := xn Z 9 u) (tgt := 16) (by omega) hx hb d_KG_stepOf_11 (by decide) (fun c11 => ?_) (fun c11 => absurd c11 (by omega))
  refine lv_aload_n hx hb d_KG_stepOf_16 rfl (lv_at hl 0 rfl) ?_
  refine zb_a (r := (ad 1 k)) hd (zrunV (n := 0) (rest := []) hC hd (e_pile (hX.pl hu)) rfl (c_Pile_top l G ad ow Z hX u hu (by omega) (by omega) k hne) q_394 q_395 q_396 q_5 q_397 rfl rfl rfl (by decide +kernel) ⟨by decide, by decide⟩ rfl hl.1 (Nat.le_of_ble_eq_true rfl) d_KG_stepOf_17 ⟨by decide, by decide⟩) (fun H locs hd => ?_)
  refine lv_astore_n (lv' := [(3, .ref (ad 1 k)), (2, .ref (ad 6 u)), (0, .ref (ad 0 0)), (1, .int (nI u))]) hx hb d_KG_stepOf_20 rfl hl (by decide) rfl (fun ls hl => ?_)
  refine lv_aload_n hx hb d_KG_stepOf_21 rfl (lv_at hl 0 rfl) ?_
  refine zgetN hC hd (e_key hkn) rfl i_Key 17 (by decide) z_137 (Or.inl rfl) (v := .int (xi Z 9 k)) rfl d_KG_stepOf_22 ?_
  refine lv_if_eq (tgt := 36) hx hb d_KG_stepOf_25 (by decide) (fun c25 => ?_) (fun c25 => ?_)
  · refine lv_aload_n hx hb d_KG_stepOf_36 rfl (lv_at hl 0 rfl) ?_
    refine zgetN hC hd (e_key hkn) rfl i_Key 10 (by decide) z_127 (Or.inl rfl) (v := .int (xi Z 7 k)) rfl d_KG_stepOf_37 ?_
    refine lv_if_eq (tgt := 51) hx hb d_KG_stepOf_40 (by decide) (fun c40 => ?_) (fun c40 => ?_)
    · refine lv_aload_n hx hb d_KG_stepOf_51 rfl (lv_at hl 0 rfl) ?_
      refine zgetN hC hd (e_key hkn) rfl i_Key 1 (by decide) z_116 (Or.inl rfl) (v := .ref (ad 2 k)) (congrArg (fun q => some (va_rf q)) (if_neg hlf)) d_KG_stepOf_52 ?_
      refine zb_i (r := (xi Z 12 k)) hd (zrunU (owner := "KeyGraph$Function") (n := 0) (rest := []) hC hd (e_f3 (hX.fn hkn) hk) rfl (c_Fun_fails3 l G ad ow Z k (hX.fn hkn) hk (hwp c25).1) q_469 q_471 q_475 q_470 q_12 q_477 rfl rfl rfl rfl (by decide +kernel) ⟨by decide, by decide⟩ rfl hl.1 (Nat.le_of_ble_eq_true rfl) d_KG_stepOf_55 ⟨by decide, by decide⟩) (fun H locs hd => ?_)
      refine lv_if_eq (tgt := 69) hx hb d_KG_stepOf_58 (by decide) (fun c58 => ?_) (fun c58 => ?_)
      · refine lv_aload_n hx hb d_KG_stepOf_69 rfl (lv_at hl 0 rfl) ?_
        refine zgetN hC hd (e_key hkn) rfl i_Key 1 (by decide) z_116 (Or.inl rfl) (v := .ref (ad 2 k)) (congrArg (fun q => some (va_rf q)) (if_neg hlf)) d_KG_stepOf_70 ?_
        refine zb_i (r := (x_next Z k)) hd (zrunU (owner := "KeyGraph$Function") (n := 0) (rest := []) hC hd (e_f3 (hX.fn hkn) hk) rfl (c_Fun_next3 l G ad ow Z k (hX.fn hkn) hk) q_478 q_480 q_486 q_479 q_12 q_488 rfl rfl rfl rfl (by decide +kernel) ⟨by decide, by decide⟩ rfl hl.1 (Nat.le_of_ble_eq_true rfl) d_KG_stepOf_73 ⟨by decide, by decide⟩) (fun H locs hd => ?_)
        refine lv_istore (lv' := [(4, .int (x_next Z k)), (3, .ref (ad 1 k)), (2, .ref (ad 6 u)), (0, .ref (ad 0 0)), (1, .int (nI u))]) hx hb d_KG_stepOf_76 hl (by decide) rfl (fun ls hl => ?_)
        refine lv_iload hx hb d_KG_stepOf_78 (lv_at hl 0 rfl) ?_
        refine lv_if_ge (tgt := 97) hx hb d_KG_stepOf_80 (by decide) (fun c80 => ?_) (fun c80 => ?_)
        · obtain ⟨hj, hak⟩ := (hwp c25).2.1 c80
          obtain ⟨j, hj9, ej⟩ := nI_of (Int32.not_lt.mpr c80)
          have ejc : (x_next Z k).toNatClampNeg = j := by rw [ej, nI_clamp hj9]
          rw [ejc] at hj
          rw [ej] at hl
          have hrow := (hX.2.2.2.1 k hkn).2 _ hj
          obtain ⟨q, hq⟩ : ∃ q, xc Z 4 (k + 2) j = q + 1 := ⟨xc Z 4 (k + 2) j - 1, by omega⟩
          have hq1 : xc Z 4 (k + 2) j - 1 = q := by omega
          have hqn : q < xn Z 0 1 := by omega
          refine lv_aload_n hx hb d_KG_stepOf_97 rfl (lv_at hl 1 rfl) ?_
          refine zgetN hC hd (e_key hkn) rfl i_Key 2 (by decide) z_118 (Or.inl rfl) (v := .ref (ad 3 (k + 2))) rfl d_KG_stepOf_98 ?_
          refine lv_iload hx hb d_KG_stepOf_101 (lv_at hl 0 rfl) ?_
          refine zb_a (r := (ad 1 q)) hd (zrunV (n := 1) (rest := []) hC hd (e_list (hX.l hkn)) rfl (c_get l G ad ow Z hX (k + 2) j q (hX.l hkn) hj hq) q_352 q_353 q_354 q_4 q_355 rfl rfl rfl (by decide +kernel) ⟨by decide, by decide⟩ rfl hl.1 (Nat.le_of_ble_eq_true rfl) d_KG_stepOf_103 ⟨by decide, by decide⟩) (fun H locs hd => ?_)
          refine zcast hC hd (e_key hqn) q_105 d_KG_stepOf_106 ?_
          refine lv_astore (lv' := [(5, .ref (ad 1 q)), (4, .int (nI j)), (3, .ref (ad 1 k)), (2, .ref (ad 6 u)), (0, .ref (ad 0 0)), (1, .int (nI u))]) hx hb d_KG_stepOf_109 hl (by decide) rfl (fun ls hl => ?_)
          refine lv_aload_n hx hb d_KG_stepOf_111 rfl (lv_at hl 4 rfl) ?_
          refine lv_aload hx hb d_KG_stepOf_112 (lv_at hl 0 rfl) ?_
          refine zb_i (r := (x_isSure Z q)) hd (zrunV (n := 1) (rest := []) hC hd (e_kg hX.kg) rfl (c_KG_isSure l G ad ow Z hX q (x_isSure Z q) hqn rfl) q_421 q_423 qp_9 q_1 q_424 rfl rfl rfl (by decide +kernel) ⟨by decide, by decide⟩ rfl hl.1 (Nat.le_of_ble_eq_true rfl) d_KG_stepOf_114 ⟨by decide, by decide⟩) (fun H locs hd => ?_)
          refine lv_if_ne (tgt := 128) hx hb d_KG_stepOf_117 (by decide) (fun c117 => ?_) (fun c117 => ?_)
          · refine lv_aload_n hx hb d_KG_stepOf_128 rfl (lv_at hl 2 rfl) ?_
            refine zgetN hC hd (e_key hkn) rfl i_Key 12 (by decide) z_131 (Or.inl rfl) (v := .ref (ad 5 (xn Z 8 k))) rfl d_KG_stepOf_129 ?_
            refine lv_aload_n hx hb d_KG_stepOf_132 rfl (lv_at hl 2 rfl) ?_
            refine zgetN hC hd (e_key hkn) rfl i_Key 14 (by decide) z_133 (Or.inl rfl) (v := .int (nI (xn Z 5 k))) rfl d_KG_stepOf_133 ?_
            refine lv_iload hx hb d_KG_stepOf_136 (lv_at hl 1 rfl) ?_
            refine ziaS (k := xn Z 5 k) (Z' := (sc Z 5 (xn Z 8 k) (xn Z 5 k) j)) hC hd (e_arr (hX.ar (hX.2.2.2.2.2 k hkn).2)) (by omega) (by decide) (u_arr (hX.ar (hX.2.2.2.2.2 k hkn).2)) d_KG_stepOf_138 (fun H locs hd => ?_)
            refine lv_aload_n hx hb d_KG_stepOf_139 rfl (lv_at hl 2 rfl) ?_
            refine lv_dup hx hb d_KG_stepOf_140 rfl ?_
            refine zgetN hC hd (e_key hkn) rfl i_Key 14 (by decide) z_133 (Or.inl rfl) (v := .int (nI (xn Z 5 k))) rfl d_KG_stepOf_141 ?_
            refine lv_iconst (v := 1) hx hb d_KG_stepOf_144 (by decide) ?_
            refine zaddN (x := xn Z 5 k) (y := 1) hx hb d_KG_stepOf_145 ?_
            refine zputN (Z' := (sn (sc Z 5 (xn Z 8 k) (xn Z 5 k) j) 5 k ((xn Z 5 k) + 1))) (v := .int (nI ((xn Z 5 k) + 1))) hC hd (e_key hkn) rfl i_Key t_Key t_Key_ok n_Key 14 (by decide) z_133 rfl rfl rfl rfl (Nat.le_of_ble_eq_true rfl) (u_askingC hkn) d_KG_stepOf_146 (fun H locs hd => ?_)
            refine lv_aload hx hb d_KG_stepOf_149 (lv_at hl 0 rfl) ?_
            refine zgetN hC hd (e_key hqn) rfl i_Key 3 (by decide) z_119 (Or.inl rfl) (v := .int (xi Z 1 q)) rfl d_KG_stepOf_151 ?_
            refine lv_iconst (v := 1) hx hb d_KG_stepOf_154 (by decide) ?_
            refine lv_icmp_eq (tgt := 166) hx hb d_KG_stepOf_155 (by decide) (fun c155 => ?_) (fun c155 => ?_)
            · refine lv_aload_n hx hb d_KG_stepOf_166 rfl (lv_at hl 2 rfl) ?_
              refine zgetN hC hd (e_key hkn) rfl i_Key 1 (by decide) z_116 (Or.inl rfl) (v := .ref (ad 2 k)) (congrArg (fun q => some (va_rf q)) (if_neg hlf)) d_KG_stepOf_167 ?_
              refine lv_aload hx hb d_KG_stepOf_170 (lv_at hl 0 rfl) ?_
              refine zgetN hC hd (e_key hqn) rfl i_Key 4 (by decide) z_120 (Or.inl rfl) (v := .long (xl Z 1 q)) rfl d_KG_stepOf_172 ?_
              refine zb_v hd (zrunU (owner := "KeyGraph$Function") (n := 1) (rest := []) hC hd (e_f3 (hX.fn hkn) hk) rfl (c_Fun_take3 l G ad ow (sn (sc Z 5 (xn Z 8 k) (xn Z 5 k) j) 5 k ((xn Z 5 k) + 1)) k (hX.fn hkn) hk (xl Z 1 q)) q_500 q_502 q_512 q_501 q_12 q_514 rfl rfl rfl rfl (by decide +kernel) ⟨by decide, by decide⟩ rfl hl.1 (Nat.le_of_ble_eq_true rfl) d_KG_stepOf_175 ⟨by decide, by decide⟩) (fun H locs hd => ?_)
              refine lv_bipush (v := 6) hx hb d_KG_stepOf_178 (by decide) ?_
              exact zfi hC hd hr hlk d_KG_stepOf_180 (by unfold x_stepOf x_step1 x_work; rw [hne1, ejc]; unfold x_workN; rw [hq1]; (repeat (first | (rw [if_pos]; rotate_left; first | assumption | decide) | (rw [if_neg]; rotate_left; first | assumption | decide))) <;> (try rfl)) (by unfold x_stepOf x_step1 x_work; rw [hne1, ejc]; unfold x_workN; rw [hq1]; (repeat (first | (rw [if_pos]; rotate_left; first | assumption | decide) | (rw [if_neg]; rotate_left; first | assumption | decide))) <;> (try rfl))
            · refine lv_aload_n hx hb d_KG_stepOf_158 rfl (lv_at hl 4 rfl) ?_
              refine lv_aload_n hx hb d_KG_stepOf_159 rfl (lv_at hl 3 rfl) ?_
              refine lv_iconst (v := 3) hx hb d_KG_stepOf_160 (by decide) ?_
              refine lv_lconst (v := 0) hx hb d_KG_stepOf_161 (by decide) ?_
              refine zb_i (r := 2) hd (zrunV (n := 3) (rest := []) hC hd (e_kg hX.kg) rfl (c_KG_ends l G ad ow (sn (sc Z 5 (xn Z 8 k) (xn Z 5 k) j) 5 k ((xn Z 5 k) + 1)) hX u k hu hkn (show 1 ≤ xn Z 9 u by omega) h40 hne 3 0) q_465 q_467 qp_15 q_1 q_468 rfl rfl rfl (by decide +kernel) ⟨by decide, by decide⟩ rfl hl.1 (Nat.le_of_ble_eq_true rfl) d_KG_stepOf_162 ⟨by decide, by decide⟩) (fun H locs hd => ?_)
              exact zfi hC hd hr hlk d_KG_stepOf_165 (by unfold x_stepOf x_step1 x_work; rw [hne1, ejc]; unfold x_workN; rw [hq1]; (repeat (first | (rw [if_pos]; rotate_left; first | assumption | decide) | (rw [if_neg]; rotate_left; first | assumption | decide))) <;> (try rfl)) (by unfold x_stepOf x_step1 x_work; rw [hne1, ejc]; unfold x_workN; rw [hq1]; (repeat (first | (rw [if_pos]; rotate_left; first | assumption | decide) | (rw [if_neg]; rotate_left; first | assumption | decide))) <;> (try rfl))
          · refine lv_aload_n hx hb d_KG_stepOf_120 rfl (lv_at hl 4 rfl) ?_
            refine lv_iload_n hx hb d_KG_stepOf_121 rfl (lv_at hl 5 rfl) ?_
            refine lv_aload hx hb d_KG_stepOf_122 (lv_at hl 0 rfl) ?_
            refine zb_i (r := ((x_goesDown Z u q).2)) hd (zrunV (n := 2) (rest := []) hC hd (e_kg hX.kg) rfl (c_KG_goesDown l G ad ow Z hX u q hu hqn (hdo q hqn c117).1 (hdo q hqn c117).2) q_461 q_463 qp_14 q_1 q_464 rfl rfl rfl (by decide +kernel) ⟨by decide, by decide⟩ rfl hl.1 (Nat.le_of_ble_eq_true rfl) d_KG_stepOf_124 ⟨by decide, by decide⟩) (fun H locs hd => ?_)
            exact zfi hC hd hr hlk d_KG_stepOf_127 (by unfold x_stepOf x_step1 x_work; rw [hne1, ejc]; unfold x_workN; rw [hq1]; (repeat (first | (rw [if_pos]; rotate_left; first | assumption | decide) | (rw [if_neg]; rotate_left; first | assumption | decide))) <;> (try rfl)) (by unfold x_stepOf x_step1 x_work; rw [hne1, ejc]; unfold x_workN; rw [hq1]; (repeat (first | (rw [if_pos]; rotate_left; first | assumption | decide) | (rw [if_neg]; rotate_left; first | assumption | decide))) <;> (try rfl))
        · refine lv_aload_n hx hb d_KG_stepOf_83 rfl (lv_at hl 3 rfl) ?_
          refine lv_aload_n hx hb d_KG_stepOf_84 rfl (lv_at hl 2 rfl) ?_
          refine lv_iconst (v := 1) hx hb d_KG_stepOf_85 (by decide) ?_
          refine lv_aload_n hx hb d_KG_stepOf_86 rfl (lv_at hl 1 rfl) ?_
          refine zgetN hC hd (e_key hkn) rfl i_Key 1 (by decide) z_116 (Or.inl rfl) (v := .ref (ad 2 k)) (congrArg (fun q => some (va_rf q)) (if_neg hlf)) d_KG_stepOf_87 ?_
          refine zb_l (r := (x_result Z k)) hd (zrunU (owner := "KeyGraph$Function") (n := 0) (rest := [.int 1, .ref (ad 6 u), .ref (ad 0 0)]) hC hd (e_f3 (hX.fn hkn) hk) rfl (c_Fun_result3 l G ad ow Z k (hX.fn hkn) hk) q_489 q_491 q_495 q_490 q_12 q_499 rfl rfl rfl rfl (by decide +kernel) ⟨by decide, by decide⟩ rfl hl.1 (Nat.le_of_ble_eq_true rfl) d_KG_stepOf_90 ⟨by decide, by decide⟩) (fun H locs hd => ?_)
          refine zb_i (r := 2) hd (zrunV (n := 3) (rest := []) hC hd (e_kg hX.kg) rfl (c_KG_ends l G ad ow Z hX u k hu hkn (show 1 ≤ xn Z 9 u by omega) h40 hne 1 (x_result Z k)) q_465 q_467 qp_15 q_1 q_468 rfl rfl rfl (by decide +kernel) ⟨by decide, by decide⟩ rfl hl.1 (Nat.le_of_ble_eq_true rfl) d_KG_stepOf_93 ⟨by decide, by decide⟩) (fun H locs hd => ?_)
          exact zfi hC hd hr hlk d_KG_stepOf_96 (by unfold x_stepOf x_step1 x_work; rw [hne1]; (repeat (first | (rw [if_pos]; rotate_left; first | assumption | decide) | (rw [if_neg]; rotate_left; first | assumption | decide))) <;> (try rfl)) (by unfold x_stepOf x_step1 x_work; rw [hne1]; (repeat (first | (rw [if_pos]; rotate_left; first | assumption | decide) | (rw [if_neg]; rotate_left; first | assumption | decide))) <;> (try rfl))
      · refine lv_aload_n hx hb d_KG_stepOf_61 rfl (lv_at hl 2 rfl) ?_
        refine lv_aload_n hx hb d_KG_stepOf_62 rfl (lv_at hl 1 rfl) ?_
        refine lv_iconst (v := 2) hx hb d_KG_stepOf_63 (by decide) ?_
        refine lv_lconst (v := 0) hx hb d_KG_stepOf_64 (by decide) ?_
        refine zb_i (r := 2) hd (zrunV (n := 3) (rest := []) hC hd (e_kg hX.kg) rfl (c_KG_ends l G ad ow Z hX u k hu hkn (show 1 ≤ xn Z 9 u by omega) h40 hne 2 0) q_465 q_467 qp_15 q_1 q_468 rfl rfl rfl (by decide +kernel) ⟨by decide, by decide⟩ rfl hl.1 (Nat.le_of_ble_eq_true rfl) d_KG_stepOf_65 ⟨by decide, by decide⟩) (fun H locs hd => ?_)
        exact zfi hC hd hr hlk d_KG_stepOf_68 (by unfold x_stepOf x_step1 x_work; rw [hne1]; (repeat (first | (rw [if_pos]; rotate_left; first | assumption | decide) | (rw [if_neg]; rotate_left; first | assumption | decide))) <;> (try rfl)) (by unfold x_stepOf x_step1 x_work; rw [hne1]; (repeat (first | (rw [if_pos]; rotate_left; first | assumption | decide) | (rw [if_neg]; rotate_left; first | assumption | decide))) <;> (try rfl))
    · refine lv_aload_n hx hb d_KG_stepOf_43 rfl (lv_at hl 2 rfl) ?_
      refine lv_aload_n hx hb d_KG_stepOf_44 rfl (lv_at hl 1 rfl) ?_
      refine lv_iconst (v := 2) hx hb d_KG_stepOf_45 (by decide) ?_
      refine lv_lconst (v := 0) hx hb d_KG_stepOf_46 (by decide) ?_
      refine zb_i (r := 2) hd (zrunV (n := 3) (rest := []) hC hd (e_kg hX.kg) rfl (c_KG_ends l G ad ow Z hX u k hu hkn (show 1 ≤ xn Z 9 u by omega) h40 hne 2 0) q_465 q_467 qp_15 q_1 q_468 rfl rfl rfl (by decide +kernel) ⟨by decide, by decide⟩ rfl hl.1 (Nat.le_of_ble_eq_true rfl) d_KG_stepOf_47 ⟨by decide, by decide⟩) (fun H locs hd => ?_)
      exact zfi hC hd hr hlk d_KG_stepOf_50 (by unfold x_stepOf x_step1 x_work; rw [hne1]; (repeat (first | (rw [if_pos]; rotate_left; first | assumption | decide) | (rw [if_neg]; rotate_left; first | assumption | decide))) <;> (try rfl)) (by unfold x_stepOf x_step1 x_work; rw [hne1]; (repeat (first | (rw [if_pos]; rotate_left; first | assumption | decide) | (rw [if_neg]; rotate_left; first | assumption | decide))) <;> (try rfl))
  · refine lv_aload_n hx hb d_KG_stepOf_28 rfl (lv_at hl 2 rfl) ?_
    refine lv_iload_n hx hb d_KG_stepOf_29 rfl (lv_at hl 3 rfl) ?_
    refine lv_aload_n hx hb d_KG_stepOf_30 rfl (lv_at hl 1 rfl) ?_
    refine lv_aload_n hx hb d_KG_stepOf_31 rfl (lv_at hl 0 rfl) ?_
    refine zb_i (r := ((x_check Z u k).2)) hd (zrunV (n := 3) (rest := []) hC hd (e_kg hX.kg) rfl (c_KG_check l G ad ow Z hX u k hu hkn (by omega) h40 hne hdo (hcp c25) hab) q_453 q_455 qp_12 q_1 q_456 rfl rfl rfl (by decide +kernel) ⟨by decide, by decide⟩ rfl hl.1 (Nat.le_of_ble_eq_true rfl) d_KG_stepOf_32 ⟨by decide, by decide⟩) (fun H locs hd => ?_)
    exact zfi hC hd hr hlk d_KG_stepOf_35 (by unfold x_stepOf x_step1 x_work; rw [hne1]; (repeat (first | (rw [if_pos]; rotate_left; first | assumption | decide) | (rw [if_neg]; rotate_left; first | assumption | decide))) <;> (try rfl)) (by unfold x_stepOf x_step1 x_work; rw [hne1]; (repeat (first | (rw [if_pos]; rotate_left; first | assumption | decide) | (rw [if_neg]; rotate_left; first | assumption | decide))) <;> (try rfl))
set_option maxHeartbeats 4000000 in
theorem c_KG_stepOf4 (l : Launch) (G : Gt) (ad : Nat → Nat → Nat) (ow : Nat → Nat × Nat) (Z : Zt) (hX : XS Z) (u k : Nat) (hu : u < 5) (hkn : k < xn Z 0 1) (h0 : ¬ xn Z 9 u = 0) (h40 : xn Z 9 u ≤ 40) (hne : xc Z 7 u (xn Z 9 u - 1) = k + 1) (hk : xn Z 1 k = 4) (hdo : DownOk Z u) (hcp : ¬ xi Z 9 k = 0 → CheckPre Z k) (hwp : xi Z 9 k = 0 → WorkPre Z k) (hab : xn Z 6 k ≤ 2147483647 ∧ xn Z 4 k ≤ 2147483647) : Met l y_KG_stepOf w_KG_stepOf ({ frames := 5, cells := 0, slots := 0, locals := 111 }) (zPc G ad ow Z [.ref (ad 0 0), .int (nI u)]) (Qd G ad ow ((x_stepOf Z u).1) (some (.int (x_stepOf Z u).2))) 0 0 (zA G) := by
  refine zopen (cc := b_KG_stepOf) (maxL := 6) (ret := (some FieldType.int)) (by decide) rfl (Nat.le_of_ble_eq_true rfl) ?_
  intro p e s m below meth c ls hC hr hlk hnm hd hl
  have hC : Cx G p c m s _ "KeyGraph" b_KG_stepOf 6 := hC
  have hl : lv_has ls 6 [(0, .ref (ad 0 0)), (1, .int (nI u))] := hl
  have hx := hC.1
  have hb := hC.2.1
  have hlf : ¬ xn Z 1 k = 6 := by omega
  have hk40 := hX.k40
  have hne1 : xc Z 7 u (xn Z 9 u - 1) - 1 = k := by omega
  refine lv_aload_n hx hb d_KG_stepOf_0 rfl (lv_at hl 0 rfl) ?_
  refine zget hC hd (e_kg hX.kg) rfl i_KG 1 (by decide) q_81 (Or.inl rfl) (v := .ref (ad 8 0)) rfl d_KG_stepOf_1 ?_
  refine lv_iload_n hx hb d_KG_stepOf_4 rfl (lv_at hl 1 rfl) ?_
  refine zaaP (k := u) hC hd (e_piles hX.ps) (by omega) (by decide) rfl d_KG_stepOf_5 ?_
  refine lv_astore_n (lv' := [(2, .ref (ad 6 u)), (0, .ref (ad 0 0)), (1, .int (nI u))]) hx hb d_KG_stepOf_6 rfl hl (by decide) rfl (fun ls hl => ?_)
  refine lv_aload_n hx hb d_KG_stepOf_7 rfl (lv_at hl 0 rfl) ?_
  refine zgetN hC hd (e_pile (hX.pl hu)) rfl i_Pile 1 (by decide) z_74 (Or.inl rfl) (v := .int (nI (xn Z 9 u))) rfl d_KG_stepOf_8 ?_
  refine zi_ne (x := xn Z 9 u) (tgt := 16) (by omega) hx hb d_KG_stepOf_11 (by decide) (fun c11 => ?_) (fun c11 => absurd c11 (by omega))
  refine lv_aload_n hx hb d_KG_stepOf_16 rfl (lv_at hl 0 rfl) ?_
  refine zb_a (r := (ad 1 k)) hd (zrunV (n := 0) (rest := []) hC hd (e_pile (hX.pl hu)) rfl (c_Pile_top l G ad ow Z hX u hu (by omega) (by omega) k hne) q_394 q_395 q_396 q_5 q_397 rfl rfl rfl (by decide +kernel) ⟨by decide, by decide⟩ rfl hl.1 (Nat.le_of_ble_eq_true rfl) d_KG_stepOf_17 ⟨by decide, by decide⟩) (fun H locs hd => ?_)
  refine lv_astore_n (lv' := [(3, .ref (ad 1 k)), (2, .ref (ad 6 u)), (0, .ref (ad 0 0)), (1, .int (nI u))]) hx hb d_KG_stepOf_20 rfl hl (by decide) rfl (fun ls hl => ?_)
  refine lv_aload_n hx hb d_KG_stepOf_21 rfl (lv_at hl 0 rfl) ?_
  refine zgetN hC hd (e_key hkn) rfl i_Key 17 (by decide) z_137 (Or.inl rfl) (v := .int (xi Z 9 k)) rfl d_KG_stepOf_22 ?_
  refine lv_if_eq (tgt := 36) hx hb d_KG_stepOf_25 (by decide) (fun c25 => ?_) (fun c25 => ?_)
  · refine lv_aload_n hx hb d_KG_stepOf_36 rfl (lv_at hl 0 rfl) ?_
    refine zgetN hC hd (e_key hkn) rfl i_Key 10 (by decide) z_127 (Or.inl rfl) (v := .int (xi Z 7 k)) rfl d_KG_stepOf_37 ?_
    refine lv_if_eq (tgt := 51) hx hb d_KG_stepOf_40 (by decide) (fun c40 => ?_) (fun c40 => ?_)
    · refine lv_aload_n hx hb d_KG_stepOf_51 rfl (lv_at hl 0 rfl) ?_
      refine zgetN hC hd (e_key hkn) rfl i_Key 1 (by decide) z_116 (Or.inl rfl) (v := .ref (ad 2 k)) (congrArg (fun q => some (va_rf q)) (if_neg hlf)) d_KG_stepOf_52 ?_
      refine zb_i (r := (xi Z 12 k)) hd (zrunU (owner := "KeyGraph$Function") (n := 0) (rest := []) hC hd (e_f4 (hX.fn hkn) hk) rfl (c_Fun_fails4 l G ad ow Z k (hX.fn hkn) hk (hwp c25).1) q_469 q_471 q_476 q_470 q_12 q_477 rfl rfl rfl rfl (by decide +kernel) ⟨by decide, by decide⟩ rfl hl.1 (Nat.le_of_ble_eq_true rfl) d_KG_stepOf_55 ⟨by decide, by decide⟩) (fun H locs hd => ?_)
      refine lv_if_eq (tgt := 69) hx hb d_KG_stepOf_58 (by decide) (fun c58 => ?_) (fun c58 => ?_)
      · refine lv_aload_n hx hb d_KG_stepOf_69 rfl (lv_at hl 0 rfl) ?_
        refine zgetN hC hd (e_key hkn) rfl i_Key 1 (by decide) z_116 (Or.inl rfl) (v := .ref (ad 2 k)) (congrArg (fun q => some (va_rf q)) (if_neg hlf)) d_KG_stepOf_70 ?_
        refine zb_i (r := (x_next Z k)) hd (zrunU (owner := "KeyGraph$Function") (n := 0) (rest := []) hC hd (e_f4 (hX.fn hkn) hk) rfl (c_Fun_next4 l G ad ow Z k (hX.fn hkn) hk) q_478 q_480 q_487 q_479 q_12 q_488 rfl rfl rfl rfl (by decide +kernel) ⟨by decide, by decide⟩ rfl hl.1 (Nat.le_of_ble_eq_true rfl) d_KG_stepOf_73 ⟨by decide, by decide⟩) (fun H locs hd => ?_)
        refine lv_istore (lv' := [(4, .int (x_next Z k)), (3, .ref (ad 1 k)), (2, .ref (ad 6 u)), (0, .ref (ad 0 0)), (1, .int (nI u))]) hx hb d_KG_stepOf_76 hl (by decide) rfl (fun ls hl => ?_)
        refine lv_iload hx hb d_KG_stepOf_78 (lv_at hl 0 rfl) ?_
        refine lv_if_ge (tgt := 97) hx hb d_KG_stepOf_80 (by decide) (fun c80 => ?_) (fun c80 => ?_)
        · obtain ⟨hj, hak⟩ := (hwp c25).2.1 c80
          obtain ⟨j, hj9, ej⟩ := nI_of (Int32.not_lt.mpr c80)
          have ejc : (x_next Z k).toNatClampNeg = j := by rw [ej, nI_clamp hj9]
          rw [ejc] at hj
          rw [ej] at hl
          have hrow := (hX.2.2.2.1 k hkn).2 _ hj
          obtain ⟨q, hq⟩ : ∃ q, xc Z 4 (k + 2) j = q + 1 := ⟨xc Z 4 (k + 2) j - 1, by omega⟩
          have hq1 : xc Z 4 (k + 2) j - 1 = q := by omega
          have hqn : q < xn Z 0 1 := by omega
          refine lv_aload_n hx hb d_KG_stepOf_97 rfl (lv_at hl 1 rfl) ?_
          refine zgetN hC hd (e_key hkn) rfl i_Key 2 (by decide) z_118 (Or.inl rfl) (v := .ref (ad 3 (k + 2))) rfl d_KG_stepOf_98 ?_
          refine lv_iload hx hb d_KG_stepOf_101 (lv_at hl 0 rfl) ?_
          refine zb_a (r := (ad 1 q)) hd (zrunV (n := 1) (rest := []) hC hd (e_list (hX.l hkn)) rfl (c_get l G ad ow Z hX (k + 2) j q (hX.l hkn) hj hq) q_352 q_353 q_354 q_4 q_355 rfl rfl rfl (by decide +kernel) ⟨by decide, by decide⟩ rfl hl.1 (Nat.le_of_ble_eq_true rfl) d_KG_stepOf_103 ⟨by decide, by decide⟩) (fun H locs hd => ?_)
          refine zcast hC hd (e_key hqn) q_105 d_KG_stepOf_106 ?_
          refine lv_astore (lv' := [(5, .ref (ad 1 q)), (4, .int (nI j)), (3, .ref (ad 1 k)), (2, .ref (ad 6 u)), (0, .ref (ad 0 0)), (1, .int (nI u))]) hx hb d_KG_stepOf_109 hl (by decide) rfl (fun ls hl => ?_)
          refine lv_aload_n hx hb d_KG_stepOf_111 rfl (lv_at hl 4 rfl) ?_
          refine lv_aload hx hb d_KG_stepOf_112 (lv_at hl 0 rfl) ?_
          refine zb_i (r := (x_isSure Z q)) hd (zrunV (n := 1) (rest := []) hC hd (e_kg hX.kg) rfl (c_KG_isSure l G ad ow Z hX q (x_isSure Z q) hqn rfl) q_421 q_423 qp_9 q_1 q_424 rfl rfl rfl (by decide +kernel) ⟨by decide, by decide⟩ rfl hl.1 (Nat.le_of_ble_eq_true rfl) d_KG_stepOf_114 ⟨by decide, by decide⟩) (fun H locs hd => ?_)
          refine lv_if_ne (tgt := 128) hx hb d_KG_stepOf_117 (by decide) (fun c117 => ?_) (fun c117 => ?_)
          · refine lv_aload_n hx hb d_KG_stepOf_128 rfl (lv_at hl 2 rfl) ?_
            refine zgetN hC hd (e_key hkn) rfl i_Key 12 (by decide) z_131 (Or.inl rfl) (v := .ref (ad 5 (xn Z 8 k))) rfl d_KG_stepOf_129 ?_
            refine lv_aload_n hx hb d_KG_stepOf_132 rfl (lv_at hl 2 rfl) ?_
            refine zgetN hC hd (e_key hkn) rfl i_Key 14 (by decide) z_133 (Or.inl rfl) (v := .int (nI (xn Z 5 k))) rfl d_KG_stepOf_133 ?_
            refine lv_iload hx hb d_KG_stepOf_136 (lv_at hl 1 rfl) ?_
            refine ziaS (k := xn Z 5 k) (Z' := (sc Z 5 (xn Z 8 k) (xn Z 5 k) j)) hC hd (e_arr (hX.ar (hX.2.2.2.2.2 k hkn).2)) (by omega) (by decide) (u_arr (hX.ar (hX.2.2.2.2.2 k hkn).2)) d_KG_stepOf_138 (fun H locs hd => ?_)
            refine lv_aload_n hx hb d_KG_stepOf_139 rfl (lv_at hl 2 rfl) ?_
            refine lv_dup hx hb d_KG_stepOf_140 rfl ?_
            refine zgetN hC hd (e_key hkn) rfl i_Key 14 (by decide) z_133 (Or.inl rfl) (v := .int (nI (xn Z 5 k))) rfl d_KG_stepOf_141 ?_
            refine lv_iconst (v := 1) hx hb d_KG_stepOf_144 (by decide) ?_
            refine zaddN (x := xn Z 5 k) (y := 1) hx hb d_KG_stepOf_145 ?_
            refine zputN (Z' := (sn (sc Z 5 (xn Z 8 k) (xn Z 5 k) j) 5 k ((xn Z 5 k) + 1))) (v := .int (nI ((xn Z 5 k) + 1))) hC hd (e_key hkn) rfl i_Key t_Key t_Key_ok n_Key 14 (by decide) z_133 rfl rfl rfl rfl (Nat.le_of_ble_eq_true rfl) (u_askingC hkn) d_KG_stepOf_146 (fun H locs hd => ?_)
            refine lv_aload hx hb d_KG_stepOf_149 (lv_at hl 0 rfl) ?_
            refine zgetN hC hd (e_key hqn) rfl i_Key 3 (by decide) z_119 (Or.inl rfl) (v := .int (xi Z 1 q)) rfl d_KG_stepOf_151 ?_
            refine lv_iconst (v := 1) hx hb d_KG_stepOf_154 (by decide) ?_
            refine lv_icmp_eq (tgt := 166) hx hb d_KG_stepOf_155 (by decide) (fun c155 => ?_) (fun c155 => ?_)
            · refine lv_aload_n hx hb d_KG_stepOf_166 rfl (lv_at hl 2 rfl) ?_
              refine zgetN hC hd (e_key hkn) rfl i_Key 1 (by decide) z_116 (Or.inl rfl) (v := .ref (ad 2 k)) (congrArg (fun q => some (va_rf q)) (if_neg hlf)) d_KG_stepOf_167 ?_
              refine lv_aload hx hb d_KG_stepOf_170 (lv_at hl 0 rfl) ?_
              refine zgetN hC hd (e_key hqn) rfl i_Key 4 (by decide) z_120 (Or.inl rfl) (v := .long (xl Z 1 q)) rfl d_KG_stepOf_172 ?_
              refine zb_v hd (zrunU (owner := "KeyGraph$Function") (n := 1) (rest := []) hC hd (e_f4 (hX.fn hkn) hk) rfl (c_Fun_take4 l G ad ow (sn (sc Z 5 (xn Z 8 k) (xn Z 5 k) j) 5 k ((xn Z 5 k) + 1)) k (hX.fn hkn) hk (xl Z 1 q)) q_500 q_502 q_513 q_501 q_12 q_514 rfl rfl rfl rfl (by decide +kernel) ⟨by decide, by decide⟩ rfl hl.1 (Nat.le_of_ble_eq_true rfl) d_KG_stepOf_175 ⟨by decide, by decide⟩) (fun H locs hd => ?_)
              refine lv_bipush (v := 6) hx hb d_KG_stepOf_178 (by decide) ?_
              exact zfi hC hd hr hlk d_KG_stepOf_180 (by unfold x_stepOf x_step1 x_work; rw [hne1, ejc]; unfold x_workN; rw [hq1]; (repeat (first | (rw [if_pos]; rotate_left; first | assumption | decide) | (rw [if_neg]; rotate_left; first | assumption | decide))) <;> (try rfl)) (by unfold x_stepOf x_step1 x_work; rw [hne1, ejc]; unfold x_workN; rw [hq1]; (repeat (first | (rw [if_pos]; rotate_left; first | assumption | decide) | (rw [if_neg]; rotate_left; first | assumption | decide))) <;> (try rfl))
            · refine lv_aload_n hx hb d_KG_stepOf_158 rfl (lv_at hl 4 rfl) ?_
              refine lv_aload_n hx hb d_KG_stepOf_159 rfl (lv_at hl 3 rfl) ?_
              refine lv_iconst (v := 3) hx hb d_KG_stepOf_160 (by decide) ?_
              refine lv_lconst (v := 0) hx hb d_KG_stepOf_161 (by decide) ?_
              refine zb_i (r := 2) hd (zrunV (n := 3) (rest := []) hC hd (e_kg hX.kg) rfl (c_KG_ends l G ad ow (sn (sc Z 5 (xn Z 8 k) (xn Z 5 k) j) 5 k ((xn Z 5 k) + 1)) hX u k hu hkn (show 1 ≤ xn Z 9 u by omega) h40 hne 3 0) q_465 q_467 qp_15 q_1 q_468 rfl rfl rfl (by decide +kernel) ⟨by decide, by decide⟩ rfl hl.1 (Nat.le_of_ble_eq_true rfl) d_KG_stepOf_162 ⟨by decide, by decide⟩) (fun H locs hd => ?_)
              exact zfi hC hd hr hlk d_KG_stepOf_165 (by unfold x_stepOf x_step1 x_work; rw [hne1, ejc]; unfold x_workN; rw [hq1]; (repeat (first | (rw [if_pos]; rotate_left; first | assumption | decide) | (rw [if_neg]; rotate_left; first | assumption | decide))) <;> (try rfl)) (by unfold x_stepOf x_step1 x_work; rw [hne1, ejc]; unfold x_workN; rw [hq1]; (repeat (first | (rw [if_pos]; rotate_left; first | assumption | decide) | (rw [if_neg]; rotate_left; first | assumption | decide))) <;> (try rfl))
          · refine lv_aload_n hx hb d_KG_stepOf_120 rfl (lv_at hl 4 rfl) ?_
            refine lv_iload_n hx hb d_KG_stepOf_121 rfl (lv_at hl 5 rfl) ?_
            refine lv_aload hx hb d_KG_stepOf_122 (lv_at hl 0 rfl) ?_
            refine zb_i (r := ((x_goesDown Z u q).2)) hd (zrunV (n := 2) (rest := []) hC hd (e_kg hX.kg) rfl (c_KG_goesDown l G ad ow Z hX u q hu hqn (hdo q hqn c117).1 (hdo q hqn c117).2) q_461 q_463 qp_14 q_1 q_464 rfl rfl rfl (by decide +kernel) ⟨by decide, by decide⟩ rfl hl.1 (Nat.le_of_ble_eq_true rfl) d_KG_stepOf_124 ⟨by decide, by decide⟩) (fun H locs hd => ?_)
            exact zfi hC hd hr hlk d_KG_stepOf_127 (by unfold x_stepOf x_step1 x_work; rw [hne1, ejc]; unfold x_workN; rw [hq1]; (repeat (first | (rw [if_pos]; rotate_left; first | assumption | decide) | (rw [if_neg]; rotate_left; first | assumption | decide))) <;> (try rfl)) (by unfold x_stepOf x_step1 x_work; rw [hne1, ejc]; unfold x_workN; rw [hq1]; (repeat (first | (rw [if_pos]; rotate_left; first | assumption | decide) | (rw [if_neg]; rotate_left; first | assumption | decide))) <;> (try rfl))
        · refine lv_aload_n hx hb d_KG_stepOf_83 rfl (lv_at hl 3 rfl) ?_
          refine lv_aload_n hx hb d_KG_stepOf_84 rfl (lv_at hl 2 rfl) ?_
          refine lv_iconst (v := 1) hx hb d_KG_stepOf_85 (by decide) ?_
          refine lv_aload_n hx hb d_KG_stepOf_86 rfl (lv_at hl 1 rfl) ?_
          refine zgetN hC hd (e_key hkn) rfl i_Key 1 (by decide) z_116 (Or.inl rfl) (v := .ref (ad 2 k)) (congrArg (fun q => some (va_rf q)) (if_neg hlf)) d_KG_stepOf_87 ?_
          refine zb_l (r := (x_result Z k)) hd (zrunO (owner := "KeyGraph$Function") (n := 0) (rest := [.int 1, .ref (ad 6 u), .ref (ad 0 0)]) hC hd (e_f4 (hX.fn hkn) hk) rfl (c_Sum_result4 l G ad ow Z k (hX.fn hkn) hk) q_489 q_491 q_490 q_496 q_497 q_13 q_498 q_499 rfl rfl rfl (by decide +kernel) ⟨by decide, by decide⟩ rfl hl.1 (Nat.le_of_ble_eq_true rfl) d_KG_stepOf_90 ⟨by decide, by decide⟩) (fun H locs hd => ?_)
          refine zb_i (r := 2) hd (zrunV (n := 3) (rest := []) hC hd (e_kg hX.kg) rfl (c_KG_ends l G ad ow Z hX u k hu hkn (show 1 ≤ xn Z 9 u by omega) h40 hne 1 (x_result Z k)) q_465 q_467 qp_15 q_1 q_468 rfl rfl rfl (by decide +kernel) ⟨by decide, by decide⟩ rfl hl.1 (Nat.le_of_ble_eq_true rfl) d_KG_stepOf_93 ⟨by decide, by decide⟩) (fun H locs hd => ?_)
          exact zfi hC hd hr hlk d_KG_stepOf_96 (by unfold x_stepOf x_step1 x_work; rw [hne1]; (repeat (first | (rw [if_pos]; rotate_left; first | assumption | decide) | (rw [if_neg]; rotate_left; first | assumption | decide))) <;> (try rfl)) (by unfold x_stepOf x_step1 x_work; rw [hne1]; (repeat (first | (rw [if_pos]; rotate_left; first | assumption | decide) | (rw [if_neg]; rotate_left; first | assumption | decide))) <;> (try rfl))
      · refine lv_aload_n hx hb d_KG_stepOf_61 rfl (lv_at hl 2 rfl) ?_
        refine lv_aload_n hx hb d_KG_stepOf_62 rfl (lv_at hl 1 rfl) ?_
        refine lv_iconst (v := 2) hx hb d_KG_stepOf_63 (by decide) ?_
        refine lv_lconst (v := 0) hx hb d_KG_stepOf_64 (by decide) ?_
        refine zb_i (r := 2) hd (zrunV (n := 3) (rest := []) hC hd (e_kg hX.kg) rfl (c_KG_ends l G ad ow Z hX u k hu hkn (show 1 ≤ xn Z 9 u by omega) h40 hne 2 0) q_465 q_467 qp_15 q_1 q_468 rfl rfl rfl (by decide +kernel) ⟨by decide, by decide⟩ rfl hl.1 (Nat.le_of_ble_eq_true rfl) d_KG_stepOf_65 ⟨by decide, by decide⟩) (fun H locs hd => ?_)
        exact zfi hC hd hr hlk d_KG_stepOf_68 (by unfold x_stepOf x_step1 x_work; rw [hne1]; (repeat (first | (rw [if_pos]; rotate_left; first | assumption | decide) | (rw [if_neg]; rotate_left; first | assumption | decide))) <;> (try rfl)) (by unfold x_stepOf x_step1 x_work; rw [hne1]; (repeat (first | (rw [if_pos]; rotate_left; first | assumption | decide) | (rw [if_neg]; rotate_left; first | assumption | decide))) <;> (try rfl))
    · refine lv_aload_n hx hb d_KG_stepOf_43 rfl (lv_at hl 2 rfl) ?_
      refine lv_aload_n hx hb d_KG_stepOf_44 rfl (lv_at hl 1 rfl) ?_
      refine lv_iconst (v := 2) hx hb d_KG_stepOf_45 (by decide) ?_
      refine lv_lconst (v := 0) hx hb d_KG_stepOf_46 (by decide) ?_
      refine zb_i (r := 2) hd (zrunV (n := 3) (rest := []) hC hd (e_kg hX.kg) rfl (c_KG_ends l G ad ow Z hX u k hu hkn (show 1 ≤ xn Z 9 u by omega) h40 hne 2 0) q_465 q_467 qp_15 q_1 q_468 rfl rfl rfl (by decide +kernel) ⟨by decide, by decide⟩ rfl hl.1 (Nat.le_of_ble_eq_true rfl) d_KG_stepOf_47 ⟨by decide, by decide⟩) (fun H locs hd => ?_)
      exact zfi hC hd hr hlk d_KG_stepOf_50 (by unfold x_stepOf x_step1 x_work; rw [hne1]; (repeat (first | (rw [if_pos]; rotate_left; first | assumption | decide) | (rw [if_neg]; rotate_left; first | assumption | decide))) <;> (try rfl)) (by unfold x_stepOf x_step1 x_work; rw [hne1]; (repeat (first | (rw [if_pos]; rotate_left; first | assumption | decide) | (rw [if_neg]; rotate_left; first | assumption | decide))) <;> (try rfl))
  · refine lv_aload_n hx hb d_KG_stepOf_28 rfl (lv_at hl 2 rfl) ?_
    refine lv_iload_n hx hb d_KG_stepOf_29 rfl (lv_at hl 3 rfl) ?_
    refine lv_aload_n hx hb d_KG_stepOf_30 rfl (lv_at hl 1 rfl) ?_
    refine lv_aload_n hx hb d_KG_stepOf_31 rfl (lv_at hl 0 rfl) ?_
    refine zb_i (r := ((x_check Z u k).2)) hd (zrunV (n := 3) (rest := []) hC hd (e_kg hX.kg) rfl (c_KG_check l G ad ow Z hX u k hu hkn (by omega) h40 hne hdo (hcp c25) hab) q_453 q_455 qp_12 q_1 q_456 rfl rfl rfl (by decide +kernel) ⟨by decide, by decide⟩ rfl hl.1 (Nat.le_of_ble_eq_true rfl) d_KG_stepOf_32 ⟨by decide, by decide⟩) (fun H locs hd => ?_)
    exact zfi hC hd hr hlk d_KG_stepOf_35 (by unfold x_stepOf x_step1 x_work; rw [hne1]; (repeat (first | (rw [if_pos]; rotate_left; first | assumption | decide) | (rw [if_neg]; rotate_left; first | assumption | decide))) <;> (try rfl)) (by unfold x_stepOf x_step1 x_work; rw [hne1]; (repeat (first | (rw [if_pos]; rotate_left; first | assumption | decide) | (rw [if_neg]; rotate_left; first | assumption | decide))) <;> (try rfl))
set_option maxHeartbeats 4000000 in
theorem c_KG_stepOf5 (l : Launch) (G : Gt) (ad : Nat → Nat → Nat) (ow : Nat → Nat × Nat) (Z : Zt) (hX : XS Z) (u k : Nat) (hu : u < 5) (hkn : k < xn Z 0 1) (h0 : ¬ xn Z 9 u = 0) (h40 : xn Z 9 u ≤ 40) (hne : xc Z 7 u (xn Z 9 u - 1) = k + 1) (hk : xn Z 1 k = 5) (hdo : DownOk Z u) (hcp : ¬ xi Z 9 k = 0 → CheckPre Z k) (hwp : xi Z 9 k = 0 → WorkPre Z k) (hab : xn Z 6 k ≤ 2147483647 ∧ xn Z 4 k ≤ 2147483647) : Met l y_KG_stepOf w_KG_stepOf ({ frames := 5, cells := 0, slots := 0, locals := 111 }) (zPc G ad ow Z [.ref (ad 0 0), .int (nI u)]) (Qd G ad ow ((x_stepOf Z u).1) (some (.int (x_stepOf Z u).2))) 0 0 (zA G) := by
  refine zopen (cc := b_KG_stepOf) (maxL := 6) (ret := (some FieldType.int)) (by decide) rfl (Nat.le_of_ble_eq_true rfl) ?_
  intro p e s m below meth c ls hC hr hlk hnm hd hl
  have hC : Cx G p c m s _ "KeyGraph" b_KG_stepOf 6 := hC
  have hl : lv_has ls 6 [(0, .ref (ad 0 0)), (1, .int (nI u))] := hl
  have hx := hC.1
  have hb := hC.2.1
  have hlf : ¬ xn Z 1 k = 6 := by omega
  have hk40 := hX.k40
  have hne1 : xc Z 7 u (xn Z 9 u - 1) - 1 = k := by omega
  refine lv_aload_n hx hb d_KG_stepOf_0 rfl (lv_at hl 0 rfl) ?_
  refine zget hC hd (e_kg hX.kg) rfl i_KG 1 (by decide) q_81 (Or.inl rfl) (v := .ref (ad 8 0)) rfl d_KG_stepOf_1 ?_
  refine lv_iload_n hx hb d_KG_stepOf_4 rfl (lv_at hl 1 rfl) ?_
  refine zaaP (k := u) hC hd (e_piles hX.ps) (by omega) (by decide) rfl d_KG_stepOf_5 ?_
  refine lv_astore_n (lv' := [(2, .ref (ad 6 u)), (0, .ref (ad 0 0)), (1, .int (nI u))]) hx hb d_KG_stepOf_6 rfl hl (by decide) rfl (fun ls hl => ?_)
  refine lv_aload_n hx hb d_KG_stepOf_7 rfl (lv_at hl 0 rfl) ?_
  refine zgetN hC hd (e_pile (hX.pl hu)) rfl i_Pile 1 (by decide) z_74 (Or.inl rfl) (v := .int (nI (xn Z 9 u))) rfl d_KG_stepOf_8 ?_
  refine zi_ne (x := xn Z 9 u) (tgt := 16) (by omega) hx hb d_KG_stepOf_11 (by decide) (fun c11 => ?_) (fun c11 => absurd c11 (by omega))
  refine lv_aload_n hx hb d_KG_stepOf_16 rfl (lv_at hl 0 rfl) ?_
  refine zb_a (r := (ad 1 k)) hd (zrunV (n := 0) (rest := []) hC hd (e_pile (hX.pl hu)) rfl (c_Pile_top l G ad ow Z hX u hu (by omega) (by omega) k hne) q_394 q_395 q_396 q_5 q_397 rfl rfl rfl (by decide +kernel) ⟨by decide, by decide⟩ rfl hl.1 (Nat.le_of_ble_eq_true rfl) d_KG_stepOf_17 ⟨by decide, by decide⟩) (fun H locs hd => ?_)
  refine lv_astore_n (lv' := [(3, .ref (ad 1 k)), (2, .ref (ad 6 u)), (0, .ref (ad 0 0)), (1, .int (nI u))]) hx hb d_KG_stepOf_20 rfl hl (by decide) rfl (fun ls hl => ?_)
  refine lv_aload_n hx hb d_KG_stepOf_21 rfl (lv_at hl 0 rfl) ?_
  refine zgetN hC hd (e_key hkn) rfl i_Key 17 (by decide) z_137 (Or.inl rfl) (v := .int (xi Z 9 k)) rfl d_KG_stepOf_22 ?_
  refine lv_if_eq (tgt := 36) hx hb d_KG_stepOf_25 (by decide) (fun c25 => ?_) (fun c25 => ?_)
  · refine lv_aload_n hx hb d_KG_stepOf_36 rfl (lv_at hl 0 rfl) ?_
    refine zgetN hC hd (e_key hkn) rfl i_Key 10 (by decide) z_127 (Or.inl rfl) (v := .int (xi Z 7 k)) rfl d_KG_stepOf_37 ?_
    refine lv_if_eq (tgt := 51) hx hb d_KG_stepOf_40 (by decide) (fun c40 => ?_) (fun c40 => ?_)
    · refine lv_aload_n hx hb d_KG_stepOf_51 rfl (lv_at hl 0 rfl) ?_
      refine zgetN hC hd (e_key hkn) rfl i_Key 1 (by decide) z_116 (Or.inl rfl) (v := .ref (ad 2 k)) (congrArg (fun q => some (va_rf q)) (if_neg hlf)) d_KG_stepOf_52 ?_
      refine zb_i (r := (xi Z 12 k)) hd (zrunU (owner := "KeyGraph$Function") (n := 0) (rest := []) hC hd (e_f5 (hX.fn hkn) hk) rfl (c_Fun_fails5 l G ad ow Z k (hX.fn hkn) hk (hwp c25).1) q_469 q_471 q_474 q_470 q_12 q_477 rfl rfl rfl rfl (by decide +kernel) ⟨by decide, by decide⟩ rfl hl.1 (Nat.le_of_ble_eq_true rfl) d_KG_stepOf_55 ⟨by decide, by decide⟩) (fun H locs hd => ?_)
      refine lv_if_eq (tgt := 69) hx hb d_KG_stepOf_58 (by decide) (fun c58 => ?_) (fun c58 => ?_)
      · refine lv_aload_n hx hb d_KG_stepOf_69 rfl (lv_at hl 0 rfl) ?_
        refine zgetN hC hd (e_key hkn) rfl i_Key 1 (by decide) z_116 (Or.inl rfl) (v := .ref (ad 2 k)) (congrArg (fun q => some (va_rf q)) (if_neg hlf)) d_KG_stepOf_70 ?_
        refine zb_i (r := (x_next Z k)) hd (zrunU (owner := "KeyGraph$Function") (n := 0) (rest := []) hC hd (e_f5 (hX.fn hkn) hk) rfl (c_Fun_next5 l G ad ow Z k (hX.fn hkn) hk) q_478 q_480 q_485 q_479 q_12 q_488 rfl rfl rfl rfl (by decide +kernel) ⟨by decide, by decide⟩ rfl hl.1 (Nat.le_of_ble_eq_true rfl) d_KG_stepOf_73 ⟨by decide, by decide⟩) (fun H locs hd => ?_)
        refine lv_istore (lv' := [(4, .int (x_next Z k)), (3, .ref (ad 1 k)), (2, .ref (ad 6 u)), (0, .ref (ad 0 0)), (1, .int (nI u))]) hx hb d_KG_stepOf_76 hl (by decide) rfl (fun ls hl => ?_)
        refine lv_iload hx hb d_KG_stepOf_78 (lv_at hl 0 rfl) ?_
        refine lv_if_ge (tgt := 97) hx hb d_KG_stepOf_80 (by decide) (fun c80 => ?_) (fun c80 => ?_)
        · obtain ⟨hj, hak⟩ := (hwp c25).2.1 c80
          obtain ⟨j, hj9, ej⟩ := nI_of (Int32.not_lt.mpr c80)
          have ejc : (x_next Z k).toNatClampNeg = j := by rw [ej, nI_clamp hj9]
          rw [ejc] at hj
          rw [ej] at hl
          have hrow := (hX.2.2.2.1 k hkn).2 _ hj
          obtain ⟨q, hq⟩ : ∃ q, xc Z 4 (k + 2) j = q + 1 := ⟨xc Z 4 (k + 2) j - 1, by omega⟩
          have hq1 : xc Z 4 (k + 2) j - 1 = q := by omega
          have hqn : q < xn Z 0 1 := by omega
          refine lv_aload_n hx hb d_KG_stepOf_97 rfl (lv_at hl 1 rfl) ?_
          refine zgetN hC hd (e_key hkn) rfl i_Key 2 (by decide) z_118 (Or.inl rfl) (v := .ref (ad 3 (k + 2))) rfl d_KG_stepOf_98 ?_
          refine lv_iload hx hb d_KG_stepOf_101 (lv_at hl 0 rfl) ?_
          refine zb_a (r := (ad 1 q)) hd (zrunV (n := 1) (rest := []) hC hd (e_list (hX.l hkn)) rfl (c_get l G ad ow Z hX (k + 2) j q (hX.l hkn) hj hq) q_352 q_353 q_354 q_4 q_355 rfl rfl rfl (by decide +kernel) ⟨by decide, by decide⟩ rfl hl.1 (Nat.le_of_ble_eq_true rfl) d_KG_stepOf_103 ⟨by decide, by decide⟩) (fun H locs hd => ?_)
          refine zcast hC hd (e_key hqn) q_105 d_KG_stepOf_106 ?_
          refine lv_astore (lv' := [(5, .ref (ad 1 q)), (4, .int (nI j)), (3, .ref (ad 1 k)), (2, .ref (ad 6 u)), (0, .ref (ad 0 0)), (1, .int (nI u))]) hx hb d_KG_stepOf_109 hl (by decide) rfl (fun ls hl => ?_)
          refine lv_aload_n hx hb d_KG_stepOf_111 rfl (lv_at hl 4 rfl) ?_
          refine lv_aload hx hb d_KG_stepOf_112 (lv_at hl 0 rfl) ?_
          refine zb_i (r := (x_isSure Z q)) hd (zrunV (n := 1) (rest := []) hC hd (e_kg hX.kg) rfl (c_KG_isSure l G ad ow Z hX q (x_isSure Z q) hqn rfl) q_421 q_423 qp_9 q_1 q_424 rfl rfl rfl (by decide +kernel) ⟨by decide, by decide⟩ rfl hl.1 (Nat.le_of_ble_eq_true rfl) d_KG_stepOf_114 ⟨by decide, by decide⟩) (fun H locs hd => ?_)
          refine lv_if_ne (tgt := 128) hx hb d_KG_stepOf_117 (by decide) (fun c117 => ?_) (fun c117 => ?_)
          · refine lv_aload_n hx hb d_KG_stepOf_128 rfl (lv_at hl 2 rfl) ?_
            refine zgetN hC hd (e_key hkn) rfl i_Key 12 (by decide) z_131 (Or.inl rfl) (v := .ref (ad 5 (xn Z 8 k))) rfl d_KG_stepOf_129 ?_
            refine lv_aload_n hx hb d_KG_stepOf_132 rfl (lv_at hl 2 rfl) ?_
            refine zgetN hC hd (e_key hkn) rfl i_Key 14 (by decide) z_133 (Or.inl rfl) (v := .int (nI (xn Z 5 k))) rfl d_KG_stepOf_133 ?_
            refine lv_iload hx hb d_KG_stepOf_136 (lv_at hl 1 rfl) ?_
            refine ziaS (k := xn Z 5 k) (Z' := (sc Z 5 (xn Z 8 k) (xn Z 5 k) j)) hC hd (e_arr (hX.ar (hX.2.2.2.2.2 k hkn).2)) (by omega) (by decide) (u_arr (hX.ar (hX.2.2.2.2.2 k hkn).2)) d_KG_stepOf_138 (fun H locs hd => ?_)
            refine lv_aload_n hx hb d_KG_stepOf_139 rfl (lv_at hl 2 rfl) ?_
            refine lv_dup hx hb d_KG_stepOf_140 rfl ?_
            refine zgetN hC hd (e_key hkn) rfl i_Key 14 (by decide) z_133 (Or.inl rfl) (v := .int (nI (xn Z 5 k))) rfl d_KG_stepOf_141 ?_
            refine lv_iconst (v := 1) hx hb d_KG_stepOf_144 (by decide) ?_
            refine zaddN (x := xn Z 5 k) (y := 1) hx hb d_KG_stepOf_145 ?_
            refine zputN (Z' := (sn (sc Z 5 (xn Z 8 k) (xn Z 5 k) j) 5 k ((xn Z 5 k) + 1))) (v := .int (nI ((xn Z 5 k) + 1))) hC hd (e_key hkn) rfl i_Key t_Key t_Key_ok n_Key 14 (by decide) z_133 rfl rfl rfl rfl (Nat.le_of_ble_eq_true rfl) (u_askingC hkn) d_KG_stepOf_146 (fun H locs hd => ?_)
            refine lv_aload hx hb d_KG_stepOf_149 (lv_at hl 0 rfl) ?_
            refine zgetN hC hd (e_key hqn) rfl i_Key 3 (by decide) z_119 (Or.inl rfl) (v := .int (xi Z 1 q)) rfl d_KG_stepOf_151 ?_
            refine lv_iconst (v := 1) hx hb d_KG_stepOf_154 (by decide) ?_
            refine lv_icmp_eq (tgt := 166) hx hb d_KG_stepOf_155 (by decide) (fun c155 => ?_) (fun c155 => ?_)
            · refine lv_aload_n hx hb d_KG_stepOf_166 rfl (lv_at hl 2 rfl) ?_
              refine zgetN hC hd (e_key hkn) rfl i_Key 1 (by decide) z_116 (Or.inl rfl) (v := .ref (ad 2 k)) (congrArg (fun q => some (va_rf q)) (if_neg hlf)) d_KG_stepOf_167 ?_
              refine lv_aload hx hb d_KG_stepOf_170 (lv_at hl 0 rfl) ?_
              refine zgetN hC hd (e_key hqn) rfl i_Key 4 (by decide) z_120 (Or.inl rfl) (v := .long (xl Z 1 q)) rfl d_KG_stepOf_172 ?_
              refine zb_v hd (zrunU (owner := "KeyGraph$Function") (n := 1) (rest := []) hC hd (e_f5 (hX.fn hkn) hk) rfl (c_Fun_take5 l G ad ow (sn (sc Z 5 (xn Z 8 k) (xn Z 5 k) j) 5 k ((xn Z 5 k) + 1)) k (hX.fn hkn) hk (xl Z 1 q)) q_500 q_502 q_511 q_501 q_12 q_514 rfl rfl rfl rfl (by decide +kernel) ⟨by decide, by decide⟩ rfl hl.1 (Nat.le_of_ble_eq_true rfl) d_KG_stepOf_175 ⟨by decide, by decide⟩) (fun H locs hd => ?_)
              refine lv_bipush (v := 6) hx hb d_KG_stepOf_178 (by decide) ?_
              exact zfi hC hd hr hlk d_KG_stepOf_180 (by unfold x_stepOf x_step1 x_work; rw [hne1, ejc]; unfold x_workN; rw [hq1]; (repeat (first | (rw [if_pos]; rotate_left; first | assumption | decide) | (rw [if_neg]; rotate_left; first | assumption | decide))) <;> (try rfl)) (by unfold x_stepOf x_step1 x_work; rw [hne1, ejc]; unfold x_workN; rw [hq1]; (repeat (first | (rw [if_pos]; rotate_left; first | assumption | decide) | (rw [if_neg]; rotate_left; first | assumption | decide))) <;> (try rfl))
            · refine lv_aload_n hx hb d_KG_stepOf_158 rfl (lv_at hl 4 rfl) ?_
              refine lv_aload_n hx hb d_KG_stepOf_159 rfl (lv_at hl 3 rfl) ?_
              refine lv_iconst (v := 3) hx hb d_KG_stepOf_160 (by decide) ?_
              refine lv_lconst (v := 0) hx hb d_KG_stepOf_161 (by decide) ?_
              refine zb_i (r := 2) hd (zrunV (n := 3) (rest := []) hC hd (e_kg hX.kg) rfl (c_KG_ends l G ad ow (sn (sc Z 5 (xn Z 8 k) (xn Z 5 k) j) 5 k ((xn Z 5 k) + 1)) hX u k hu hkn (show 1 ≤ xn Z 9 u by omega) h40 hne 3 0) q_465 q_467 qp_15 q_1 q_468 rfl rfl rfl (by decide +kernel) ⟨by decide, by decide⟩ rfl hl.1 (Nat.le_of_ble_eq_true rfl) d_KG_stepOf_162 ⟨by decide, by decide⟩) (fun H locs hd => ?_)
              exact zfi hC hd hr hlk d_KG_stepOf_165 (by unfold x_stepOf x_step1 x_work; rw [hne1, ejc]; unfold x_workN; rw [hq1]; (repeat (first | (rw [if_pos]; rotate_left; first | assumption | decide) | (rw [if_neg]; rotate_left; first | assumption | decide))) <;> (try rfl)) (by unfold x_stepOf x_step1 x_work; rw [hne1, ejc]; unfold x_workN; rw [hq1]; (repeat (first | (rw [if_pos]; rotate_left; first | assumption | decide) | (rw [if_neg]; rotate_left; first | assumption | decide))) <;> (try rfl))
          · refine lv_aload_n hx hb d_KG_stepOf_120 rfl (lv_at hl 4 rfl) ?_
            refine lv_iload_n hx hb d_KG_stepOf_121 rfl (lv_at hl 5 rfl) ?_
            refine lv_aload hx hb d_KG_stepOf_122 (lv_at hl 0 rfl) ?_
            refine zb_i (r := ((x_goesDown Z u q).2)) hd (zrunV (n := 2) (rest := []) hC hd (e_kg hX.kg) rfl (c_KG_goesDown l G ad ow Z hX u q hu hqn (hdo q hqn c117).1 (hdo q hqn c117).2) q_461 q_463 qp_14 q_1 q_464 rfl rfl rfl (by decide +kernel) ⟨by decide, by decide⟩ rfl hl.1 (Nat.le_of_ble_eq_true rfl) d_KG_stepOf_124 ⟨by decide, by decide⟩) (fun H locs hd => ?_)
            exact zfi hC hd hr hlk d_KG_stepOf_127 (by unfold x_stepOf x_step1 x_work; rw [hne1, ejc]; unfold x_workN; rw [hq1]; (repeat (first | (rw [if_pos]; rotate_left; first | assumption | decide) | (rw [if_neg]; rotate_left; first | assumption | decide))) <;> (try rfl)) (by unfold x_stepOf x_step1 x_work; rw [hne1, ejc]; unfold x_workN; rw [hq1]; (repeat (first | (rw [if_pos]; rotate_left; first | assumption | decide) | (rw [if_neg]; rotate_left; first | assumption | decide))) <;> (try rfl))
        · refine lv_aload_n hx hb d_KG_stepOf_83 rfl (lv_at hl 3 rfl) ?_
          refine lv_aload_n hx hb d_KG_stepOf_84 rfl (lv_at hl 2 rfl) ?_
          refine lv_iconst (v := 1) hx hb d_KG_stepOf_85 (by decide) ?_
          refine lv_aload_n hx hb d_KG_stepOf_86 rfl (lv_at hl 1 rfl) ?_
          refine zgetN hC hd (e_key hkn) rfl i_Key 1 (by decide) z_116 (Or.inl rfl) (v := .ref (ad 2 k)) (congrArg (fun q => some (va_rf q)) (if_neg hlf)) d_KG_stepOf_87 ?_
          refine zb_l (r := (x_result Z k)) hd (zrunU (owner := "KeyGraph$Function") (n := 0) (rest := [.int 1, .ref (ad 6 u), .ref (ad 0 0)]) hC hd (e_f5 (hX.fn hkn) hk) rfl (c_Fun_result5 l G ad ow Z k (hX.fn hkn) hk) q_489 q_491 q_494 q_490 q_12 q_499 rfl rfl rfl rfl (by decide +kernel) ⟨by decide, by decide⟩ rfl hl.1 (Nat.le_of_ble_eq_true rfl) d_KG_stepOf_90 ⟨by decide, by decide⟩) (fun H locs hd => ?_)
          refine zb_i (r := 2) hd (zrunV (n := 3) (rest := []) hC hd (e_kg hX.kg) rfl (c_KG_ends l G ad ow Z hX u k hu hkn (show 1 ≤ xn Z 9 u by omega) h40 hne 1 (x_result Z k)) q_465 q_467 qp_15 q_1 q_468 rfl rfl rfl (by decide +kernel) ⟨by decide, by decide⟩ rfl hl.1 (Nat.le_of_ble_eq_true rfl) d_KG_stepOf_93 ⟨by decide, by decide⟩) (fun H locs hd => ?_)
          exact zfi hC hd hr hlk d_KG_stepOf_96 (by unfold x_stepOf x_step1 x_work; rw [hne1]; (repeat (first | (rw [if_pos]; rotate_left; first | assumption | decide) | (rw [if_neg]; rotate_left; first | assumption | decide))) <;> (try rfl)) (by unfold x_stepOf x_step1 x_work; rw [hne1]; (repeat (first | (rw [if_pos]; rotate_left; first | assumption | decide) | (rw [if_neg]; rotate_left; first | assumption | decide))) <;> (try rfl))
      · refine lv_aload_n hx hb d_KG_stepOf_61 rfl (lv_at hl 2 rfl) ?_
        refine lv_aload_n hx hb d_KG_stepOf_62 rfl (lv_at hl 1 rfl) ?_
        refine lv_iconst (v := 2) hx hb d_KG_stepOf_63 (by decide) ?_
        refine lv_lconst (v := 0) hx hb d_KG_stepOf_64 (by decide) ?_
        refine zb_i (r := 2) hd (zrunV (n := 3) (rest := []) hC hd (e_kg hX.kg) rfl (c_KG_ends l G ad ow Z hX u k hu hkn (show 1 ≤ xn Z 9 u by omega) h40 hne 2 0) q_465 q_467 qp_15 q_1 q_468 rfl rfl rfl (by decide +kernel) ⟨by decide, by decide⟩ rfl hl.1 (Nat.le_of_ble_eq_true rfl) d_KG_stepOf_65 ⟨by decide, by decide⟩) (fun H locs hd => ?_)
        exact zfi hC hd hr hlk d_KG_stepOf_68 (by unfold x_stepOf x_step1 x_work; rw [hne1]; (repeat (first | (rw [if_pos]; rotate_left; first | assumption | decide) | (rw [if_neg]; rotate_left; first | assumption | decide))) <;> (try rfl)) (by unfold x_stepOf x_step1 x_work; rw [hne1]; (repeat (first | (rw [if_pos]; rotate_left; first | assumption | decide) | (rw [if_neg]; rotate_left; first | assumption | decide))) <;> (try rfl))
    · refine lv_aload_n hx hb d_KG_stepOf_43 rfl (lv_at hl 2 rfl) ?_
      refine lv_aload_n hx hb d_KG_stepOf_44 rfl (lv_at hl 1 rfl) ?_
      refine lv_iconst (v := 2) hx hb d_KG_stepOf_45 (by decide) ?_
      refine lv_lconst (v := 0) hx hb d_KG_stepOf_46 (by decide) ?_
      refine zb_i (r := 2) hd (zrunV (n := 3) (rest := []) hC hd (e_kg hX.kg) rfl (c_KG_ends l G ad ow Z hX u k hu hkn (show 1 ≤ xn Z 9 u by omega) h40 hne 2 0) q_465 q_467 qp_15 q_1 q_468 rfl rfl rfl (by decide +kernel) ⟨by decide, by decide⟩ rfl hl.1 (Nat.le_of_ble_eq_true rfl) d_KG_stepOf_47 ⟨by decide, by decide⟩) (fun H locs hd => ?_)
      exact zfi hC hd hr hlk d_KG_stepOf_50 (by unfold x_stepOf x_step1 x_work; rw [hne1]; (repeat (first | (rw [if_pos]; rotate_left; first | assumption | decide) | (rw [if_neg]; rotate_left; first | assumption | decide))) <;> (try rfl)) (by unfold x_stepOf x_step1 x_work; rw [hne1]; (repeat (first | (rw [if_pos]; rotate_left; first | assumption | decide) | (rw [if_neg]; rotate_left; first | assumption | decide))) <;> (try rfl))
  · refine lv_aload_n hx hb d_KG_stepOf_28 rfl (lv_at hl 2 rfl) ?_
    refine lv_iload_n hx hb d_KG_stepOf_29 rfl (lv_at hl 3 rfl) ?_
    refine lv_aload_n hx hb d_KG_stepOf_30 rfl (lv_at hl 1 rfl) ?_
    refine lv_aload_n hx hb d_KG_stepOf_31 rfl (lv_at hl 0 rfl) ?_
    refine zb_i (r := ((x_check Z u k).2)) hd (zrunV (n := 3) (rest := []) hC hd (e_kg hX.kg) rfl (c_KG_check l G ad ow Z hX u k hu hkn (by omega) h40 hne hdo (hcp c25) hab) q_453 q_455 qp_12 q_1 q_456 rfl rfl rfl (by decide +kernel) ⟨by decide, by decide⟩ rfl hl.1 (Nat.le_of_ble_eq_true rfl) d_KG_stepOf_32 ⟨by decide, by decide⟩) (fun H locs hd => ?_)
    exact zfi hC hd hr hlk d_KG_stepOf_35 (by unfold x_stepOf x_step1 x_work; rw [hne1]; (repeat (first | (rw [if_pos]; rotate_left; first | assumption | decide) | (rw [if_neg]; rotate_left; first | assumption | decide))) <;> (try rfl)) (by unfold x_stepOf x_step1 x_work; rw [hne1]; (repeat (first | (rw [if_pos]; rotate_left; first | assumption | decide) | (rw [if_neg]; rotate_left; first | assumption | decide))) <;> (try rfl))
set_option maxHeartbeats 4000000 in
theorem c_KG_stepOf_e (l : Launch) (G : Gt) (ad : Nat → Nat → Nat) (ow : Nat → Nat × Nat) (Z : Zt) (hX : XS Z) (u : Nat) (hu : u < 5) (h0 : xn Z 9 u = 0) : Met l y_KG_stepOf w_KG_stepOf ({ frames := 5, cells := 0, slots := 0, locals := 111 }) (zPc G ad ow Z [.ref (ad 0 0), .int (nI u)]) (Qd G ad ow ((x_stepOf Z u).1) (some (.int (x_stepOf Z u).2))) 0 0 (zA G) := by
  refine zopen (cc := b_KG_stepOf) (maxL := 6) (ret := (some FieldType.int)) (by decide) rfl (Nat.le_of_ble_eq_true rfl) ?_
  intro p e s m below meth c ls hC hr hlk hnm hd hl
  have hC : Cx G p c m s _ "KeyGraph" b_KG_stepOf 6 := hC
  have hl : lv_has ls 6 [(0, .ref (ad 0 0)), (1, .int (nI u))] := hl
  have hx := hC.1
  have hb := hC.2.1
  refine lv_aload_n hx hb d_KG_stepOf_0 rfl (lv_at hl 0 rfl) ?_
  refine zget hC hd (e_kg hX.kg) rfl i_KG 1 (by decide) q_81 (Or.inl rfl) (v := .ref (ad 8 0)) rfl d_KG_stepOf_1 ?_
  refine lv_iload_n hx hb d_KG_stepOf_4 rfl (lv_at hl 1 rfl) ?_
  refine zaaP (k := u) hC hd (e_piles hX.ps) (by omega) (by decide) rfl d_KG_stepOf_5 ?_
  refine lv_astore_n (lv' := [(2, .ref (ad 6 u)), (0, .ref (ad 0 0)), (1, .int (nI u))]) hx hb d_KG_stepOf_6 rfl hl (by decide) rfl (fun ls hl => ?_)
  refine lv_aload_n hx hb d_KG_stepOf_7 rfl (lv_at hl 0 rfl) ?_
  refine zgetN hC hd (e_pile (hX.pl hu)) rfl i_Pile 1 (by decide) z_74 (Or.inl rfl) (v := .int (nI (xn Z 9 u))) rfl d_KG_stepOf_8 ?_
  refine zi_ne (x := xn Z 9 u) (tgt := 16) (by omega) hx hb d_KG_stepOf_11 (by decide) (fun c11 => absurd h0 (by omega)) (fun c11 => ?_)
  refine lv_iconst (v := 0) hx hb d_KG_stepOf_14 (by decide) ?_
  exact zfi hC hd hr hlk d_KG_stepOf_15 (by unfold x_stepOf; (repeat (first | (rw [if_pos]; rotate_left; first | assumption | decide) | (rw [if_neg]; rotate_left; first | assumption | decide))) <;> (try rfl)) (by unfold x_stepOf; (repeat (first | (rw [if_pos]; rotate_left; first | assumption | decide) | (rw [if_neg]; rotate_left; first | assumption | decide))) <;> (try rfl))
theorem c_KG_stepOf (l : Launch) (G : Gt) (ad : Nat → Nat → Nat) (ow : Nat → Nat × Nat) (Z : Zt) (u : Nat) (hp : StepPre Z u) (hab : ∀ k, xn Z 6 k ≤ 2147483647 ∧ xn Z 4 k ≤ 2147483647) : Met l y_KG_stepOf w_KG_stepOf ({ frames := 5, cells := 0, slots := 0, locals := 111 }) (zPc G ad ow Z [.ref (ad 0 0), .int (nI u)]) (Qd G ad ow ((x_stepOf Z u).1) (some (.int (x_stepOf Z u).2))) 0 0 (zA G) := by
  obtain ⟨hX, hu, h40, hk⟩ := hp
  by_cases h0 : xn Z 9 u = 0
  · exact c_KG_stepOf_e l G ad ow Z hX u hu h0
  · obtain ⟨k, hkn, hne, hk6, hdo, hcp, hwp⟩ := hk h0
    rcases (show xn Z 1 k = 0 ∨ xn Z 1 k = 1 ∨ xn Z 1 k = 2 ∨ xn Z 1 k = 3 ∨ xn Z 1 k = 4 ∨ xn Z 1 k = 5 by omega) with h | h | h | h | h | h
    · exact c_KG_stepOf0 l G ad ow Z hX u k hu hkn h0 h40 hne h hdo hcp hwp (hab k)
    · exact c_KG_stepOf1 l G ad ow Z hX u k hu hkn h0 h40 hne h hdo hcp hwp (hab k)
    · exact c_KG_stepOf2 l G ad ow Z hX u k hu hkn h0 h40 hne h hdo hcp hwp (hab k)
    · exact c_KG_stepOf3 l G ad ow Z hX u k hu hkn h0 h40 hne h hdo hcp hwp (hab k)
    · exact c_KG_stepOf4 l G ad ow Z hX u k hu hkn h0 h40 hne h hdo hcp hwp (hab k)
    · exact c_KG_stepOf5 l G ad ow Z hX u k hu hkn h0 h40 hne h hdo hcp hwp (hab k)
end
section
def x_clr (u : Nat) : Zt → Nat → Zt
  | Z, 0 => Z
  | Z, n + 1 => x_clr u (sn (si Z 8 (xc Z 7 u n - 1) (-1)) 9 u n) n
theorem x_clr_xn (u : Nat) : ∀ (n : Nat) (Z : Zt) (t i : Nat), (t ≠ 9 ∨ i ≠ u) → xn (x_clr u Z n) t i = xn Z t i
  | 0, _, _, _, _ => rfl
  | n + 1, Z, t, i, h => (x_clr_xn u n _ t i h).trans (by rw [xn_sn, if_neg (fun q => h.elim (fun a => a q.1) (fun a => a q.2))]; rfl)
theorem x_clr_xc (u : Nat) : ∀ (n : Nat) (Z : Zt) (c i j : Nat), xc (x_clr u Z n) c i j = xc Z c i j
  | 0, _, _, _, _ => rfl
  | n + 1, Z, c, i, j => (x_clr_xc u n _ c i j).trans rfl
theorem x_clr_xl (u : Nat) : ∀ (n : Nat) (Z : Zt) (t i : Nat), xl (x_clr u Z n) t i = xl Z t i
  | 0, _, _, _ => rfl
  | n + 1, Z, t, i => (x_clr_xl u n _ t i).trans rfl
theorem x_clr_xi (u : Nat) : ∀ (n : Nat) (Z : Zt) (t i : Nat), t ≠ 8 → xi (x_clr u Z n) t i = xi Z t i
  | 0, _, _, _, _ => rfl
  | n + 1, Z, t, i, h => (x_clr_xi u n _ t i h).trans (by rw [show ∀ q, xi (sn q 9 u n) t i = xi q t i from fun _ => rfl, xi_si, if_neg (fun q => h q.1)])
theorem x_clr_XS (u n : Nat) {Z : Zt} (hX : XS Z) : XS (x_clr u Z n) := by
  refine hX.of (fun i => x_clr_xn u n Z 0 i (Or.inl (by decide))) (fun i => x_clr_xn u n Z 2 i (Or.inl (by decide))) (fun i => x_clr_xn u n Z 3 i (Or.inl (by decide))) (fun i j => x_clr_xc u n Z 4 i j) (fun k hk => ?_)
  rw [x_clr_xn u n Z 7 k (Or.inl (by decide)), x_clr_xn u n Z 8 k (Or.inl (by decide))]
  exact hX.2.2.2.2.2 k hk
def PileOk (Z : Zt) (u : Nat) : Prop := xn Z 9 u ≤ 40 ∧ ∀ j, j < xn Z 9 u → ∃ q, q < xn Z 0 1 ∧ xc Z 7 u j = q + 1
def CancelPre (Z : Zt) : Prop := ∀ u, u < 5 → PileOk Z u
def x_can1 (Z : Zt) : Zt := x_clr 0 Z (xn Z 9 0)
def x_can2 (Z : Zt) : Zt := x_clr 1 (x_can1 Z) (xn Z 9 1)
def x_can3 (Z : Zt) : Zt := x_clr 2 (x_can2 Z) (xn Z 9 2)
def x_can4 (Z : Zt) : Zt := x_clr 3 (x_can3 Z) (xn Z 9 3)
def x_cancel (Z : Zt) : Zt := x_clr 4 (x_can4 Z) (xn Z 9 4)
def x_cancelN (Z : Zt) : Nat := ((((0 + xn Z 9 0) + xn Z 9 1) + xn Z 9 2) + xn Z 9 3) + xn Z 9 4
theorem x_can_xn (Z : Zt) (t i : Nat) (h : t ≠ 9) : xn (x_cancel Z) t i = xn Z t i := by
  unfold x_cancel x_can4 x_can3 x_can2 x_can1
  rw [x_clr_xn _ _ _ _ _ (Or.inl h), x_clr_xn _ _ _ _ _ (Or.inl h), x_clr_xn _ _ _ _ _ (Or.inl h), x_clr_xn _ _ _ _ _ (Or.inl h), x_clr_xn _ _ _ _ _ (Or.inl h)]
theorem x_can_xc (Z : Zt) (c i j : Nat) : xc (x_cancel Z) c i j = xc Z c i j := by
  unfold x_cancel x_can4 x_can3 x_can2 x_can1
  rw [x_clr_xc, x_clr_xc, x_clr_xc, x_clr_xc, x_clr_xc]
theorem x_can_xl (Z : Zt) (t i : Nat) : xl (x_cancel Z) t i = xl Z t i := by
  unfold x_cancel x_can4 x_can3 x_can2 x_can1
  rw [x_clr_xl, x_clr_xl, x_clr_xl, x_clr_xl, x_clr_xl]
theorem x_can_xi (Z : Zt) (t i : Nat) (h : t ≠ 8) : xi (x_cancel Z) t i = xi Z t i := by
  unfold x_cancel x_can4 x_can3 x_can2 x_can1
  rw [x_clr_xi _ _ _ _ _ h, x_clr_xi _ _ _ _ _ h, x_clr_xi _ _ _ _ _ h, x_clr_xi _ _ _ _ _ h, x_clr_xi _ _ _ _ _ h]
theorem x_can_XS {Z : Zt} (hX : XS Z) : XS (x_cancel Z) := x_clr_XS 4 _ (x_clr_XS 3 _ (x_clr_XS 2 _ (x_clr_XS 1 _ (x_clr_XS 0 _ hX))))
theorem PileOk.at {Z Z' : Zt} {u : Nat} (h : PileOk Z u) (h1 : xn Z' 9 u = xn Z 9 u) (h2 : xn Z' 0 1 = xn Z 0 1) (h3 : ∀ j, xc Z' 7 u j = xc Z 7 u j) : PileOk Z' u := by
  unfold PileOk at h ⊢
  simp only [h1, h2, h3]
  exact h

set_option maxHeartbeats 4000000 in
theorem lp_KG_cancel {p : Program} {l : Launch} {e : Env} {s : State} {m : MethodId} {args : Array Value} {below : List Frame} {meth : Method} {c : Code} {Q : State → Prop} {G : Gt} {ad : Nat → Nat → Nat} {ow : Nat → Nat × Nat} (u : Nat) (hu : u < 5) (hC : Cx G p c m s args "KeyGraph" b_KG_cancel 4) : ∀ (n : Nat) (Z : Zt) (a : Nat) (ls : Array Slot) (H : Heap) (locs : List Loc), xn Z 9 u = n → XS Z → PileOk Z u → Dy G ad ow Z s H locs → lv_has ls 4 [(1, .int (nI (a))), (2, .int (nI u)), (3, .ref (ad 6 u)), (0, .ref (ad 0 0))] → (∀ (ls : Array Slot) (H : Heap) (locs : List Loc), Dy G ad ow (x_clr u Z n) s H locs → lv_has ls 4 [(1, .int (nI (a + n))), (2, .int (nI u)), (3, .ref (ad 6 u)), (0, .ref (ad 0 0))] → W p l e ({ frames := 1, cells := 0, slots := 0, locals := 20 } : Room) s m args below meth c H locs 0 0 Q (F0 m 47 ls [])) → W p l e ({ frames := 1, cells := 0, slots := 0, locals := 20 } : Room) s m args below meth c H locs 0 0 Q (F0 m 16 ls []) := by
  have hx := hC.1
  have hb := hC.2.1
  intro n
  induction n with
  | zero =>
    intro Z a ls H locs hn hX hp hd hl kk
    refine lv_aload_n hx hb d_KG_cancel_16 rfl (lv_at hl 2 rfl) ?_
    refine zgetN hC hd (e_pile (hX.pl hu)) rfl i_Pile 1 (by decide) z_74 (Or.inl rfl) (v := .int (nI (xn Z 9 u))) rfl d_KG_cancel_17 ?_
    refine zi_le (x := xn Z 9 u) (tgt := 47) (by omega) hx hb d_KG_cancel_20 (by decide) (fun c20 => ?_) (fun c20 => absurd hn (by omega))
    exact kk ls H locs hd hl
  | succ n ih =>
    intro Z a ls H locs hn hX hp hd hl kk
    obtain ⟨h40, hq⟩ := hp
    obtain ⟨k, hkn, hk⟩ := hq n (by omega)
    have hne : xc Z 7 u (xn Z 9 u - 1) = k + 1 := by rw [show xn Z 9 u - 1 = n by omega]; exact hk
    refine lv_aload_n hx hb d_KG_cancel_16 rfl (lv_at hl 2 rfl) ?_
    refine zgetN hC hd (e_pile (hX.pl hu)) rfl i_Pile 1 (by decide) z_74 (Or.inl rfl) (v := .int (nI (xn Z 9 u))) rfl d_KG_cancel_17 ?_
    refine zi_le (x := xn Z 9 u) (tgt := 47) (by omega) hx hb d_KG_cancel_20 (by decide) (fun c20 => absurd hn (by omega)) (fun c20 => ?_)
    refine lv_aload_n hx hb d_KG_cancel_23 rfl (lv_at hl 2 rfl) ?_
    refine zb_a (r := (ad 1 k)) hd (zrunV (n := 0) (rest := []) hC hd (e_pile (hX.pl hu)) rfl (c_Pile_top l G ad ow Z hX u hu (by omega) (by omega) k hne) q_394 q_395 q_396 q_5 q_397 rfl rfl rfl (by decide +kernel) ⟨by decide, by decide⟩ rfl hl.1 (Nat.le_of_ble_eq_true rfl) d_KG_cancel_24 ⟨by decide, by decide⟩) (fun H locs hd => ?_)
    refine lv_iconst (v := (-1)) hx hb d_KG_cancel_27 (by decide) ?_
    refine zputN (Z' := (si Z 8 k (-1))) (v := .int (-1)) hC hd (e_key hkn) rfl i_Key t_Key t_Key_ok n_Key 15 (by decide) z_135 rfl rfl rfl rfl (Nat.le_of_ble_eq_true rfl) (u_worker hkn) d_KG_cancel_28 (fun H locs hd => ?_)
    refine lv_iinc (v := (nI (a + 1))) (lv' := [(1, .int (nI (a + 1))), (2, .int (nI u)), (3, .ref (ad 6 u)), (0, .ref (ad 0 0))]) hx hb d_KG_cancel_31 hl (k := 0) rfl (by rw [show Int32.ofInt 1 = nI 1 from by decide]; exact nI_add _ _) (by decide) rfl (fun ls hl => ?_)
    refine lv_aload_n hx hb d_KG_cancel_34 rfl (lv_at hl 2 rfl) ?_
    refine lv_dup hx hb d_KG_cancel_35 rfl ?_
    refine zgetN hC hd (e_pile (hX.pl hu)) rfl i_Pile 1 (by decide) z_74 (Or.inl rfl) (v := .int (nI (xn Z 9 u))) rfl d_KG_cancel_36 ?_
    refine lv_iconst (v := 1) hx hb d_KG_cancel_39 (by decide) ?_
    refine zsubN (x := xn Z 9 u) (y := 1) (by omega) hx hb d_KG_cancel_40 ?_
    refine zputN (Z' := (sn (si Z 8 k (-1)) 9 u ((xn Z 9 u) - 1))) (v := .int (nI ((xn Z 9 u) - 1))) hC hd (e_pile (hX.pl hu)) rfl i_Pile t_Pile t_Pile_ok n_Pile 1 (by decide) z_74 rfl rfl rfl rfl (Nat.le_of_ble_eq_true rfl) (u_psz (hX.pl hu)) d_KG_cancel_41 (fun H locs hd => ?_)
    refine lv_goto (tgt := 16) hx hb d_KG_cancel_44 (by decide) ?_
    have ez : (sn (si Z 8 k (-1)) 9 u ((xn Z 9 u) - 1)) = sn (si Z 8 (xc Z 7 u n - 1) (-1)) 9 u n := by rw [show xn Z 9 u - 1 = n by omega, show xc Z 7 u n - 1 = k by omega]
    have hd := Dy.eq hd ez
    refine ih (sn (si Z 8 (xc Z 7 u n - 1) (-1)) 9 u n) (a + 1) ls H locs (by rw [xn_sn, if_pos ⟨rfl, rfl⟩]) hX ⟨by rw [xn_sn, if_pos ⟨rfl, rfl⟩]; omega, fun j hj => hq j (by rw [xn_sn, if_pos ⟨rfl, rfl⟩] at hj; omega)⟩ hd (lv_sub hl [0, 1, 2, 3] rfl) (fun ls H locs hd hl => kk ls H locs hd ?_)
    rw [show a + (n + 1) = a + 1 + n by omega]; exact hl
set_option maxHeartbeats 4000000 in
theorem c_KG_cancel (l : Launch) (G : Gt) (ad : Nat → Nat → Nat) (ow : Nat → Nat × Nat) (Z : Zt) (hX : XS Z) (hcp : CancelPre Z) : Met l y_KG_cancel w_KG_cancel ({ frames := 1, cells := 0, slots := 0, locals := 20 }) (zPc G ad ow Z [.ref (ad 0 0)]) (Qd G ad ow (x_cancel Z) (some (.int (nI (x_cancelN Z))))) 0 0 (zA G) := by
  refine zopen (cc := b_KG_cancel) (maxL := 4) (ret := (some FieldType.int)) (by decide) rfl (Nat.le_of_ble_eq_true rfl) ?_
  intro p e s m below meth c ls hC hr hlk hnm hd hl
  have hC : Cx G p c m s _ "KeyGraph" b_KG_cancel 4 := hC
  have hl : lv_has ls 4 [(0, .ref (ad 0 0))] := hl
  have hx := hC.1
  have hb := hC.2.1
  obtain ⟨H, hH⟩ : ∃ q, q = s.heap := ⟨_, rfl⟩
  obtain ⟨locs, hlocs⟩ : ∃ q : List Loc, q = [] := ⟨_, rfl⟩
  rw [← hH, ← hlocs] at hd
  rw [← hH, ← hlocs]
  refine lv_iconst (v := 0) hx hb d_KG_cancel_0 (by decide) ?_
  refine lv_istore_n (lv' := [(1, .int 0), (0, .ref (ad 0 0))]) hx hb d_KG_cancel_1 rfl hl (by decide) rfl (fun ls hl => ?_)
  refine lv_iconst (v := 0) hx hb d_KG_cancel_2 (by decide) ?_
  refine lv_istore_n (lv' := [(2, .int 0), (1, .int 0), (0, .ref (ad 0 0))]) hx hb d_KG_cancel_3 rfl hl (by decide) rfl (fun ls hl => ?_)
  refine lv_iload_n hx hb d_KG_cancel_4 rfl (lv_at hl 0 rfl) ?_
  refine lv_iconst (v := 4) hx hb d_KG_cancel_5 (by decide) ?_
  refine lv_icmp_gt (tgt := 53) hx hb d_KG_cancel_6 (by decide) (fun c => absurd c (by decide)) (fun _ => ?_)
  refine lv_aload_n hx hb d_KG_cancel_9 rfl (lv_at hl 2 rfl) ?_
  refine zget hC hd (e_kg hX.kg) rfl i_KG 1 (by decide) q_81 (Or.inl rfl) (v := .ref (ad 8 0)) rfl d_KG_cancel_10 ?_
  refine lv_iload_n hx hb d_KG_cancel_13 rfl (lv_at hl 0 rfl) ?_
  refine zaaP (k := 0) hC hd (e_piles hX.ps) (by omega) (by decide) rfl d_KG_cancel_14 ?_
  refine lv_astore_n (lv' := [(3, .ref (ad 6 0)), (2, .int 0), (1, .int 0), (0, .ref (ad 0 0))]) hx hb d_KG_cancel_15 rfl hl (by decide) rfl (fun ls hl => ?_)
  have hs0 : xn Z 9 0 = xn Z 9 0 := by rfl
  have hpk0 : PileOk Z 0 := (hcp 0 (by decide)).at hs0 rfl (fun _ => rfl)
  refine lp_KG_cancel 0 (by decide) hC (xn Z 9 0) Z 0 ls H locs hs0 hX hpk0 hd (lv_sub hl [2, 1, 0, 3] rfl) (fun ls H locs hd hl => ?_)
  have hX1 : XS (x_can1 Z) := x_clr_XS 0 _ hX
  have hd : Dy G ad ow (x_can1 Z) s H locs := hd
  have hl : lv_has ls 4 [(1, .int (nI (0 + xn Z 9 0))), (2, .int 0), (3, .ref (ad 6 0)), (0, .ref (ad 0 0))] := hl
  refine lv_iinc (v := 1) (lv' := [(2, .int 1), (1, .int (nI (0 + xn Z 9 0))), (3, .ref (ad 6 0)), (0, .ref (ad 0 0))]) hx hb d_KG_cancel_47 hl (k := 1) rfl (by decide) (by decide) rfl (fun ls hl => ?_)
  refine lv_goto (tgt := 4) hx hb d_KG_cancel_50 (by decide) ?_
  refine lv_iload_n hx hb d_KG_cancel_4 rfl (lv_at hl 0 rfl) ?_
  refine lv_iconst (v := 4) hx hb d_KG_cancel_5 (by decide) ?_
  refine lv_icmp_gt (tgt := 53) hx hb d_KG_cancel_6 (by decide) (fun c => absurd c (by decide)) (fun _ => ?_)
  refine lv_aload_n hx hb d_KG_cancel_9 rfl (lv_at hl 3 rfl) ?_
  refine zget hC hd (e_kg hX1.kg) rfl i_KG 1 (by decide) q_81 (Or.inl rfl) (v := .ref (ad 8 0)) rfl d_KG_cancel_10 ?_
  refine lv_iload_n hx hb d_KG_cancel_13 rfl (lv_at hl 0 rfl) ?_
  refine zaaP (k := 1) hC hd (e_piles hX1.ps) (by omega) (by decide) rfl d_KG_cancel_14 ?_
  refine lv_astore_n (lv' := [(3, .ref (ad 6 1)), (2, .int 1), (1, .int (nI (0 + xn Z 9 0))), (0, .ref (ad 0 0))]) hx hb d_KG_cancel_15 rfl hl (by decide) rfl (fun ls hl => ?_)
  have hs1 : xn (x_can1 Z) 9 1 = xn Z 9 1 := by unfold x_can1; rw [x_clr_xn _ _ _ _ _ (Or.inr (by decide))]
  have hpk1 : PileOk (x_can1 Z) 1 := (hcp 1 (by decide)).at hs1 (by unfold x_can1; rw [x_clr_xn _ _ _ _ _ (Or.inl (by decide))]) (fun j => by unfold x_can1; rw [x_clr_xc])
  refine lp_KG_cancel 1 (by decide) hC (xn Z 9 1) (x_can1 Z) (0 + xn Z 9 0) ls H locs hs1 hX1 hpk1 hd (lv_sub hl [2, 1, 0, 3] rfl) (fun ls H locs hd hl => ?_)
  have hX2 : XS (x_can2 Z) := x_clr_XS 1 _ hX1
  have hd : Dy G ad ow (x_can2 Z) s H locs := hd
  have hl : lv_has ls 4 [(1, .int (nI ((0 + xn Z 9 0) + xn Z 9 1))), (2, .int 1), (3, .ref (ad 6 1)), (0, .ref (ad 0 0))] := hl
  refine lv_iinc (v := 2) (lv' := [(2, .int 2), (1, .int (nI ((0 + xn Z 9 0) + xn Z 9 1))), (3, .ref (ad 6 1)), (0, .ref (ad 0 0))]) hx hb d_KG_cancel_47 hl (k := 1) rfl (by decide) (by decide) rfl (fun ls hl => ?_)
  refine lv_goto (tgt := 4) hx hb d_KG_cancel_50 (by decide) ?_
  refine lv_iload_n hx hb d_KG_cancel_4 rfl (lv_at hl 0 rfl) ?_
  refine lv_iconst (v := 4) hx hb d_KG_cancel_5 (by decide) ?_
  refine lv_icmp_gt (tgt := 53) hx hb d_KG_cancel_6 (by decide) (fun c => absurd c (by decide)) (fun _ => ?_)
  refine lv_aload_n hx hb d_KG_cancel_9 rfl (lv_at hl 3 rfl) ?_
  refine zget hC hd (e_kg hX2.kg) rfl i_KG 1 (by decide) q_81 (Or.inl rfl) (v := .ref (ad 8 0)) rfl d_KG_cancel_10 ?_
  refine lv_iload_n hx hb d_KG_cancel_13 rfl (lv_at hl 0 rfl) ?_
  refine zaaP (k := 2) hC hd (e_piles hX2.ps) (by omega) (by decide) rfl d_KG_cancel_14 ?_
  refine lv_astore_n (lv' := [(3, .ref (ad 6 2)), (2, .int 2), (1, .int (nI ((0 + xn Z 9 0) + xn Z 9 1))), (0, .ref (ad 0 0))]) hx hb d_KG_cancel_15 rfl hl (by decide) rfl (fun ls hl => ?_)
  have hs2 : xn (x_can2 Z) 9 2 = xn Z 9 2 := by unfold x_can2 x_can1; rw [x_clr_xn _ _ _ _ _ (Or.inr (by decide)), x_clr_xn _ _ _ _ _ (Or.inr (by decide))]
  have hpk2 : PileOk (x_can2 Z) 2 := (hcp 2 (by decide)).at hs2 (by unfold x_can2 x_can1; rw [x_clr_xn _ _ _ _ _ (Or.inl (by decide)), x_clr_xn _ _ _ _ _ (Or.inl (by decide))]) (fun j => by unfold x_can2 x_can1; rw [x_clr_xc, x_clr_xc])
  refine lp_KG_cancel 2 (by decide) hC (xn Z 9 2) (x_can2 Z) ((0 + xn Z 9 0) + xn Z 9 1) ls H locs hs2 hX2 hpk2 hd (lv_sub hl [2, 1, 0, 3] rfl) (fun ls H locs hd hl => ?_)
  have hX3 : XS (x_can3 Z) := x_clr_XS 2 _ hX2
  have hd : Dy G ad ow (x_can3 Z) s H locs := hd
  have hl : lv_has ls 4 [(1, .int (nI (((0 + xn Z 9 0) + xn Z 9 1) + xn Z 9 2))), (2, .int 2), (3, .ref (ad 6 2)), (0, .ref (ad 0 0))] := hl
  refine lv_iinc (v := 3) (lv' := [(2, .int 3), (1, .int (nI (((0 + xn Z 9 0) + xn Z 9 1) + xn Z 9 2))), (3, .ref (ad 6 2)), (0, .ref (ad 0 0))]) hx hb d_KG_cancel_47 hl (k := 1) rfl (by decide) (by decide) rfl (fun ls hl => ?_)
  refine lv_goto (tgt := 4) hx hb d_KG_cancel_50 (by decide) ?_
  refine lv_iload_n hx hb d_KG_cancel_4 rfl (lv_at hl 0 rfl) ?_
  refine lv_iconst (v := 4) hx hb d_KG_cancel_5 (by decide) ?_
  refine lv_icmp_gt (tgt := 53) hx hb d_KG_cancel_6 (by decide) (fun c => absurd c (by decide)) (fun _ => ?_)
  refine lv_aload_n hx hb d_KG_cancel_9 rfl (lv_at hl 3 rfl) ?_
  refine zget hC hd (e_kg hX3.kg) rfl i_KG 1 (by decide) q_81 (Or.inl rfl) (v := .ref (ad 8 0)) rfl d_KG_cancel_10 ?_
  refine lv_iload_n hx hb d_KG_cancel_13 rfl (lv_at hl 0 rfl) ?_
  refine zaaP (k := 3) hC hd (e_piles hX3.ps) (by omega) (by decide) rfl d_KG_cancel_14 ?_
  refine lv_astore_n (lv' := [(3, .ref (ad 6 3)), (2, .int 3), (1, .int (nI (((0 + xn Z 9 0) + xn Z 9 1) + xn Z 9 2))), (0, .ref (ad 0 0))]) hx hb d_KG_cancel_15 rfl hl (by decide) rfl (fun ls hl => ?_)
  have hs3 : xn (x_can3 Z) 9 3 = xn Z 9 3 := by unfold x_can3 x_can2 x_can1; rw [x_clr_xn _ _ _ _ _ (Or.inr (by decide)), x_clr_xn _ _ _ _ _ (Or.inr (by decide)), x_clr_xn _ _ _ _ _ (Or.inr (by decide))]
  have hpk3 : PileOk (x_can3 Z) 3 := (hcp 3 (by decide)).at hs3 (by unfold x_can3 x_can2 x_can1; rw [x_clr_xn _ _ _ _ _ (Or.inl (by decide)), x_clr_xn _ _ _ _ _ (Or.inl (by decide)), x_clr_xn _ _ _ _ _ (Or.inl (by decide))]) (fun j => by unfold x_can3 x_can2 x_can1; rw [x_clr_xc, x_clr_xc, x_clr_xc])
  refine lp_KG_cancel 3 (by decide) hC (xn Z 9 3) (x_can3 Z) (((0 + xn Z 9 0) + xn Z 9 1) + xn Z 9 2) ls H locs hs3 hX3 hpk3 hd (lv_sub hl [2, 1, 0, 3] rfl) (fun ls H locs hd hl => ?_)
  have hX4 : XS (x_can4 Z) := x_clr_XS 3 _ hX3
  have hd : Dy G ad ow (x_can4 Z) s H locs := hd
  have hl : lv_has ls 4 [(1, .int (nI ((((0 + xn Z 9 0) + xn Z 9 1) + xn Z 9 2) + xn Z 9 3))), (2, .int 3), (3, .ref (ad 6 3)), (0, .ref (ad 0 0))] := hl
  refine lv_iinc (v := 4) (lv' := [(2, .int 4), (1, .int (nI ((((0 + xn Z 9 0) + xn Z 9 1) + xn Z 9 2) + xn Z 9 3))), (3, .ref (ad 6 3)), (0, .ref (ad 0 0))]) hx hb d_KG_cancel_47 hl (k := 1) rfl (by decide) (by decide) rfl (fun ls hl => ?_)
  refine lv_goto (tgt := 4) hx hb d_KG_cancel_50 (by decide) ?_
  refine lv_iload_n hx hb d_KG_cancel_4 rfl (lv_at hl 0 rfl) ?_
  refine lv_iconst (v := 4) hx hb d_KG_cancel_5 (by decide) ?_
  refine lv_icmp_gt (tgt := 53) hx hb d_KG_cancel_6 (by decide) (fun c => absurd c (by decide)) (fun _ => ?_)
  refine lv_aload_n hx hb d_KG_cancel_9 rfl (lv_at hl 3 rfl) ?_
  refine zget hC hd (e_kg hX4.kg) rfl i_KG 1 (by decide) q_81 (Or.inl rfl) (v := .ref (ad 8 0)) rfl d_KG_cancel_10 ?_
  refine lv_iload_n hx hb d_KG_cancel_13 rfl (lv_at hl 0 rfl) ?_
  refine zaaP (k := 4) hC hd (e_piles hX4.ps) (by omega) (by decide) rfl d_KG_cancel_14 ?_
  refine lv_astore_n (lv' := [(3, .ref (ad 6 4)), (2, .int 4), (1, .int (nI ((((0 + xn Z 9 0) + xn Z 9 1) + xn Z 9 2) + xn Z 9 3))), (0, .ref (ad 0 0))]) hx hb d_KG_cancel_15 rfl hl (by decide) rfl (fun ls hl => ?_)
  have hs4 : xn (x_can4 Z) 9 4 = xn Z 9 4 := by unfold x_can4 x_can3 x_can2 x_can1; rw [x_clr_xn _ _ _ _ _ (Or.inr (by decide)), x_clr_xn _ _ _ _ _ (Or.inr (by decide)), x_clr_xn _ _ _ _ _ (Or.inr (by decide)), x_clr_xn _ _ _ _ _ (Or.inr (by decide))]
  have hpk4 : PileOk (x_can4 Z) 4 := (hcp 4 (by decide)).at hs4 (by unfold x_can4 x_can3 x_can2 x_can1; rw [x_clr_xn _ _ _ _ _ (Or.inl (by decide)), x_clr_xn _ _ _ _ _ (Or.inl (by decide)), x_clr_xn _ _ _ _ _ (Or.inl (by decide)), x_clr_xn _ _ _ _ _ (Or.inl (by decide))]) (fun j => by unfold x_can4 x_can3 x_can2 x_can1; rw [x_clr_xc, x_clr_xc, x_clr_xc, x_clr_xc])
  refine lp_KG_cancel 4 (by decide) hC (xn Z 9 4) (x_can4 Z) ((((0 + xn Z 9 0) + xn Z 9 1) + xn Z 9 2) + xn Z 9 3) ls H locs hs4 hX4 hpk4 hd (lv_sub hl [2, 1, 0, 3] rfl) (fun ls H locs hd hl => ?_)
  have hX5 : XS (x_cancel Z) := x_clr_XS 4 _ hX4
  have hd : Dy G ad ow (x_cancel Z) s H locs := hd
  have hl : lv_has ls 4 [(1, .int (nI (((((0 + xn Z 9 0) + xn Z 9 1) + xn Z 9 2) + xn Z 9 3) + xn Z 9 4))), (2, .int 4), (3, .ref (ad 6 4)), (0, .ref (ad 0 0))] := hl
  refine lv_iinc (v := 5) (lv' := [(2, .int 5), (1, .int (nI (((((0 + xn Z 9 0) + xn Z 9 1) + xn Z 9 2) + xn Z 9 3) + xn Z 9 4))), (3, .ref (ad 6 4)), (0, .ref (ad 0 0))]) hx hb d_KG_cancel_47 hl (k := 1) rfl (by decide) (by decide) rfl (fun ls hl => ?_)
  refine lv_goto (tgt := 4) hx hb d_KG_cancel_50 (by decide) ?_
  refine lv_iload_n hx hb d_KG_cancel_4 rfl (lv_at hl 0 rfl) ?_
  refine lv_iconst (v := 4) hx hb d_KG_cancel_5 (by decide) ?_
  refine lv_icmp_gt (tgt := 53) hx hb d_KG_cancel_6 (by decide) (fun _ => ?_) (fun c => absurd c (by decide))
  refine lv_iload_n hx hb d_KG_cancel_53 rfl (lv_at hl 1 rfl) ?_
  exact zfi hC hd hr hlk d_KG_cancel_54 rfl rfl
def x_raise (Z : Zt) : Zt := si (x_cancel Z) 14 0 (xi Z 14 0 + 1)
set_option maxHeartbeats 4000000 in
theorem c_KG_raise (l : Launch) (G : Gt) (ad : Nat → Nat → Nat) (ow : Nat → Nat × Nat) (Z : Zt) (hX : XS Z) (hcp : CancelPre Z) : Met l y_KG_raise w_KG_raise ({ frames := 2, cells := 0, slots := 0, locals := 43 }) (zPc G ad ow Z [.ref (ad 0 0)]) (Qd G ad ow (x_raise Z) (none)) 0 0 (zA G) := by
  refine zopen (cc := b_KG_raise) (maxL := 1) (ret := none) (by decide) rfl (Nat.le_of_ble_eq_true rfl) ?_
  intro p e s m below meth c ls hC hr hlk hnm hd hl
  have hC : Cx G p c m s _ "KeyGraph" b_KG_raise 1 := hC
  have hl : lv_has ls 1 [(0, .ref (ad 0 0))] := hl
  have hx := hC.1
  have hb := hC.2.1
  refine lv_aload_n hx hb d_KG_raise_0 rfl (lv_at hl 0 rfl) ?_
  refine zb_i (r := (nI (x_cancelN Z))) hd (zrunV (n := 0) (rest := []) hC hd (e_kg hX.kg) rfl (c_KG_cancel l G ad ow Z hX hcp) q_390 q_391 q_392 q_1 q_393 rfl rfl rfl (by decide +kernel) ⟨by decide, by decide⟩ rfl hl.1 (Nat.le_of_ble_eq_true rfl) d_KG_raise_1 ⟨by decide, by decide⟩) (fun H locs hd => ?_)
  have hXc := x_can_XS hX
  refine lv_pop hx hb d_KG_raise_4 rfl ?_
  refine lv_aload_n hx hb d_KG_raise_5 rfl (lv_at hl 0 rfl) ?_
  refine lv_dup hx hb d_KG_raise_6 rfl ?_
  refine zget hC hd (e_kg hXc.kg) rfl i_KG 3 (by decide) q_83 (Or.inl rfl) (v := .int (xi (x_cancel Z) 14 0)) rfl d_KG_raise_7 ?_
  refine lv_iconst (v := 1) hx hb d_KG_raise_10 (by decide) ?_
  refine lv_iadd hx hb d_KG_raise_11 ?_
  refine zput (Z' := (si (x_cancel Z) 14 0 ((xi (x_cancel Z) 14 0) + 1))) (v := .int ((xi (x_cancel Z) 14 0) + 1)) hC hd (e_kg hXc.kg) rfl i_KG t_KG t_KG_ok n_KG 3 (by decide) q_83 (Or.inl rfl) rfl rfl rfl (Nat.le_of_ble_eq_true rfl) (u_ver hXc.kg) d_KG_raise_12 (fun H locs hd => ?_)
  exact zfv hC hd hr hlk d_KG_raise_15 (by unfold x_raise; rw [x_can_xi Z 14 0 (by decide)])
set_option maxHeartbeats 4000000 in
theorem c_KG_version (l : Launch) (G : Gt) (ad : Nat → Nat → Nat) (ow : Nat → Nat × Nat) (Z : Zt) (hX : XS Z) : Met l y_KG_version w_KG_version ({ frames := 0, cells := 0, slots := 0, locals := 0 }) (zPc G ad ow Z [.ref (ad 0 0)]) (Qd G ad ow Z (some (.int (xi Z 14 0)))) 0 0 (zA G) := by
  refine zopen (cc := b_KG_version) (maxL := 1) (ret := (some FieldType.int)) (by decide) rfl (Nat.le_of_ble_eq_true rfl) ?_
  intro p e s m below meth c ls hC hr hlk hnm hd hl
  have hC : Cx G p c m s _ "KeyGraph" b_KG_version 1 := hC
  have hl : lv_has ls 1 [(0, .ref (ad 0 0))] := hl
  have hx := hC.1
  have hb := hC.2.1
  refine lv_aload_n hx hb d_KG_version_0 rfl (lv_at hl 0 rfl) ?_
  refine zget hC hd (e_kg hX.kg) rfl i_KG 3 (by decide) q_83 (Or.inl rfl) (v := .int (xi Z 14 0)) rfl d_KG_version_1 ?_
  exact zfi hC hd hr hlk d_KG_version_4 rfl rfl
def x_worked (Z : Zt) (k : Int32) : Int32 := if x_isKey Z k = 0 then 0 else xi Z 5 k.toNatClampNeg
def x_keptR (Z : Zt) (k : Int32) : Int32 := if x_isKey Z k = 0 then 0 else xi Z 6 k.toNatClampNeg
def x_changed (Z : Zt) (k : Int32) : Int32 := if x_isKey Z k = 0 then -1 else if xi Z 1 k.toNatClampNeg ≤ 0 then -1 else xi Z 2 k.toNatClampNeg
def x_state (Z : Zt) (k : Int32) : Int32 := if x_isKey Z k = 0 then 0 else if x_isSure Z k.toNatClampNeg = 0 then 0 else xi Z 1 k.toNatClampNeg
def x_asked (Z : Zt) (k i : Int32) : Int32 := if x_isFn Z k = 0 then -1 else if xi Z 1 k.toNatClampNeg = 0 then -1 else if i < 0 then -1 else if i < nI (xn Z 4 k.toNatClampNeg) then nI (xc Z 5 (xn Z 7 k.toNatClampNeg) i.toNatClampNeg) else -1
def x_ring (Z : Zt) (i : Int32) : Int32 := if i < 0 then -1 else if i < nI (xn Z 2 1) then nI (xc Z 4 1 i.toNatClampNeg - 1) else -1
def x_change (Z : Zt) (k : Int32) (v : Int64) : Zt × Int32 := if x_isKey Z k = 0 then (Z, -1) else if xn Z 1 k.toNatClampNeg = 6 then (if xl Z 1 k.toNatClampNeg = v then (Z, xi Z 14 0) else (si (sl (x_raise Z) 1 k.toNatClampNeg v) 2 k.toNatClampNeg (xi Z 14 0 + 1), xi Z 14 0 + 1)) else (Z, -1)
def x_spoil (Z : Zt) (k b : Int32) : Zt × Int32 := if x_isFn Z k = 0 then (Z, -1) else if xi Z 7 k.toNatClampNeg = b then (Z, xi Z 14 0) else (si (si (x_raise Z) 7 k.toNatClampNeg b) 4 k.toNatClampNeg (xi Z 14 0 + 1), xi Z 14 0 + 1)
def x_drop (Z : Zt) (k : Int32) : Zt × Int32 := if x_isFn Z k = 0 then (Z, 0) else if xi Z 1 k.toNatClampNeg = 0 then (Z, 0) else (si (x_cancel Z) 1 k.toNatClampNeg 0, 1)
def x_beginR (Z : Zt) (w k : Int32) : Zt × Int32 := if x_isWorker w = 0 then (Z, -1) else if x_isKey Z k = 0 then (Z, -1) else if xn Z 9 w.toNatClampNeg = 0 then (if x_isSure Z k.toNatClampNeg = 0 then (if xi Z 8 k.toNatClampNeg < 0 then (x_put Z w.toNatClampNeg k.toNatClampNeg, 1) else (Z, -2)) else (Z, 0)) else (Z, -1)
def x_step (Z : Zt) (w : Int32) : Zt × Int32 := if x_isWorker w = 0 then (Z, -1) else x_stepOf Z w.toNatClampNeg
theorem x_isFn_cases (Z : Zt) (hX : XS Z) (k : Int32) : x_isFn Z k = 0 ∨ ∃ j, j < xn Z 0 1 ∧ k = nI j ∧ x_isFn Z k = 1 ∧ ¬ xn Z 1 j = 6 := by
  have h40 := hX.k40
  have hkl := hX.kl
  rcases x_isKey_cases Z k (by omega) with h0 | ⟨j, hj, rfl, h0⟩
  · exact Or.inl (by unfold x_isFn; rw [if_pos h0])
  · have hcl : (nI j).toNatClampNeg = j := nI_clamp (by omega)
    by_cases h1 : xn Z 1 j = 6
    · exact Or.inl (by unfold x_isFn; rw [if_neg (by rw [h0]; decide), hcl, if_pos h1])
    · exact Or.inr ⟨j, by omega, rfl, by unfold x_isFn; rw [if_neg (by rw [h0]; decide), hcl, if_neg h1], h1⟩
theorem x_isWorker_cases (w : Int32) : x_isWorker w = 0 ∨ ∃ u, u < 4 ∧ w = nI u ∧ x_isWorker w = 1 := by
  unfold x_isWorker
  by_cases h1 : w < 0
  · exact Or.inl (if_pos h1)
  · by_cases h2 : 4 ≤ w
    · exact Or.inl (by rw [if_neg h1, if_pos h2])
    · obtain ⟨j, hj, rfl⟩ := nI_of h1
      exact Or.inr ⟨j, Nat.not_le.mp fun q => h2 (nI_le (a := 4) q hj), rfl, by rw [if_neg h1, if_neg h2]⟩

set_option maxHeartbeats 4000000 in
theorem c_KG_worked_no (l : Launch) (G : Gt) (ad : Nat → Nat → Nat) (ow : Nat → Nat × Nat) (Z : Zt) (hX : XS Z) (k : Int32) (h0 : x_isKey Z k = 0) : Met l y_KG_worked w_KG_worked ({ frames := 3, cells := 0, slots := 0, locals := 64 }) (zPc G ad ow Z [.ref (ad 0 0), .int k]) (Qd G ad ow Z (some (.int (x_worked Z k)))) 0 0 (zA G) := by
  refine zopen (cc := b_KG_worked) (maxL := 2) (ret := (some FieldType.int)) (by decide) rfl (Nat.le_of_ble_eq_true rfl) ?_
  intro p e s m below meth c ls hC hr hlk hnm hd hl
  have hC : Cx G p c m s _ "KeyGraph" b_KG_worked 2 := hC
  have hl : lv_has ls 2 [(0, .ref (ad 0 0)), (1, .int k)] := hl
  have hx := hC.1
  have hb := hC.2.1
  refine lv_aload_n hx hb d_KG_worked_0 rfl (lv_at hl 0 rfl) ?_
  refine lv_iload_n hx hb d_KG_worked_1 rfl (lv_at hl 1 rfl) ?_
  refine zb_i (r := 0) hd (zrunV (n := 1) (rest := []) hC hd (e_kg hX.kg) rfl (c_KG_isKey l G ad ow Z hX k 0 h0) q_348 q_350 qp_4 q_1 q_351 rfl rfl rfl (by decide +kernel) ⟨by decide, by decide⟩ rfl hl.1 (Nat.le_of_ble_eq_true rfl) d_KG_worked_2 ⟨by decide, by decide⟩) (fun H locs hd => ?_)
  refine lv_if_eq (tgt := 25) hx hb d_KG_worked_5 (by decide) (fun _ => ?_) (fun c => absurd c (by decide))
  refine lv_iconst (v := 0) hx hb d_KG_worked_25 (by decide) ?_
  exact zfi hC hd hr hlk d_KG_worked_26 (by unfold x_worked; (repeat (first | (rw [if_pos]; rotate_left; first | assumption | decide) | (rw [if_neg]; rotate_left; first | assumption | decide))) <;> (try rfl)) rfl
set_option maxHeartbeats 4000000 in
theorem c_KG_worked_yes (l : Launch) (G : Gt) (ad : Nat → Nat → Nat) (ow : Nat → Nat × Nat) (Z : Zt) (hX : XS Z) (k : Nat) (hk : k < xn Z 0 1) (h0 : x_isKey Z (nI k) = 1) : Met l y_KG_worked w_KG_worked ({ frames := 3, cells := 0, slots := 0, locals := 64 }) (zPc G ad ow Z [.ref (ad 0 0), .int (nI k)]) (Qd G ad ow Z (some (.int (x_worked Z (nI k))))) 0 0 (zA G) := by
  refine zopen (cc := b_KG_worked) (maxL := 2) (ret := (some FieldType.int)) (by decide) rfl (Nat.le_of_ble_eq_true rfl) ?_
  intro p e s m below meth c ls hC hr hlk hnm hd hl
  have hC : Cx G p c m s _ "KeyGraph" b_KG_worked 2 := hC
  have hl : lv_has ls 2 [(0, .ref (ad 0 0)), (1, .int (nI k))] := hl
  have hx := hC.1
  have hb := hC.2.1
  have h40 := hX.k40
  have hcl : (nI k).toNatClampNeg = k := nI_clamp (by omega)
  have h0n : ¬ x_isKey Z (nI k) = 0 := by rw [h0]; decide
  refine lv_aload_n hx hb d_KG_worked_0 rfl (lv_at hl 0 rfl) ?_
  refine lv_iload_n hx hb d_KG_worked_1 rfl (lv_at hl 1 rfl) ?_
  refine zb_i (r := 1) hd (zrunV (n := 1) (rest := []) hC hd (e_kg hX.kg) rfl (c_KG_isKey l G ad ow Z hX (nI k) 1 h0) q_348 q_350 qp_4 q_1 q_351 rfl rfl rfl (by decide +kernel) ⟨by decide, by decide⟩ rfl hl.1 (Nat.le_of_ble_eq_true rfl) d_KG_worked_2 ⟨by decide, by decide⟩) (fun H locs hd => ?_)
  refine lv_if_eq (tgt := 25) hx hb d_KG_worked_5 (by decide) (fun c => absurd c (by decide)) (fun _ => ?_)
  refine lv_aload_n hx hb d_KG_worked_8 rfl (lv_at hl 0 rfl) ?_
  refine zget hC hd (e_kg hX.kg) rfl i_KG 0 (by decide) q_80 (Or.inl rfl) (v := .ref (ad 3 0)) rfl d_KG_worked_9 ?_
  refine lv_iload_n hx hb d_KG_worked_12 rfl (lv_at hl 1 rfl) ?_
  refine zb_a (r := (ad 1 k)) hd (zrunV (n := 1) (rest := []) hC hd (e_list hX.l0) rfl (c_get l G ad ow Z hX 0 k k hX.l0 (show k < xn Z 2 0 by rw [hX.kl]; exact hk) (hX.ke hk)) q_352 q_353 q_354 q_4 q_355 rfl rfl rfl (by decide +kernel) ⟨by decide, by decide⟩ rfl hl.1 (Nat.le_of_ble_eq_true rfl) d_KG_worked_13 ⟨by decide, by decide⟩) (fun H locs hd => ?_)
  refine zcast hC hd (e_key hk) q_105 d_KG_worked_16 ?_
  refine zgetN hC hd (e_key hk) rfl i_Key 8 (by decide) z_125 (Or.inl rfl) (v := .int (xi Z 5 k)) rfl d_KG_worked_19 ?_
  refine lv_goto (tgt := 26) hx hb d_KG_worked_22 (by decide) ?_
  exact zfi hC hd hr hlk d_KG_worked_26 (by unfold x_worked; rw [hcl]; (repeat (first | (rw [if_pos]; rotate_left; first | assumption | decide) | (rw [if_neg]; rotate_left; first | assumption | decide))) <;> (try rfl)) rfl
theorem c_KG_worked (l : Launch) (G : Gt) (ad : Nat → Nat → Nat) (ow : Nat → Nat × Nat) (Z : Zt) (hX : XS Z) (k : Int32) : Met l y_KG_worked w_KG_worked ({ frames := 3, cells := 0, slots := 0, locals := 64 }) (zPc G ad ow Z [.ref (ad 0 0), .int k]) (Qd G ad ow Z (some (.int (x_worked Z k)))) 0 0 (zA G) := by
  have h40 := hX.k40
  have hkl := hX.kl
  rcases x_isKey_cases Z k (by omega) with h0 | ⟨j, hj, rfl, h0⟩
  · exact c_KG_worked_no l G ad ow Z hX  k  h0
  · exact c_KG_worked_yes l G ad ow Z hX  j  (by omega) h0
set_option maxHeartbeats 4000000 in
theorem c_KG_kept_no (l : Launch) (G : Gt) (ad : Nat → Nat → Nat) (ow : Nat → Nat × Nat) (Z : Zt) (hX : XS Z) (k : Int32) (h0 : x_isKey Z k = 0) : Met l y_KG_kept w_KG_kept ({ frames := 3, cells := 0, slots := 0, locals := 64 }) (zPc G ad ow Z [.ref (ad 0 0), .int k]) (Qd G ad ow Z (some (.int (x_keptR Z k)))) 0 0 (zA G) := by
  refine zopen (cc := b_KG_kept) (maxL := 2) (ret := (some FieldType.int)) (by decide) rfl (Nat.le_of_ble_eq_true rfl) ?_
  intro p e s m below meth c ls hC hr hlk hnm hd hl
  have hC : Cx G p c m s _ "KeyGraph" b_KG_kept 2 := hC
  have hl : lv_has ls 2 [(0, .ref (ad 0 0)), (1, .int k)] := hl
  have hx := hC.1
  have hb := hC.2.1
  refine lv_aload_n hx hb d_KG_kept_0 rfl (lv_at hl 0 rfl) ?_
  refine lv_iload_n hx hb d_KG_kept_1 rfl (lv_at hl 1 rfl) ?_
  refine zb_i (r := 0) hd (zrunV (n := 1) (rest := []) hC hd (e_kg hX.kg) rfl (c_KG_isKey l G ad ow Z hX k 0 h0) q_348 q_350 qp_4 q_1 q_351 rfl rfl rfl (by decide +kernel) ⟨by decide, by decide⟩ rfl hl.1 (Nat.le_of_ble_eq_true rfl) d_KG_kept_2 ⟨by decide, by decide⟩) (fun H locs hd => ?_)
  refine lv_if_eq (tgt := 25) hx hb d_KG_kept_5 (by decide) (fun _ => ?_) (fun c => absurd c (by decide))
  refine lv_iconst (v := 0) hx hb d_KG_kept_25 (by decide) ?_
  exact zfi hC hd hr hlk d_KG_kept_26 (by unfold x_keptR; (repeat (first | (rw [if_pos]; rotate_left; first | assumption | decide) | (rw [if_neg]; rotate_left; first | assumption | decide))) <;> (try rfl)) rfl
set_option maxHeartbeats 4000000 in
theorem c_KG_kept_yes (l : Launch) (G : Gt) (ad : Nat → Nat → Nat) (ow : Nat → Nat × Nat) (Z : Zt) (hX : XS Z) (k : Nat) (hk : k < xn Z 0 1) (h0 : x_isKey Z (nI k) = 1) : Met l y_KG_kept w_KG_kept ({ frames := 3, cells := 0, slots := 0, locals := 64 }) (zPc G ad ow Z [.ref (ad 0 0), .int (nI k)]) (Qd G ad ow Z (some (.int (x_keptR Z (nI k))))) 0 0 (zA G) := by
  refine zopen (cc := b_KG_kept) (maxL := 2) (ret := (some FieldType.int)) (by decide) rfl (Nat.le_of_ble_eq_true rfl) ?_
  intro p e s m below meth c ls hC hr hlk hnm hd hl
  have hC : Cx G p c m s _ "KeyGraph" b_KG_kept 2 := hC
  have hl : lv_has ls 2 [(0, .ref (ad 0 0)), (1, .int (nI k))] := hl
  have hx := hC.1
  have hb := hC.2.1
  have h40 := hX.k40
  have hcl : (nI k).toNatClampNeg = k := nI_clamp (by omega)
  have h0n : ¬ x_isKey Z (nI k) = 0 := by rw [h0]; decide
  refine lv_aload_n hx hb d_KG_kept_0 rfl (lv_at hl 0 rfl) ?_
  refine lv_iload_n hx hb d_KG_kept_1 rfl (lv_at hl 1 rfl) ?_
  refine zb_i (r := 1) hd (zrunV (n := 1) (rest := []) hC hd (e_kg hX.kg) rfl (c_KG_isKey l G ad ow Z hX (nI k) 1 h0) q_348 q_350 qp_4 q_1 q_351 rfl rfl rfl (by decide +kernel) ⟨by decide, by decide⟩ rfl hl.1 (Nat.le_of_ble_eq_true rfl) d_KG_kept_2 ⟨by decide, by decide⟩) (fun H locs hd => ?_)
  refine lv_if_eq (tgt := 25) hx hb d_KG_kept_5 (by decide) (fun c => absurd c (by decide)) (fun _ => ?_)
  refine lv_aload_n hx hb d_KG_kept_8 rfl (lv_at hl 0 rfl) ?_
  refine zget hC hd (e_kg hX.kg) rfl i_KG 0 (by decide) q_80 (Or.inl rfl) (v := .ref (ad 3 0)) rfl d_KG_kept_9 ?_
  refine lv_iload_n hx hb d_KG_kept_12 rfl (lv_at hl 1 rfl) ?_
  refine zb_a (r := (ad 1 k)) hd (zrunV (n := 1) (rest := []) hC hd (e_list hX.l0) rfl (c_get l G ad ow Z hX 0 k k hX.l0 (show k < xn Z 2 0 by rw [hX.kl]; exact hk) (hX.ke hk)) q_352 q_353 q_354 q_4 q_355 rfl rfl rfl (by decide +kernel) ⟨by decide, by decide⟩ rfl hl.1 (Nat.le_of_ble_eq_true rfl) d_KG_kept_13 ⟨by decide, by decide⟩) (fun H locs hd => ?_)
  refine zcast hC hd (e_key hk) q_105 d_KG_kept_16 ?_
  refine zgetN hC hd (e_key hk) rfl i_Key 9 (by decide) z_126 (Or.inl rfl) (v := .int (xi Z 6 k)) rfl d_KG_kept_19 ?_
  refine lv_goto (tgt := 26) hx hb d_KG_kept_22 (by decide) ?_
  exact zfi hC hd hr hlk d_KG_kept_26 (by unfold x_keptR; rw [hcl]; (repeat (first | (rw [if_pos]; rotate_left; first | assumption | decide) | (rw [if_neg]; rotate_left; first | assumption | decide))) <;> (try rfl)) rfl
theorem c_KG_kept (l : Launch) (G : Gt) (ad : Nat → Nat → Nat) (ow : Nat → Nat × Nat) (Z : Zt) (hX : XS Z) (k : Int32) : Met l y_KG_kept w_KG_kept ({ frames := 3, cells := 0, slots := 0, locals := 64 }) (zPc G ad ow Z [.ref (ad 0 0), .int k]) (Qd G ad ow Z (some (.int (x_keptR Z k)))) 0 0 (zA G) := by
  have h40 := hX.k40
  have hkl := hX.kl
  rcases x_isKey_cases Z k (by omega) with h0 | ⟨j, hj, rfl, h0⟩
  · exact c_KG_kept_no l G ad ow Z hX  k  h0
  · exact c_KG_kept_yes l G ad ow Z hX  j  (by omega) h0
set_option maxHeartbeats 4000000 in
theorem c_KG_changed_no (l : Launch) (G : Gt) (ad : Nat → Nat → Nat) (ow : Nat → Nat × Nat) (Z : Zt) (hX : XS Z) (k : Int32) (h0 : x_isKey Z k = 0) : Met l y_KG_changed w_KG_changed ({ frames := 3, cells := 0, slots := 0, locals := 64 }) (zPc G ad ow Z [.ref (ad 0 0), .int k]) (Qd G ad ow Z (some (.int (x_changed Z k)))) 0 0 (zA G) := by
  refine zopen (cc := b_KG_changed) (maxL := 2) (ret := (some FieldType.int)) (by decide) rfl (Nat.le_of_ble_eq_true rfl) ?_
  intro p e s m below meth c ls hC hr hlk hnm hd hl
  have hC : Cx G p c m s _ "KeyGraph" b_KG_changed 2 := hC
  have hl : lv_has ls 2 [(0, .ref (ad 0 0)), (1, .int k)] := hl
  have hx := hC.1
  have hb := hC.2.1
  refine lv_aload_n hx hb d_KG_changed_0 rfl (lv_at hl 0 rfl) ?_
  refine lv_iload_n hx hb d_KG_changed_1 rfl (lv_at hl 1 rfl) ?_
  refine zb_i (r := 0) hd (zrunV (n := 1) (rest := []) hC hd (e_kg hX.kg) rfl (c_KG_isKey l G ad ow Z hX k 0 h0) q_348 q_350 qp_4 q_1 q_351 rfl rfl rfl (by decide +kernel) ⟨by decide, by decide⟩ rfl hl.1 (Nat.le_of_ble_eq_true rfl) d_KG_changed_2 ⟨by decide, by decide⟩) (fun H locs hd => ?_)
  refine lv_if_eq (tgt := 42) hx hb d_KG_changed_5 (by decide) (fun _ => ?_) (fun c => absurd c (by decide))
  refine lv_iconst (v := (-1)) hx hb d_KG_changed_42 (by decide) ?_
  exact zfi hC hd hr hlk d_KG_changed_43 (by unfold x_changed; (repeat (first | (rw [if_pos]; rotate_left; first | assumption | decide) | (rw [if_neg]; rotate_left; first | assumption | decide))) <;> (try rfl)) rfl
set_option maxHeartbeats 4000000 in
theorem c_KG_changed_yes (l : Launch) (G : Gt) (ad : Nat → Nat → Nat) (ow : Nat → Nat × Nat) (Z : Zt) (hX : XS Z) (k : Nat) (hk : k < xn Z 0 1) (h0 : x_isKey Z (nI k) = 1) : Met l y_KG_changed w_KG_changed ({ frames := 3, cells := 0, slots := 0, locals := 64 }) (zPc G ad ow Z [.ref (ad 0 0), .int (nI k)]) (Qd G ad ow Z (some (.int (x_changed Z (nI k))))) 0 0 (zA G) := by
  refine zopen (cc := b_KG_changed) (maxL := 2) (ret := (some FieldType.int)) (by decide) rfl (Nat.le_of_ble_eq_true rfl) ?_
  intro p e s m below meth c ls hC hr hlk hnm hd hl
  have hC : Cx G p c m s _ "KeyGraph" b_KG_changed 2 := hC
  have hl : lv_has ls 2 [(0, .ref (ad 0 0)), (1, .int (nI k))] := hl
  have hx := hC.1
  have hb := hC.2.1
  have h40 := hX.k40
  have hcl : (nI k).toNatClampNeg = k := nI_clamp (by omega)
  have h0n : ¬ x_isKey Z (nI k) = 0 := by rw [h0]; decide
  refine lv_aload_n hx hb d_KG_changed_0 rfl (lv_at hl 0 rfl) ?_
  refine lv_iload_n hx hb d_KG_changed_1 rfl (lv_at hl 1 rfl) ?_
  refine zb_i (r := 1) hd (zrunV (n := 1) (rest := []) hC hd (e_kg hX.kg) rfl (c_KG_isKey l G ad ow Z hX (nI k) 1 h0) q_348 q_350 qp_4 q_1 q_351 rfl rfl rfl (by decide +kernel) ⟨by decide, by decide⟩ rfl hl.1 (Nat.le_of_ble_eq_true rfl) d_KG_changed_2 ⟨by decide, by decide⟩) (fun H locs hd => ?_)
  refine lv_if_eq (tgt := 42) hx hb d_KG_changed_5 (by decide) (fun c => absurd c (by decide)) (fun _ => ?_)
  refine lv_aload_n hx hb d_KG_changed_8 rfl (lv_at hl 0 rfl) ?_
  refine zget hC hd (e_kg hX.kg) rfl i_KG 0 (by decide) q_80 (Or.inl rfl) (v := .ref (ad 3 0)) rfl d_KG_changed_9 ?_
  refine lv_iload_n hx hb d_KG_changed_12 rfl (lv_at hl 1 rfl) ?_
  refine zb_a (r := (ad 1 k)) hd (zrunV (n := 1) (rest := []) hC hd (e_list hX.l0) rfl (c_get l G ad ow Z hX 0 k k hX.l0 (show k < xn Z 2 0 by rw [hX.kl]; exact hk) (hX.ke hk)) q_352 q_353 q_354 q_4 q_355 rfl rfl rfl (by decide +kernel) ⟨by decide, by decide⟩ rfl hl.1 (Nat.le_of_ble_eq_true rfl) d_KG_changed_13 ⟨by decide, by decide⟩) (fun H locs hd => ?_)
  refine zcast hC hd (e_key hk) q_105 d_KG_changed_16 ?_
  refine zgetN hC hd (e_key hk) rfl i_Key 3 (by decide) z_119 (Or.inl rfl) (v := .int (xi Z 1 k)) rfl d_KG_changed_19 ?_
  refine lv_if_le (tgt := 42) hx hb d_KG_changed_22 (by decide) (fun c22 => ?_) (fun c22 => ?_)
  · refine lv_iconst (v := (-1)) hx hb d_KG_changed_42 (by decide) ?_
    exact zfi hC hd hr hlk d_KG_changed_43 (by unfold x_changed; rw [hcl]; (repeat (first | (rw [if_pos]; rotate_left; first | assumption | decide) | (rw [if_neg]; rotate_left; first | assumption | decide))) <;> (try rfl)) rfl
  · refine lv_aload_n hx hb d_KG_changed_25 rfl (lv_at hl 0 rfl) ?_
    refine zget hC hd (e_kg hX.kg) rfl i_KG 0 (by decide) q_80 (Or.inl rfl) (v := .ref (ad 3 0)) rfl d_KG_changed_26 ?_
    refine lv_iload_n hx hb d_KG_changed_29 rfl (lv_at hl 1 rfl) ?_
    refine zb_a (r := (ad 1 k)) hd (zrunV (n := 1) (rest := []) hC hd (e_list hX.l0) rfl (c_get l G ad ow Z hX 0 k k hX.l0 (show k < xn Z 2 0 by rw [hX.kl]; exact hk) (hX.ke hk)) q_352 q_353 q_354 q_4 q_355 rfl rfl rfl (by decide +kernel) ⟨by decide, by decide⟩ rfl hl.1 (Nat.le_of_ble_eq_true rfl) d_KG_changed_30 ⟨by decide, by decide⟩) (fun H locs hd => ?_)
    refine zcast hC hd (e_key hk) q_105 d_KG_changed_33 ?_
    refine zgetN hC hd (e_key hk) rfl i_Key 5 (by decide) z_121 (Or.inl rfl) (v := .int (xi Z 2 k)) rfl d_KG_changed_36 ?_
    refine lv_goto (tgt := 43) hx hb d_KG_changed_39 (by decide) ?_
    exact zfi hC hd hr hlk d_KG_changed_43 (by unfold x_changed; rw [hcl]; (repeat (first | (rw [if_pos]; rotate_left; first | assumption | decide) | (rw [if_neg]; rotate_left; first | assumption | decide))) <;> (try rfl)) rfl
theorem c_KG_changed (l : Launch) (G : Gt) (ad : Nat → Nat → Nat) (ow : Nat → Nat × Nat) (Z : Zt) (hX : XS Z) (k : Int32) : Met l y_KG_changed w_KG_changed ({ frames := 3, cells := 0, slots := 0, locals := 64 }) (zPc G ad ow Z [.ref (ad 0 0), .int k]) (Qd G ad ow Z (some (.int (x_changed Z k)))) 0 0 (zA G) := by
  have h40 := hX.k40
  have hkl := hX.kl
  rcases x_isKey_cases Z k (by omega) with h0 | ⟨j, hj, rfl, h0⟩
  · exact c_KG_changed_no l G ad ow Z hX  k  h0
  · exact c_KG_changed_yes l G ad ow Z hX  j  (by omega) h0
set_option maxHeartbeats 4000000 in
theorem c_KG_state_no (l : Launch) (G : Gt) (ad : Nat → Nat → Nat) (ow : Nat → Nat × Nat) (Z : Zt) (hX : XS Z) (k : Int32) (h0 : x_isKey Z k = 0) : Met l y_KG_state w_KG_state ({ frames := 3, cells := 0, slots := 0, locals := 64 }) (zPc G ad ow Z [.ref (ad 0 0), .int k]) (Qd G ad ow Z (some (.int (x_state Z k)))) 0 0 (zA G) := by
  refine zopen (cc := b_KG_state) (maxL := 2) (ret := (some FieldType.int)) (by decide) rfl (Nat.le_of_ble_eq_true rfl) ?_
  intro p e s m below meth c ls hC hr hlk hnm hd hl
  have hC : Cx G p c m s _ "KeyGraph" b_KG_state 2 := hC
  have hl : lv_has ls 2 [(0, .ref (ad 0 0)), (1, .int k)] := hl
  have hx := hC.1
  have hb := hC.2.1
  refine lv_aload_n hx hb d_KG_state_0 rfl (lv_at hl 0 rfl) ?_
  refine lv_iload_n hx hb d_KG_state_1 rfl (lv_at hl 1 rfl) ?_
  refine zb_i (r := 0) hd (zrunV (n := 1) (rest := []) hC hd (e_kg hX.kg) rfl (c_KG_isKey l G ad ow Z hX k 0 h0) q_348 q_350 qp_4 q_1 q_351 rfl rfl rfl (by decide +kernel) ⟨by decide, by decide⟩ rfl hl.1 (Nat.le_of_ble_eq_true rfl) d_KG_state_2 ⟨by decide, by decide⟩) (fun H locs hd => ?_)
  refine lv_if_eq (tgt := 43) hx hb d_KG_state_5 (by decide) (fun _ => ?_) (fun c => absurd c (by decide))
  refine lv_iconst (v := 0) hx hb d_KG_state_43 (by decide) ?_
  exact zfi hC hd hr hlk d_KG_state_44 (by unfold x_state; (repeat (first | (rw [if_pos]; rotate_left; first | assumption | decide) | (rw [if_neg]; rotate_left; first | assumption | decide))) <;> (try rfl)) rfl
set_option maxHeartbeats 4000000 in
theorem c_KG_state_yes (l : Launch) (G : Gt) (ad : Nat → Nat → Nat) (ow : Nat → Nat × Nat) (Z : Zt) (hX : XS Z) (k : Nat) (hk : k < xn Z 0 1) (h0 : x_isKey Z (nI k) = 1) : Met l y_KG_state w_KG_state ({ frames := 3, cells := 0, slots := 0, locals := 64 }) (zPc G ad ow Z [.ref (ad 0 0), .int (nI k)]) (Qd G ad ow Z (some (.int (x_state Z (nI k))))) 0 0 (zA G) := by
  refine zopen (cc := b_KG_state) (maxL := 2) (ret := (some FieldType.int)) (by decide) rfl (Nat.le_of_ble_eq_true rfl) ?_
  intro p e s m below meth c ls hC hr hlk hnm hd hl
  have hC : Cx G p c m s _ "KeyGraph" b_KG_state 2 := hC
  have hl : lv_has ls 2 [(0, .ref (ad 0 0)), (1, .int (nI k))] := hl
  have hx := hC.1
  have hb := hC.2.1
  have h40 := hX.k40
  have hcl : (nI k).toNatClampNeg = k := nI_clamp (by omega)
  have h0n : ¬ x_isKey Z (nI k) = 0 := by rw [h0]; decide
  refine lv_aload_n hx hb d_KG_state_0 rfl (lv_at hl 0 rfl) ?_
  refine lv_iload_n hx hb d_KG_state_1 rfl (lv_at hl 1 rfl) ?_
  refine zb_i (r := 1) hd (zrunV (n := 1) (rest := []) hC hd (e_kg hX.kg) rfl (c_KG_isKey l G ad ow Z hX (nI k) 1 h0) q_348 q_350 qp_4 q_1 q_351 rfl rfl rfl (by decide +kernel) ⟨by decide, by decide⟩ rfl hl.1 (Nat.le_of_ble_eq_true rfl) d_KG_state_2 ⟨by decide, by decide⟩) (fun H locs hd => ?_)
  refine lv_if_eq (tgt := 43) hx hb d_KG_state_5 (by decide) (fun c => absurd c (by decide)) (fun _ => ?_)
  refine lv_aload_n hx hb d_KG_state_8 rfl (lv_at hl 0 rfl) ?_
  refine lv_aload_n hx hb d_KG_state_9 rfl (lv_at hl 0 rfl) ?_
  refine zget hC hd (e_kg hX.kg) rfl i_KG 0 (by decide) q_80 (Or.inl rfl) (v := .ref (ad 3 0)) rfl d_KG_state_10 ?_
  refine lv_iload_n hx hb d_KG_state_13 rfl (lv_at hl 1 rfl) ?_
  refine zb_a (r := (ad 1 k)) hd (zrunV (n := 1) (rest := [.ref (ad 0 0)]) hC hd (e_list hX.l0) rfl (c_get l G ad ow Z hX 0 k k hX.l0 (show k < xn Z 2 0 by rw [hX.kl]; exact hk) (hX.ke hk)) q_352 q_353 q_354 q_4 q_355 rfl rfl rfl (by decide +kernel) ⟨by decide, by decide⟩ rfl hl.1 (Nat.le_of_ble_eq_true rfl) d_KG_state_14 ⟨by decide, by decide⟩) (fun H locs hd => ?_)
  refine zcast hC hd (e_key hk) q_105 d_KG_state_17 ?_
  refine zb_i (r := (x_isSure Z k)) hd (zrunV (n := 1) (rest := []) hC hd (e_kg hX.kg) rfl (c_KG_isSure l G ad ow Z hX k (x_isSure Z k) hk rfl) q_421 q_423 qp_9 q_1 q_424 rfl rfl rfl (by decide +kernel) ⟨by decide, by decide⟩ rfl hl.1 (Nat.le_of_ble_eq_true rfl) d_KG_state_20 ⟨by decide, by decide⟩) (fun H locs hd => ?_)
  refine lv_if_eq (tgt := 43) hx hb d_KG_state_23 (by decide) (fun c23 => ?_) (fun c23 => ?_)
  · refine lv_iconst (v := 0) hx hb d_KG_state_43 (by decide) ?_
    exact zfi hC hd hr hlk d_KG_state_44 (by unfold x_state; rw [hcl]; (repeat (first | (rw [if_pos]; rotate_left; first | assumption | decide) | (rw [if_neg]; rotate_left; first | assumption | decide))) <;> (try rfl)) rfl
  · refine lv_aload_n hx hb d_KG_state_26 rfl (lv_at hl 0 rfl) ?_
    refine zget hC hd (e_kg hX.kg) rfl i_KG 0 (by decide) q_80 (Or.inl rfl) (v := .ref (ad 3 0)) rfl d_KG_state_27 ?_
    refine lv_iload_n hx hb d_KG_state_30 rfl (lv_at hl 1 rfl) ?_
    refine zb_a (r := (ad 1 k)) hd (zrunV (n := 1) (rest := []) hC hd (e_list hX.l0) rfl (c_get l G ad ow Z hX 0 k k hX.l0 (show k < xn Z 2 0 by rw [hX.kl]; exact hk) (hX.ke hk)) q_352 q_353 q_354 q_4 q_355 rfl rfl rfl (by decide +kernel) ⟨by decide, by decide⟩ rfl hl.1 (Nat.le_of_ble_eq_true rfl) d_KG_state_31 ⟨by decide, by decide⟩) (fun H locs hd => ?_)
    refine zcast hC hd (e_key hk) q_105 d_KG_state_34 ?_
    refine zgetN hC hd (e_key hk) rfl i_Key 3 (by decide) z_119 (Or.inl rfl) (v := .int (xi Z 1 k)) rfl d_KG_state_37 ?_
    refine lv_goto (tgt := 44) hx hb d_KG_state_40 (by decide) ?_
    exact zfi hC hd hr hlk d_KG_state_44 (by unfold x_state; rw [hcl]; (repeat (first | (rw [if_pos]; rotate_left; first | assumption | decide) | (rw [if_neg]; rotate_left; first | assumption | decide))) <;> (try rfl)) rfl
theorem c_KG_state (l : Launch) (G : Gt) (ad : Nat → Nat → Nat) (ow : Nat → Nat × Nat) (Z : Zt) (hX : XS Z) (k : Int32) : Met l y_KG_state w_KG_state ({ frames := 3, cells := 0, slots := 0, locals := 64 }) (zPc G ad ow Z [.ref (ad 0 0), .int k]) (Qd G ad ow Z (some (.int (x_state Z k)))) 0 0 (zA G) := by
  have h40 := hX.k40
  have hkl := hX.kl
  rcases x_isKey_cases Z k (by omega) with h0 | ⟨j, hj, rfl, h0⟩
  · exact c_KG_state_no l G ad ow Z hX  k  h0
  · exact c_KG_state_yes l G ad ow Z hX  j  (by omega) h0
set_option maxHeartbeats 4000000 in
theorem c_KG_asked_no (l : Launch) (G : Gt) (ad : Nat → Nat → Nat) (ow : Nat → Nat × Nat) (Z : Zt) (hX : XS Z) (hac : ∀ q, xn Z 4 q ≤ 8) (k : Int32) (i : Int32) (h0 : x_isFn Z k = 0) : Met l y_KG_asked w_KG_asked ({ frames := 4, cells := 0, slots := 0, locals := 85 }) (zPc G ad ow Z [.ref (ad 0 0), .int k, .int i]) (Qd G ad ow Z (some (.int (x_asked Z k i)))) 0 0 (zA G) := by
  refine zopen (cc := b_KG_asked) (maxL := 3) (ret := (some FieldType.int)) (by decide) rfl (Nat.le_of_ble_eq_true rfl) ?_
  intro p e s m below meth c ls hC hr hlk hnm hd hl
  have hC : Cx G p c m s _ "KeyGraph" b_KG_asked 3 := hC
  have hl : lv_has ls 3 [(0, .ref (ad 0 0)), (1, .int k), (2, .int i)] := hl
  have hx := hC.1
  have hb := hC.2.1
  refine lv_aload_n hx hb d_KG_asked_0 rfl (lv_at hl 0 rfl) ?_
  refine lv_iload_n hx hb d_KG_asked_1 rfl (lv_at hl 1 rfl) ?_
  refine zb_i (r := 0) hd (zrunV (n := 1) (rest := []) hC hd (e_kg hX.kg) rfl (c_KG_isFunction l G ad ow Z hX k 0 h0) q_344 q_346 qp_3 q_1 q_347 rfl rfl rfl (by decide +kernel) ⟨by decide, by decide⟩ rfl hl.1 (Nat.le_of_ble_eq_true rfl) d_KG_asked_2 ⟨by decide, by decide⟩) (fun H locs hd => ?_)
  refine lv_if_eq (tgt := 47) hx hb d_KG_asked_5 (by decide) (fun _ => ?_) (fun c => absurd c (by decide))
  refine lv_iconst (v := (-1)) hx hb d_KG_asked_47 (by decide) ?_
  refine lv_goto (tgt := 67) hx hb d_KG_asked_48 (by decide) ?_
  exact zfi hC hd hr hlk d_KG_asked_67 (by unfold x_asked; (repeat (first | (rw [if_pos]; rotate_left; first | assumption | decide) | (rw [if_neg]; rotate_left; first | assumption | decide))) <;> (try rfl)) rfl
set_option maxHeartbeats 4000000 in
theorem c_KG_asked_yes (l : Launch) (G : Gt) (ad : Nat → Nat → Nat) (ow : Nat → Nat × Nat) (Z : Zt) (hX : XS Z) (hac : ∀ q, xn Z 4 q ≤ 8) (k : Nat) (i : Int32) (hk : k < xn Z 0 1) (h0 : x_isFn Z (nI k) = 1) : Met l y_KG_asked w_KG_asked ({ frames := 4, cells := 0, slots := 0, locals := 85 }) (zPc G ad ow Z [.ref (ad 0 0), .int (nI k), .int i]) (Qd G ad ow Z (some (.int (x_asked Z (nI k) i)))) 0 0 (zA G) := by
  refine zopen (cc := b_KG_asked) (maxL := 3) (ret := (some FieldType.int)) (by decide) rfl (Nat.le_of_ble_eq_true rfl) ?_
  intro p e s m below meth c ls hC hr hlk hnm hd hl
  have hC : Cx G p c m s _ "KeyGraph" b_KG_asked 3 := hC
  have hl : lv_has ls 3 [(0, .ref (ad 0 0)), (1, .int (nI k)), (2, .int i)] := hl
  have hx := hC.1
  have hb := hC.2.1
  have h40 := hX.k40
  have hcl : (nI k).toNatClampNeg = k := nI_clamp (by omega)
  have h0n : ¬ x_isFn Z (nI k) = 0 := by rw [h0]; decide
  have h8 := hac k
  refine lv_aload_n hx hb d_KG_asked_0 rfl (lv_at hl 0 rfl) ?_
  refine lv_iload_n hx hb d_KG_asked_1 rfl (lv_at hl 1 rfl) ?_
  refine zb_i (r := 1) hd (zrunV (n := 1) (rest := []) hC hd (e_kg hX.kg) rfl (c_KG_isFunction l G ad ow Z hX (nI k) 1 h0) q_344 q_346 qp_3 q_1 q_347 rfl rfl rfl (by decide +kernel) ⟨by decide, by decide⟩ rfl hl.1 (Nat.le_of_ble_eq_true rfl) d_KG_asked_2 ⟨by decide, by decide⟩) (fun H locs hd => ?_)
  refine lv_if_eq (tgt := 47) hx hb d_KG_asked_5 (by decide) (fun c => absurd c (by decide)) (fun _ => ?_)
  refine lv_aload_n hx hb d_KG_asked_8 rfl (lv_at hl 0 rfl) ?_
  refine zget hC hd (e_kg hX.kg) rfl i_KG 0 (by decide) q_80 (Or.inl rfl) (v := .ref (ad 3 0)) rfl d_KG_asked_9 ?_
  refine lv_iload_n hx hb d_KG_asked_12 rfl (lv_at hl 1 rfl) ?_
  refine zb_a (r := (ad 1 k)) hd (zrunV (n := 1) (rest := []) hC hd (e_list hX.l0) rfl (c_get l G ad ow Z hX 0 k k hX.l0 (show k < xn Z 2 0 by rw [hX.kl]; exact hk) (hX.ke hk)) q_352 q_353 q_354 q_4 q_355 rfl rfl rfl (by decide +kernel) ⟨by decide, by decide⟩ rfl hl.1 (Nat.le_of_ble_eq_true rfl) d_KG_asked_13 ⟨by decide, by decide⟩) (fun H locs hd => ?_)
  refine zcast hC hd (e_key hk) q_105 d_KG_asked_16 ?_
  refine zgetN hC hd (e_key hk) rfl i_Key 3 (by decide) z_119 (Or.inl rfl) (v := .int (xi Z 1 k)) rfl d_KG_asked_19 ?_
  refine lv_if_eq (tgt := 47) hx hb d_KG_asked_22 (by decide) (fun c22 => ?_) (fun c22 => ?_)
  · refine lv_iconst (v := (-1)) hx hb d_KG_asked_47 (by decide) ?_
    refine lv_goto (tgt := 67) hx hb d_KG_asked_48 (by decide) ?_
    exact zfi hC hd hr hlk d_KG_asked_67 (by unfold x_asked; rw [hcl]; (repeat (first | (rw [if_pos]; rotate_left; first | assumption | decide) | (rw [if_neg]; rotate_left; first | assumption | decide))) <;> (try rfl)) rfl
  · refine lv_iload_n hx hb d_KG_asked_25 rfl (lv_at hl 2 rfl) ?_
    refine lv_if_lt (tgt := 47) hx hb d_KG_asked_26 (by decide) (fun c26 => ?_) (fun c26 => ?_)
    · refine lv_iconst (v := (-1)) hx hb d_KG_asked_47 (by decide) ?_
      refine lv_goto (tgt := 67) hx hb d_KG_asked_48 (by decide) ?_
      exact zfi hC hd hr hlk d_KG_asked_67 (by unfold x_asked; rw [hcl]; (repeat (first | (rw [if_pos]; rotate_left; first | assumption | decide) | (rw [if_neg]; rotate_left; first | assumption | decide))) <;> (try rfl)) rfl
    · obtain ⟨i1, hi1, rfl⟩ := nI_of c26
      have hci : (nI i1).toNatClampNeg = i1 := nI_clamp hi1
      refine lv_iload_n hx hb d_KG_asked_29 rfl (lv_at hl 2 rfl) ?_
      refine lv_aload_n hx hb d_KG_asked_30 rfl (lv_at hl 0 rfl) ?_
      refine zget hC hd (e_kg hX.kg) rfl i_KG 0 (by decide) q_80 (Or.inl rfl) (v := .ref (ad 3 0)) rfl d_KG_asked_31 ?_
      refine lv_iload_n hx hb d_KG_asked_34 rfl (lv_at hl 1 rfl) ?_
      refine zb_a (r := (ad 1 k)) hd (zrunV (n := 1) (rest := [.int (nI i1)]) hC hd (e_list hX.l0) rfl (c_get l G ad ow Z hX 0 k k hX.l0 (show k < xn Z 2 0 by rw [hX.kl]; exact hk) (hX.ke hk)) q_352 q_353 q_354 q_4 q_355 rfl rfl rfl (by decide +kernel) ⟨by decide, by decide⟩ rfl hl.1 (Nat.le_of_ble_eq_true rfl) d_KG_asked_35 ⟨by decide, by decide⟩) (fun H locs hd => ?_)
      refine zcast hC hd (e_key hk) q_105 d_KG_asked_38 ?_
      refine zgetN hC hd (e_key hk) rfl i_Key 13 (by decide) z_132 (Or.inl rfl) (v := .int (nI (xn Z 4 k))) rfl d_KG_asked_41 ?_
      refine zc_lt (x := i1) (y := xn Z 4 k) (tgt := 51) (by omega) (by omega) hx hb d_KG_asked_44 (by decide) (fun c44 => ?_) (fun c44 => ?_)
      · have c44' := Nat.not_le.mpr c44
        have c44b :  nI i1 < nI (xn Z 4 k) := nI_lt c44 (by omega)
        refine lv_aload_n hx hb d_KG_asked_51 rfl (lv_at hl 0 rfl) ?_
        refine zget hC hd (e_kg hX.kg) rfl i_KG 0 (by decide) q_80 (Or.inl rfl) (v := .ref (ad 3 0)) rfl d_KG_asked_52 ?_
        refine lv_iload_n hx hb d_KG_asked_55 rfl (lv_at hl 1 rfl) ?_
        refine zb_a (r := (ad 1 k)) hd (zrunV (n := 1) (rest := []) hC hd (e_list hX.l0) rfl (c_get l G ad ow Z hX 0 k k hX.l0 (show k < xn Z 2 0 by rw [hX.kl]; exact hk) (hX.ke hk)) q_352 q_353 q_354 q_4 q_355 rfl rfl rfl (by decide +kernel) ⟨by decide, by decide⟩ rfl hl.1 (Nat.le_of_ble_eq_true rfl) d_KG_asked_56 ⟨by decide, by decide⟩) (fun H locs hd => ?_)
        refine zcast hC hd (e_key hk) q_105 d_KG_asked_59 ?_
        refine zgetN hC hd (e_key hk) rfl i_Key 11 (by decide) z_129 (Or.inl rfl) (v := .ref (ad 5 (xn Z 7 k))) rfl d_KG_asked_62 ?_
        refine lv_iload_n hx hb d_KG_asked_65 rfl (lv_at hl 2 rfl) ?_
        refine ziaN (k := i1) (f := fun j => xc Z 5 (xn Z 7 k) j) hC hd (e_arr (hX.ar (hX.2.2.2.2.2 _ hk).1)) (by omega) (by decide) d_KG_asked_66 ?_
        exact zfi hC hd hr hlk d_KG_asked_67 (by unfold x_asked; rw [hcl, hci]; (repeat (first | (rw [if_pos]; rotate_left; first | assumption | decide) | (rw [if_neg]; rotate_left; first | assumption | decide))) <;> (try rfl)) rfl
      · have c44' := Nat.not_lt.mpr c44
        have c44b : ¬ nI i1 < nI (xn Z 4 k) := fun q => absurd ((nI_ltI (by omega) (by omega)).mp q) (by omega)
        refine lv_iconst (v := (-1)) hx hb d_KG_asked_47 (by decide) ?_
        refine lv_goto (tgt := 67) hx hb d_KG_asked_48 (by decide) ?_
        exact zfi hC hd hr hlk d_KG_asked_67 (by unfold x_asked; rw [hcl, hci]; (repeat (first | (rw [if_pos]; rotate_left; first | assumption | decide) | (rw [if_neg]; rotate_left; first | assumption | decide))) <;> (try rfl)) rfl
theorem c_KG_asked (l : Launch) (G : Gt) (ad : Nat → Nat → Nat) (ow : Nat → Nat × Nat) (Z : Zt) (hX : XS Z) (hac : ∀ q, xn Z 4 q ≤ 8) (k : Int32) (i : Int32) : Met l y_KG_asked w_KG_asked ({ frames := 4, cells := 0, slots := 0, locals := 85 }) (zPc G ad ow Z [.ref (ad 0 0), .int k, .int i]) (Qd G ad ow Z (some (.int (x_asked Z k i)))) 0 0 (zA G) := by
  rcases x_isFn_cases Z hX k with h0 | ⟨j, hj, rfl, h0, -⟩
  · exact c_KG_asked_no l G ad ow Z hX hac k i h0
  · exact c_KG_asked_yes l G ad ow Z hX hac j i hj h0
set_option maxHeartbeats 4000000 in
theorem c_KG_drop_no (l : Launch) (G : Gt) (ad : Nat → Nat → Nat) (ow : Nat → Nat × Nat) (Z : Zt) (hX : XS Z) (hcp : CancelPre Z) (k : Int32) (h0 : x_isFn Z k = 0) : Met l y_KG_drop w_KG_drop ({ frames := 4, cells := 0, slots := 0, locals := 85 }) (zPc G ad ow Z [.ref (ad 0 0), .int k]) (Qd G ad ow ((x_drop Z k).1) (some (.int ((x_drop Z k).2)))) 0 0 (zA G) := by
  refine zopen (cc := b_KG_drop) (maxL := 2) (ret := (some FieldType.boolean)) (by decide) rfl (Nat.le_of_ble_eq_true rfl) ?_
  intro p e s m below meth c ls hC hr hlk hnm hd hl
  have hC : Cx G p c m s _ "KeyGraph" b_KG_drop 2 := hC
  have hl : lv_has ls 2 [(0, .ref (ad 0 0)), (1, .int k)] := hl
  have hx := hC.1
  have hb := hC.2.1
  refine lv_aload_n hx hb d_KG_drop_0 rfl (lv_at hl 0 rfl) ?_
  refine lv_iload_n hx hb d_KG_drop_1 rfl (lv_at hl 1 rfl) ?_
  refine zb_i (r := 0) hd (zrunV (n := 1) (rest := []) hC hd (e_kg hX.kg) rfl (c_KG_isFunction l G ad ow Z hX k 0 h0) q_344 q_346 qp_3 q_1 q_347 rfl rfl rfl (by decide +kernel) ⟨by decide, by decide⟩ rfl hl.1 (Nat.le_of_ble_eq_true rfl) d_KG_drop_2 ⟨by decide, by decide⟩) (fun H locs hd => ?_)
  refine lv_if_eq (tgt := 25) hx hb d_KG_drop_5 (by decide) (fun _ => ?_) (fun c => absurd c (by decide))
  refine lv_iconst (v := 0) hx hb d_KG_drop_25 (by decide) ?_
  exact zfz hC hd hr hlk d_KG_drop_26 (by decide) (by unfold x_drop; (repeat (first | (rw [if_pos]; rotate_left; first | assumption | decide) | (rw [if_neg]; rotate_left; first | assumption | decide))) <;> (try rfl)) (by unfold x_drop; (repeat (first | (rw [if_pos]; rotate_left; first | assumption | decide) | (rw [if_neg]; rotate_left; first | assumption | decide))) <;> (try rfl))
set_option maxHeartbeats 4000000 in
theorem c_KG_drop_yes (l : Launch) (G : Gt) (ad : Nat → Nat → Nat) (ow : Nat → Nat × Nat) (Z : Zt) (hX : XS Z) (hcp : CancelPre Z) (k : Nat) (hk : k < xn Z 0 1) (h0 : x_isFn Z (nI k) = 1) : Met l y_KG_drop w_KG_drop ({ frames := 4, cells := 0, slots := 0, locals := 85 }) (zPc G ad ow Z [.ref (ad 0 0), .int (nI k)]) (Qd G ad ow ((x_drop Z (nI k)).1) (some (.int ((x_drop Z (nI k)).2)))) 0 0 (zA G) := by
  refine zopen (cc := b_KG_drop) (maxL := 2) (ret := (some FieldType.boolean)) (by decide) rfl (Nat.le_of_ble_eq_true rfl) ?_
  intro p e s m below meth c ls hC hr hlk hnm hd hl
  have hC : Cx G p c m s _ "KeyGraph" b_KG_drop 2 := hC
  have hl : lv_has ls 2 [(0, .ref (ad 0 0)), (1, .int (nI k))] := hl
  have hx := hC.1
  have hb := hC.2.1
  have h40 := hX.k40
  have hcl : (nI k).toNatClampNeg = k := nI_clamp (by omega)
  have h0n : ¬ x_isFn Z (nI k) = 0 := by rw [h0]; decide
  refine lv_aload_n hx hb d_KG_drop_0 rfl (lv_at hl 0 rfl) ?_
  refine lv_iload_n hx hb d_KG_drop_1 rfl (lv_at hl 1 rfl) ?_
  refine zb_i (r := 1) hd (zrunV (n := 1) (rest := []) hC hd (e_kg hX.kg) rfl (c_KG_isFunction l G ad ow Z hX (nI k) 1 h0) q_344 q_346 qp_3 q_1 q_347 rfl rfl rfl (by decide +kernel) ⟨by decide, by decide⟩ rfl hl.1 (Nat.le_of_ble_eq_true rfl) d_KG_drop_2 ⟨by decide, by decide⟩) (fun H locs hd => ?_)
  refine lv_if_eq (tgt := 25) hx hb d_KG_drop_5 (by decide) (fun c => absurd c (by decide)) (fun _ => ?_)
  refine lv_aload_n hx hb d_KG_drop_8 rfl (lv_at hl 0 rfl) ?_
  refine zget hC hd (e_kg hX.kg) rfl i_KG 0 (by decide) q_80 (Or.inl rfl) (v := .ref (ad 3 0)) rfl d_KG_drop_9 ?_
  refine lv_iload_n hx hb d_KG_drop_12 rfl (lv_at hl 1 rfl) ?_
  refine zb_a (r := (ad 1 k)) hd (zrunV (n := 1) (rest := []) hC hd (e_list hX.l0) rfl (c_get l G ad ow Z hX 0 k k hX.l0 (show k < xn Z 2 0 by rw [hX.kl]; exact hk) (hX.ke hk)) q_352 q_353 q_354 q_4 q_355 rfl rfl rfl (by decide +kernel) ⟨by decide, by decide⟩ rfl hl.1 (Nat.le_of_ble_eq_true rfl) d_KG_drop_13 ⟨by decide, by decide⟩) (fun H locs hd => ?_)
  refine zcast hC hd (e_key hk) q_105 d_KG_drop_16 ?_
  refine zgetN hC hd (e_key hk) rfl i_Key 3 (by decide) z_119 (Or.inl rfl) (v := .int (xi Z 1 k)) rfl d_KG_drop_19 ?_
  refine lv_if_ne (tgt := 27) hx hb d_KG_drop_22 (by decide) (fun c22 => ?_) (fun c22 => ?_)
  · refine lv_aload_n hx hb d_KG_drop_27 rfl (lv_at hl 0 rfl) ?_
    refine zb_i (r := (nI (x_cancelN Z))) hd (zrunV (n := 0) (rest := []) hC hd (e_kg hX.kg) rfl (c_KG_cancel l G ad ow Z hX hcp) q_390 q_391 q_392 q_1 q_393 rfl rfl rfl (by decide +kernel) ⟨by decide, by decide⟩ rfl hl.1 (Nat.le_of_ble_eq_true rfl) d_KG_drop_28 ⟨by decide, by decide⟩) (fun H locs hd => ?_)
    have hXc := x_can_XS hX
    refine lv_pop hx hb d_KG_drop_31 rfl ?_
    refine lv_aload_n hx hb d_KG_drop_32 rfl (lv_at hl 0 rfl) ?_
    refine zget hC hd (e_kg hXc.kg) rfl i_KG 0 (by decide) q_80 (Or.inl rfl) (v := .ref (ad 3 0)) rfl d_KG_drop_33 ?_
    refine lv_iload_n hx hb d_KG_drop_36 rfl (lv_at hl 1 rfl) ?_
    refine zb_a (r := (ad 1 k)) hd (zrunV (n := 1) (rest := []) hC hd (e_list hXc.l0) rfl (c_get l G ad ow (x_cancel Z) hXc 0 k k hXc.l0 (show k < xn (x_cancel Z) 2 0 by rw [x_can_xn _ _ _ (by decide), hX.kl]; exact hk) (by rw [x_can_xc]; exact hX.ke hk)) q_352 q_353 q_354 q_4 q_355 rfl rfl rfl (by decide +kernel) ⟨by decide, by decide⟩ rfl hl.1 (Nat.le_of_ble_eq_true rfl) d_KG_drop_37 ⟨by decide, by decide⟩) (fun H locs hd => ?_)
    refine zcast hC hd (e_key (show k < xn (x_cancel Z) 0 1 by rw [x_can_xn _ _ _ (by decide)]; exact hk)) q_105 d_KG_drop_40 ?_
    refine lv_iconst (v := 0) hx hb d_KG_drop_43 (by decide) ?_
    refine zputN (Z' := (si (x_cancel Z) 1 k 0)) (v := .int 0) hC hd (e_key (show k < xn (x_cancel Z) 0 1 by rw [x_can_xn _ _ _ (by decide)]; exact hk)) rfl i_Key t_Key t_Key_ok n_Key 3 (by decide) z_119 rfl rfl rfl rfl (Nat.le_of_ble_eq_true rfl) (u_st (show k < xn (x_cancel Z) 0 1 by rw [x_can_xn _ _ _ (by decide)]; exact hk)) d_KG_drop_44 (fun H locs hd => ?_)
    refine lv_iconst (v := 1) hx hb d_KG_drop_47 (by decide) ?_
    exact zfz hC hd hr hlk d_KG_drop_48 (by decide) (by unfold x_drop; rw [hcl]; (repeat (first | (rw [if_pos]; rotate_left; first | assumption | decide) | (rw [if_neg]; rotate_left; first | assumption | decide))) <;> (try rfl)) (by unfold x_drop; rw [hcl]; (repeat (first | (rw [if_pos]; rotate_left; first | assumption | decide) | (rw [if_neg]; rotate_left; first | assumption | decide))) <;> (try rfl))
  · refine lv_iconst (v := 0) hx hb d_KG_drop_25 (by decide) ?_
    exact zfz hC hd hr hlk d_KG_drop_26 (by decide) (by unfold x_drop; rw [hcl]; (repeat (first | (rw [if_pos]; rotate_left; first | assumption | decide) | (rw [if_neg]; rotate_left; first | assumption | decide))) <;> (try rfl)) (by unfold x_drop; rw [hcl]; (repeat (first | (rw [if_pos]; rotate_left; first | assumption | decide) | (rw [if_neg]; rotate_left; first | assumption | decide))) <;> (try rfl))
theorem c_KG_drop (l : Launch) (G : Gt) (ad : Nat → Nat → Nat) (ow : Nat → Nat × Nat) (Z : Zt) (hX : XS Z) (hcp : CancelPre Z) (k : Int32) : Met l y_KG_drop w_KG_drop ({ frames := 4, cells := 0, slots := 0, locals := 85 }) (zPc G ad ow Z [.ref (ad 0 0), .int k]) (Qd G ad ow ((x_drop Z k).1) (some (.int ((x_drop Z k).2)))) 0 0 (zA G) := by
  rcases x_isFn_cases Z hX k with h0 | ⟨j, hj, rfl, h0, -⟩
  · exact c_KG_drop_no l G ad ow Z hX hcp k  h0
  · exact c_KG_drop_yes l G ad ow Z hX hcp j  hj h0
end
section
set_option maxHeartbeats 4000000 in
theorem c_KG_change_no (l : Launch) (G : Gt) (ad : Nat → Nat → Nat) (ow : Nat → Nat × Nat) (Z : Zt) (hX : XS Z) (k : Int32) (v : Int64) (h0 : x_isKey Z k = 0) : Met l y_KG_change w_KG_change ({ frames := 3, cells := 0, slots := 0, locals := 64 }) (zPc G ad ow Z [.ref (ad 0 0), .int k, .long v]) (Qd G ad ow ((x_change Z k v).1) (some (.int (x_change Z k v).2))) 0 0 (zA G) := by
  refine zopen (cc := b_KG_change) (maxL := 5) (ret := (some FieldType.int)) (by decide) rfl (Nat.le_of_ble_eq_true rfl) ?_
  intro p e s m below meth c ls hC hr hlk hnm hd hl
  have hC : Cx G p c m s _ "KeyGraph" b_KG_change 5 := hC
  have hl : lv_has ls 5 [(0, .ref (ad 0 0)), (1, .int k), (2, .long v)] := hl
  have hx := hC.1
  have hb := hC.2.1
  refine lv_aload_n hx hb d_KG_change_0 rfl (lv_at hl 0 rfl) ?_
  refine lv_iload_n hx hb d_KG_change_1 rfl (lv_at hl 1 rfl) ?_
  refine zb_i (r := 0) hd (zrunV (n := 1) (rest := []) hC hd (e_kg hX.kg) rfl (c_KG_isKey l G ad ow Z hX k 0 h0) q_348 q_350 qp_4 q_1 q_351 rfl rfl rfl (by decide +kernel) ⟨by decide, by decide⟩ rfl hl.1 (Nat.le_of_ble_eq_true rfl) d_KG_change_2 ⟨by decide, by decide⟩) (fun H locs hd => ?_)
  refine lv_if_eq (tgt := 25) hx hb d_KG_change_5 (by decide) (fun _ => ?_) (fun c => absurd c (by decide))
  refine lv_iconst (v := (-1)) hx hb d_KG_change_25 (by decide) ?_
  exact zfi hC hd hr hlk d_KG_change_26 (by unfold x_change; (repeat (first | (rw [if_pos]; rotate_left; first | assumption | decide) | (rw [if_neg]; rotate_left; first | assumption | decide))) <;> (try rfl)) (by unfold x_change; (repeat (first | (rw [if_pos]; rotate_left; first | assumption | decide) | (rw [if_neg]; rotate_left; first | assumption | decide))) <;> (try rfl))
set_option maxHeartbeats 4000000 in
theorem c_KG_change_fn (l : Launch) (G : Gt) (ad : Nat → Nat → Nat) (ow : Nat → Nat × Nat) (Z : Zt) (hX : XS Z) (k : Nat) (v : Int64) (hk : k < xn Z 0 1) (h0 : x_isKey Z (nI k) = 1) (hlf : ¬ xn Z 1 k = 6) : Met l y_KG_change w_KG_change ({ frames := 3, cells := 0, slots := 0, locals := 64 }) (zPc G ad ow Z [.ref (ad 0 0), .int (nI k), .long v]) (Qd G ad ow ((x_change Z (nI k) v).1) (some (.int (x_change Z (nI k) v).2))) 0 0 (zA G) := by
  refine zopen (cc := b_KG_change) (maxL := 5) (ret := (some FieldType.int)) (by decide) rfl (Nat.le_of_ble_eq_true rfl) ?_
  intro p e s m below meth c ls hC hr hlk hnm hd hl
  have hC : Cx G p c m s _ "KeyGraph" b_KG_change 5 := hC
  have hl : lv_has ls 5 [(0, .ref (ad 0 0)), (1, .int (nI k)), (2, .long v)] := hl
  have hx := hC.1
  have hb := hC.2.1
  have h40 := hX.k40
  have hcl : (nI k).toNatClampNeg = k := nI_clamp (by omega)
  have h0n : ¬ x_isKey Z (nI k) = 0 := by rw [h0]; decide
  refine lv_aload_n hx hb d_KG_change_0 rfl (lv_at hl 0 rfl) ?_
  refine lv_iload_n hx hb d_KG_change_1 rfl (lv_at hl 1 rfl) ?_
  refine zb_i (r := 1) hd (zrunV (n := 1) (rest := []) hC hd (e_kg hX.kg) rfl (c_KG_isKey l G ad ow Z hX (nI k) 1 h0) q_348 q_350 qp_4 q_1 q_351 rfl rfl rfl (by decide +kernel) ⟨by decide, by decide⟩ rfl hl.1 (Nat.le_of_ble_eq_true rfl) d_KG_change_2 ⟨by decide, by decide⟩) (fun H locs hd => ?_)
  refine lv_if_eq (tgt := 25) hx hb d_KG_change_5 (by decide) (fun c => absurd c (by decide)) (fun _ => ?_)
  refine lv_aload_n hx hb d_KG_change_8 rfl (lv_at hl 0 rfl) ?_
  refine zget hC hd (e_kg hX.kg) rfl i_KG 0 (by decide) q_80 (Or.inl rfl) (v := .ref (ad 3 0)) rfl d_KG_change_9 ?_
  refine lv_iload_n hx hb d_KG_change_12 rfl (lv_at hl 1 rfl) ?_
  refine zb_a (r := (ad 1 k)) hd (zrunV (n := 1) (rest := []) hC hd (e_list hX.l0) rfl (c_get l G ad ow Z hX 0 k k hX.l0 (show k < xn Z 2 0 by rw [hX.kl]; exact hk) (hX.ke hk)) q_352 q_353 q_354 q_4 q_355 rfl rfl rfl (by decide +kernel) ⟨by decide, by decide⟩ rfl hl.1 (Nat.le_of_ble_eq_true rfl) d_KG_change_13 ⟨by decide, by decide⟩) (fun H locs hd => ?_)
  refine zcast hC hd (e_key hk) q_105 d_KG_change_16 ?_
  refine zb_i (r := 0) hd (zrunV (n := 0) (rest := []) hC hd (e_key hk) rfl (c_Key_isLeaf_n l G ad ow Z k hk hlf) q_366 q_367 q_368 q_7 q_369 rfl rfl rfl (by decide +kernel) ⟨by decide, by decide⟩ rfl hl.1 (Nat.le_of_ble_eq_true rfl) d_KG_change_19 ⟨by decide, by decide⟩) (fun H locs hd => ?_)
  refine lv_if_ne (tgt := 27) hx hb d_KG_change_22 (by decide) (fun c => absurd c (by decide)) (fun _ => ?_)
  refine lv_iconst (v := (-1)) hx hb d_KG_change_25 (by decide) ?_
  exact zfi hC hd hr hlk d_KG_change_26 (by unfold x_change; rw [hcl]; (repeat (first | (rw [if_pos]; rotate_left; first | assumption | decide) | (rw [if_neg]; rotate_left; first | assumption | decide))) <;> (try rfl)) (by unfold x_change; rw [hcl]; (repeat (first | (rw [if_pos]; rotate_left; first | assumption | decide) | (rw [if_neg]; rotate_left; first | assumption | decide))) <;> (try rfl))
set_option maxHeartbeats 4000000 in
theorem c_KG_change_leaf (l : Launch) (G : Gt) (ad : Nat → Nat → Nat) (ow : Nat → Nat × Nat) (Z : Zt) (hX : XS Z) (hcp : CancelPre Z) (k : Nat) (v : Int64) (hk : k < xn Z 0 1) (h0 : x_isKey Z (nI k) = 1) (hlf : xn Z 1 k = 6) : Met l y_KG_change w_KG_change ({ frames := 3, cells := 0, slots := 0, locals := 64 }) (zPc G ad ow Z [.ref (ad 0 0), .int (nI k), .long v]) (Qd G ad ow ((x_change Z (nI k) v).1) (some (.int (x_change Z (nI k) v).2))) 0 0 (zA G) := by
  refine zopen (cc := b_KG_change) (maxL := 5) (ret := (some FieldType.int)) (by decide) rfl (Nat.le_of_ble_eq_true rfl) ?_
  intro p e s m below meth c ls hC hr hlk hnm hd hl
  have hC : Cx G p c m s _ "KeyGraph" b_KG_change 5 := hC
  have hl : lv_has ls 5 [(0, .ref (ad 0 0)), (1, .int (nI k)), (2, .long v)] := hl
  have hx := hC.1
  have hb := hC.2.1
  have h40 := hX.k40
  have hcl : (nI k).toNatClampNeg = k := nI_clamp (by omega)
  have h0n : ¬ x_isKey Z (nI k) = 0 := by rw [h0]; decide
  refine lv_aload_n hx hb d_KG_change_0 rfl (lv_at hl 0 rfl) ?_
  refine lv_iload_n hx hb d_KG_change_1 rfl (lv_at hl 1 rfl) ?_
  refine zb_i (r := 1) hd (zrunV (n := 1) (rest := []) hC hd (e_kg hX.kg) rfl (c_KG_isKey l G ad ow Z hX (nI k) 1 h0) q_348 q_350 qp_4 q_1 q_351 rfl rfl rfl (by decide +kernel) ⟨by decide, by decide⟩ rfl hl.1 (Nat.le_of_ble_eq_true rfl) d_KG_change_2 ⟨by decide, by decide⟩) (fun H locs hd => ?_)
  refine lv_if_eq (tgt := 25) hx hb d_KG_change_5 (by decide) (fun c => absurd c (by decide)) (fun _ => ?_)
  refine lv_aload_n hx hb d_KG_change_8 rfl (lv_at hl 0 rfl) ?_
  refine zget hC hd (e_kg hX.kg) rfl i_KG 0 (by decide) q_80 (Or.inl rfl) (v := .ref (ad 3 0)) rfl d_KG_change_9 ?_
  refine lv_iload_n hx hb d_KG_change_12 rfl (lv_at hl 1 rfl) ?_
  refine zb_a (r := (ad 1 k)) hd (zrunV (n := 1) (rest := []) hC hd (e_list hX.l0) rfl (c_get l G ad ow Z hX 0 k k hX.l0 (show k < xn Z 2 0 by rw [hX.kl]; exact hk) (hX.ke hk)) q_352 q_353 q_354 q_4 q_355 rfl rfl rfl (by decide +kernel) ⟨by decide, by decide⟩ rfl hl.1 (Nat.le_of_ble_eq_true rfl) d_KG_change_13 ⟨by decide, by decide⟩) (fun H locs hd => ?_)
  refine zcast hC hd (e_key hk) q_105 d_KG_change_16 ?_
  refine zb_i (r := 1) hd (zrunV (n := 0) (rest := []) hC hd (e_key hk) rfl (c_Key_isLeaf_y l G ad ow Z k hk hlf) q_366 q_367 q_368 q_7 q_369 rfl rfl rfl (by decide +kernel) ⟨by decide, by decide⟩ rfl hl.1 (Nat.le_of_ble_eq_true rfl) d_KG_change_19 ⟨by decide, by decide⟩) (fun H locs hd => ?_)
  refine lv_if_ne (tgt := 27) hx hb d_KG_change_22 (by decide) (fun _ => ?_) (fun c => absurd c (by decide))
  refine lv_aload_n hx hb d_KG_change_27 rfl (lv_at hl 0 rfl) ?_
  refine zget hC hd (e_kg hX.kg) rfl i_KG 0 (by decide) q_80 (Or.inl rfl) (v := .ref (ad 3 0)) rfl d_KG_change_28 ?_
  refine lv_iload_n hx hb d_KG_change_31 rfl (lv_at hl 1 rfl) ?_
  refine zb_a (r := (ad 1 k)) hd (zrunV (n := 1) (rest := []) hC hd (e_list hX.l0) rfl (c_get l G ad ow Z hX 0 k k hX.l0 (show k < xn Z 2 0 by rw [hX.kl]; exact hk) (hX.ke hk)) q_352 q_353 q_354 q_4 q_355 rfl rfl rfl (by decide +kernel) ⟨by decide, by decide⟩ rfl hl.1 (Nat.le_of_ble_eq_true rfl) d_KG_change_32 ⟨by decide, by decide⟩) (fun H locs hd => ?_)
  refine zcast hC hd (e_key hk) q_105 d_KG_change_35 ?_
  refine lv_astore (lv' := [(4, .ref (ad 1 k)), (0, .ref (ad 0 0)), (1, .int (nI k)), (2, .long v)]) hx hb d_KG_change_38 hl (by decide) rfl (fun ls hl => ?_)
  refine lv_aload hx hb d_KG_change_40 (lv_at hl 0 rfl) ?_
  refine zgetN hC hd (e_key hk) rfl i_Key 4 (by decide) z_120 (Or.inl rfl) (v := .long (xl Z 1 k)) rfl d_KG_change_42 ?_
  refine lv_lload_n hx hb d_KG_change_45 rfl (lv_at hl 3 rfl) ?_
  refine W.lcmp hx hb d_KG_change_46 ?_
  refine lv_if_ne (tgt := 55) hx hb d_KG_change_47 (by decide) (fun c47 => ?_) (fun c47 => ?_)
  · simp only [ne_eq, lg_cmp_eq, lg_cmp_le, lg_cmp_lt, lg_cmp_ge, lg_cmp_gt] at c47
    refine lv_aload_n hx hb d_KG_change_55 rfl (lv_at hl 1 rfl) ?_
    refine zb_v hd (zrunV (n := 0) (rest := []) hC hd (e_kg hX.kg) rfl (c_KG_raise l G ad ow Z hX hcp) q_386 q_388 qp_8 q_1 q_389 rfl rfl rfl (by decide +kernel) ⟨by decide, by decide⟩ rfl hl.1 (Nat.le_of_ble_eq_true rfl) d_KG_change_56 ⟨by decide, by decide⟩) (fun H locs hd => ?_)
    have hXr : XS (x_raise Z) := x_can_XS hX
    refine lv_aload hx hb d_KG_change_59 (lv_at hl 0 rfl) ?_
    refine lv_lload_n hx hb d_KG_change_61 rfl (lv_at hl 3 rfl) ?_
    refine zputN (Z' := (sl (x_raise Z) 1 k v)) (v := .long v) hC hd (e_key (show k < xn (x_cancel Z) 0 1 by rw [x_can_xn _ _ _ (by decide)]; exact hk)) rfl i_Key t_Key t_Key_ok n_Key 4 (by decide) z_120 rfl rfl rfl rfl (Nat.le_of_ble_eq_true rfl) (u_val (show k < xn (x_cancel Z) 0 1 by rw [x_can_xn _ _ _ (by decide)]; exact hk)) d_KG_change_62 (fun H locs hd => ?_)
    refine lv_aload hx hb d_KG_change_65 (lv_at hl 0 rfl) ?_
    refine lv_aload_n hx hb d_KG_change_67 rfl (lv_at hl 1 rfl) ?_
    refine zget hC hd (e_kg hXr.kg) rfl i_KG 3 (by decide) q_83 (Or.inl rfl) (v := .int (xi (x_raise Z) 14 0)) rfl d_KG_change_68 ?_
    refine zputN (Z' := (si (sl (x_raise Z) 1 k v) 2 k (xi (x_raise Z) 14 0))) (v := .int (xi (x_raise Z) 14 0)) hC hd (e_key (show k < xn (x_cancel Z) 0 1 by rw [x_can_xn _ _ _ (by decide)]; exact hk)) rfl i_Key t_Key t_Key_ok n_Key 5 (by decide) z_121 rfl rfl rfl rfl (Nat.le_of_ble_eq_true rfl) (u_chg (show k < xn (x_cancel Z) 0 1 by rw [x_can_xn _ _ _ (by decide)]; exact hk)) d_KG_change_71 (fun H locs hd => ?_)
    refine lv_aload_n hx hb d_KG_change_74 rfl (lv_at hl 1 rfl) ?_
    refine zget hC hd (e_kg hXr.kg) rfl i_KG 3 (by decide) q_83 (Or.inl rfl) (v := .int (xi (x_raise Z) 14 0)) rfl d_KG_change_75 ?_
    exact zfi hC hd hr hlk d_KG_change_78 (by unfold x_change; rw [hcl]; (repeat (first | (rw [if_pos]; rotate_left; first | assumption | decide) | (rw [if_neg]; rotate_left; first | assumption | decide))) <;> (try rfl)) (by unfold x_change; rw [hcl]; (repeat (first | (rw [if_pos]; rotate_left; first | assumption | decide) | (rw [if_neg]; rotate_left; first | assumption | decide))) <;> (try rfl))
  · simp only [ne_eq, lg_cmp_eq, lg_cmp_le, lg_cmp_lt, lg_cmp_ge, lg_cmp_gt] at c47
    refine lv_aload_n hx hb d_KG_change_50 rfl (lv_at hl 1 rfl) ?_
    refine zget hC hd (e_kg hX.kg) rfl i_KG 3 (by decide) q_83 (Or.inl rfl) (v := .int (xi Z 14 0)) rfl d_KG_change_51 ?_
    exact zfi hC hd hr hlk d_KG_change_54 (by unfold x_change; rw [hcl]; (repeat (first | (rw [if_pos]; rotate_left; first | assumption | decide) | (rw [if_neg]; rotate_left; first | assumption | decide))) <;> (try rfl)) (by unfold x_change; rw [hcl]; (repeat (first | (rw [if_pos]; rotate_left; first | assumption | decide) | (rw [if_neg]; rotate_left; first | assumption | decide))) <;> (try rfl))
theorem c_KG_change (l : Launch) (G : Gt) (ad : Nat → Nat → Nat) (ow : Nat → Nat × Nat) (Z : Zt) (hX : XS Z) (hcp : CancelPre Z) (k : Int32) (v : Int64) : Met l y_KG_change w_KG_change ({ frames := 3, cells := 0, slots := 0, locals := 64 }) (zPc G ad ow Z [.ref (ad 0 0), .int k, .long v]) (Qd G ad ow ((x_change Z k v).1) (some (.int (x_change Z k v).2))) 0 0 (zA G) := by
  have h40 := hX.k40
  have hkl := hX.kl
  rcases x_isKey_cases Z k (by omega) with h0 | ⟨j, hj, rfl, h0⟩
  · exact c_KG_change_no l G ad ow Z hX k v h0
  · by_cases hlf : xn Z 1 j = 6
    · exact c_KG_change_leaf l G ad ow Z hX hcp j v (by omega) h0 hlf
    · exact c_KG_change_fn l G ad ow Z hX j v (by omega) h0 hlf
set_option maxHeartbeats 4000000 in
theorem c_KG_spoil_no (l : Launch) (G : Gt) (ad : Nat → Nat → Nat) (ow : Nat → Nat × Nat) (Z : Zt) (hX : XS Z) (k b : Int32) (h0 : x_isFn Z k = 0) : Met l y_KG_spoil w_KG_spoil ({ frames := 4, cells := 0, slots := 0, locals := 85 }) (zPc G ad ow Z [.ref (ad 0 0), .int k, .int b]) (Qd G ad ow ((x_spoil Z k b).1) (some (.int (x_spoil Z k b).2))) 0 0 (zA G) := by
  refine zopen (cc := b_KG_spoil) (maxL := 4) (ret := (some FieldType.int)) (by decide) rfl (Nat.le_of_ble_eq_true rfl) ?_
  intro p e s m below meth c ls hC hr hlk hnm hd hl
  have hC : Cx G p c m s _ "KeyGraph" b_KG_spoil 4 := hC
  have hl : lv_has ls 4 [(0, .ref (ad 0 0)), (1, .int k), (2, .int b)] := hl
  have hx := hC.1
  have hb := hC.2.1
  refine lv_aload_n hx hb d_KG_spoil_0 rfl (lv_at hl 0 rfl) ?_
  refine lv_iload_n hx hb d_KG_spoil_1 rfl (lv_at hl 1 rfl) ?_
  refine zb_i (r := 0) hd (zrunV (n := 1) (rest := []) hC hd (e_kg hX.kg) rfl (c_KG_isFunction l G ad ow Z hX k 0 h0) q_344 q_346 qp_3 q_1 q_347 rfl rfl rfl (by decide +kernel) ⟨by decide, by decide⟩ rfl hl.1 (Nat.le_of_ble_eq_true rfl) d_KG_spoil_2 ⟨by decide, by decide⟩) (fun H locs hd => ?_)
  refine lv_if_ne (tgt := 10) hx hb d_KG_spoil_5 (by decide) (fun c => absurd c (by decide)) (fun _ => ?_)
  refine lv_iconst (v := (-1)) hx hb d_KG_spoil_8 (by decide) ?_
  exact zfi hC hd hr hlk d_KG_spoil_9 (by unfold x_spoil; (repeat (first | (rw [if_pos]; rotate_left; first | assumption | decide) | (rw [if_neg]; rotate_left; first | assumption | decide))) <;> (try rfl)) (by unfold x_spoil; (repeat (first | (rw [if_pos]; rotate_left; first | assumption | decide) | (rw [if_neg]; rotate_left; first | assumption | decide))) <;> (try rfl))
set_option maxHeartbeats 4000000 in
theorem c_KG_spoil_yes (l : Launch) (G : Gt) (ad : Nat → Nat → Nat) (ow : Nat → Nat × Nat) (Z : Zt) (hX : XS Z) (hcp : CancelPre Z) (b : Int32) (hb01 : b = 0 ∨ b = 1) (k : Nat) (hk : k < xn Z 0 1) (h0 : x_isFn Z (nI k) = 1) : Met l y_KG_spoil w_KG_spoil ({ frames := 4, cells := 0, slots := 0, locals := 85 }) (zPc G ad ow Z [.ref (ad 0 0), .int (nI k), .int b]) (Qd G ad ow ((x_spoil Z (nI k) b).1) (some (.int (x_spoil Z (nI k) b).2))) 0 0 (zA G) := by
  refine zopen (cc := b_KG_spoil) (maxL := 4) (ret := (some FieldType.int)) (by decide) rfl (Nat.le_of_ble_eq_true rfl) ?_
  intro p e s m below meth c ls hC hr hlk hnm hd hl
  have hC : Cx G p c m s _ "KeyGraph" b_KG_spoil 4 := hC
  have hl : lv_has ls 4 [(0, .ref (ad 0 0)), (1, .int (nI k)), (2, .int b)] := hl
  have hx := hC.1
  have hb := hC.2.1
  have h40 := hX.k40
  have hcl : (nI k).toNatClampNeg = k := nI_clamp (by omega)
  have h0n : ¬ x_isFn Z (nI k) = 0 := by rw [h0]; decide
  refine lv_aload_n hx hb d_KG_spoil_0 rfl (lv_at hl 0 rfl) ?_
  refine lv_iload_n hx hb d_KG_spoil_1 rfl (lv_at hl 1 rfl) ?_
  refine zb_i (r := 1) hd (zrunV (n := 1) (rest := []) hC hd (e_kg hX.kg) rfl (c_KG_isFunction l G ad ow Z hX (nI k) 1 h0) q_344 q_346 qp_3 q_1 q_347 rfl rfl rfl (by decide +kernel) ⟨by decide, by decide⟩ rfl hl.1 (Nat.le_of_ble_eq_true rfl) d_KG_spoil_2 ⟨by decide, by decide⟩) (fun H locs hd => ?_)
  refine lv_if_ne (tgt := 10) hx hb d_KG_spoil_5 (by decide) (fun _ => ?_) (fun c => absurd c (by decide))
  refine lv_aload_n hx hb d_KG_spoil_10 rfl (lv_at hl 0 rfl) ?_
  refine zget hC hd (e_kg hX.kg) rfl i_KG 0 (by decide) q_80 (Or.inl rfl) (v := .ref (ad 3 0)) rfl d_KG_spoil_11 ?_
  refine lv_iload_n hx hb d_KG_spoil_14 rfl (lv_at hl 1 rfl) ?_
  refine zb_a (r := (ad 1 k)) hd (zrunV (n := 1) (rest := []) hC hd (e_list hX.l0) rfl (c_get l G ad ow Z hX 0 k k hX.l0 (show k < xn Z 2 0 by rw [hX.kl]; exact hk) (hX.ke hk)) q_352 q_353 q_354 q_4 q_355 rfl rfl rfl (by decide +kernel) ⟨by decide, by decide⟩ rfl hl.1 (Nat.le_of_ble_eq_true rfl) d_KG_spoil_15 ⟨by decide, by decide⟩) (fun H locs hd => ?_)
  refine zcast hC hd (e_key hk) q_105 d_KG_spoil_18 ?_
  refine lv_astore_n (lv' := [(3, .ref (ad 1 k)), (0, .ref (ad 0 0)), (1, .int (nI k)), (2, .int b)]) hx hb d_KG_spoil_21 rfl hl (by decide) rfl (fun ls hl => ?_)
  refine lv_aload_n hx hb d_KG_spoil_22 rfl (lv_at hl 0 rfl) ?_
  refine zgetN hC hd (e_key hk) rfl i_Key 10 (by decide) z_127 (Or.inl rfl) (v := .int (xi Z 7 k)) rfl d_KG_spoil_23 ?_
  refine lv_iload_n hx hb d_KG_spoil_26 rfl (lv_at hl 3 rfl) ?_
  refine lv_icmp_ne (tgt := 35) hx hb d_KG_spoil_27 (by decide) (fun c27 => ?_) (fun c27 => ?_)
  · refine lv_aload_n hx hb d_KG_spoil_35 rfl (lv_at hl 1 rfl) ?_
    refine zb_v hd (zrunV (n := 0) (rest := []) hC hd (e_kg hX.kg) rfl (c_KG_raise l G ad ow Z hX hcp) q_386 q_388 qp_8 q_1 q_389 rfl rfl rfl (by decide +kernel) ⟨by decide, by decide⟩ rfl hl.1 (Nat.le_of_ble_eq_true rfl) d_KG_spoil_36 ⟨by decide, by decide⟩) (fun H locs hd => ?_)
    have hXr : XS (x_raise Z) := x_can_XS hX
    refine lv_aload_n hx hb d_KG_spoil_39 rfl (lv_at hl 0 rfl) ?_
    refine lv_iload_n hx hb d_KG_spoil_40 rfl (lv_at hl 3 rfl) ?_
    refine zputN (Z' := (si (x_raise Z) 7 k b)) (v := .int b) hC hd (e_key (show k < xn (x_cancel Z) 0 1 by rw [x_can_xn _ _ _ (by decide)]; exact hk)) rfl i_Key t_Key t_Key_ok n_Key 10 (by decide) z_127 rfl rfl (zbool hb01) (zboolf hb01) (Nat.le_of_ble_eq_true rfl) (u_spo (show k < xn (x_cancel Z) 0 1 by rw [x_can_xn _ _ _ (by decide)]; exact hk)) d_KG_spoil_41 (fun H locs hd => ?_)
    refine lv_aload_n hx hb d_KG_spoil_44 rfl (lv_at hl 0 rfl) ?_
    refine lv_aload_n hx hb d_KG_spoil_45 rfl (lv_at hl 1 rfl) ?_
    refine zget hC hd (e_kg hXr.kg) rfl i_KG 3 (by decide) q_83 (Or.inl rfl) (v := .int (xi (x_raise Z) 14 0)) rfl d_KG_spoil_46 ?_
    refine zputN (Z' := (si (si (x_raise Z) 7 k b) 4 k (xi (x_raise Z) 14 0))) (v := .int (xi (x_raise Z) 14 0)) hC hd (e_key (show k < xn (x_cancel Z) 0 1 by rw [x_can_xn _ _ _ (by decide)]; exact hk)) rfl i_Key t_Key t_Key_ok n_Key 7 (by decide) z_124 rfl rfl rfl rfl (Nat.le_of_ble_eq_true rfl) (u_own (show k < xn (x_cancel Z) 0 1 by rw [x_can_xn _ _ _ (by decide)]; exact hk)) d_KG_spoil_49 (fun H locs hd => ?_)
    refine lv_aload_n hx hb d_KG_spoil_52 rfl (lv_at hl 1 rfl) ?_
    refine zget hC hd (e_kg hXr.kg) rfl i_KG 3 (by decide) q_83 (Or.inl rfl) (v := .int (xi (x_raise Z) 14 0)) rfl d_KG_spoil_53 ?_
    exact zfi hC hd hr hlk d_KG_spoil_56 (by unfold x_spoil; rw [hcl]; (repeat (first | (rw [if_pos]; rotate_left; first | assumption | decide) | (rw [if_neg]; rotate_left; first | assumption | decide))) <;> (try rfl)) (by unfold x_spoil; rw [hcl]; (repeat (first | (rw [if_pos]; rotate_left; first | assumption | decide) | (rw [if_neg]; rotate_left; first | assumption | decide))) <;> (try rfl))
  · refine lv_aload_n hx hb d_KG_spoil_30 rfl (lv_at hl 1 rfl) ?_
    refine zget hC hd (e_kg hX.kg) rfl i_KG 3 (by decide) q_83 (Or.inl rfl) (v := .int (xi Z 14 0)) rfl d_KG_spoil_31 ?_
    exact zfi hC hd hr hlk d_KG_spoil_34 (by unfold x_spoil; rw [hcl]; (repeat (first | (rw [if_pos]; rotate_left; first | assumption | decide) | (rw [if_neg]; rotate_left; first | assumption | decide))) <;> (try rfl)) (by unfold x_spoil; rw [hcl]; (repeat (first | (rw [if_pos]; rotate_left; first | assumption | decide) | (rw [if_neg]; rotate_left; first | assumption | decide))) <;> (try rfl))
theorem c_KG_spoil (l : Launch) (G : Gt) (ad : Nat → Nat → Nat) (ow : Nat → Nat × Nat) (Z : Zt) (hX : XS Z) (hcp : CancelPre Z) (k b : Int32) (hb01 : b = 0 ∨ b = 1) : Met l y_KG_spoil w_KG_spoil ({ frames := 4, cells := 0, slots := 0, locals := 85 }) (zPc G ad ow Z [.ref (ad 0 0), .int k, .int b]) (Qd G ad ow ((x_spoil Z k b).1) (some (.int (x_spoil Z k b).2))) 0 0 (zA G) := by
  rcases x_isFn_cases Z hX k with h0 | ⟨j, hj, rfl, h0, -⟩
  · exact c_KG_spoil_no l G ad ow Z hX k b h0
  · exact c_KG_spoil_yes l G ad ow Z hX hcp b hb01 j hj h0
set_option maxHeartbeats 4000000 in
theorem c_KG_begin_now (l : Launch) (G : Gt) (ad : Nat → Nat → Nat) (ow : Nat → Nat × Nat) (Z : Zt) (hX : XS Z) (w k : Int32) (hw : x_isWorker w = 0) : Met l y_KG_begin w_KG_begin ({ frames := 3, cells := 0, slots := 0, locals := 65 }) (zPc G ad ow Z [.ref (ad 0 0), .int w, .int k]) (Qd G ad ow ((x_beginR Z w k).1) (some (.int (x_beginR Z w k).2))) 0 0 (zA G) := by
  refine zopen (cc := b_KG_begin) (maxL := 4) (ret := (some FieldType.int)) (by decide) rfl (Nat.le_of_ble_eq_true rfl) ?_
  intro p e s m below meth c ls hC hr hlk hnm hd hl
  have hC : Cx G p c m s _ "KeyGraph" b_KG_begin 4 := hC
  have hl : lv_has ls 4 [(0, .ref (ad 0 0)), (1, .int w), (2, .int k)] := hl
  have hx := hC.1
  have hb := hC.2.1
  refine lv_iload_n hx hb d_KG_begin_0 rfl (lv_at hl 1 rfl) ?_
  refine zb_i (r := 0) hd (zrunS (n := 1) (rest := []) hC hd (c_KG_isWorker l G ad ow Z w 0 hw) q_418 q_419 q_1 q_420 rfl rfl rfl (by decide +kernel) ⟨by decide, by decide⟩ rfl hl.1 (Nat.le_of_ble_eq_true rfl) d_KG_begin_1 ⟨by decide, by decide⟩) (fun H locs hd => ?_)
  refine lv_if_eq (tgt := 27) hx hb d_KG_begin_4 (by decide) (fun _ => ?_) (fun c => absurd c (by decide))
  refine lv_iconst (v := (-1)) hx hb d_KG_begin_27 (by decide) ?_
  exact zfi hC hd hr hlk d_KG_begin_28 (by unfold x_beginR; (repeat (first | (rw [if_pos]; rotate_left; first | assumption | decide) | (rw [if_neg]; rotate_left; first | assumption | decide))) <;> (try rfl)) (by unfold x_beginR; (repeat (first | (rw [if_pos]; rotate_left; first | assumption | decide) | (rw [if_neg]; rotate_left; first | assumption | decide))) <;> (try rfl))
set_option maxHeartbeats 4000000 in
theorem c_KG_begin_nok (l : Launch) (G : Gt) (ad : Nat → Nat → Nat) (ow : Nat → Nat × Nat) (Z : Zt) (hX : XS Z) (u : Nat) (hu : u < 4) (k : Int32) (hw : x_isWorker (nI u) = 1) (h0 : x_isKey Z k = 0) : Met l y_KG_begin w_KG_begin ({ frames := 3, cells := 0, slots := 0, locals := 65 }) (zPc G ad ow Z [.ref (ad 0 0), .int (nI u), .int k]) (Qd G ad ow ((x_beginR Z (nI u) k).1) (some (.int (x_beginR Z (nI u) k).2))) 0 0 (zA G) := by
  refine zopen (cc := b_KG_begin) (maxL := 4) (ret := (some FieldType.int)) (by decide) rfl (Nat.le_of_ble_eq_true rfl) ?_
  intro p e s m below meth c ls hC hr hlk hnm hd hl
  have hC : Cx G p c m s _ "KeyGraph" b_KG_begin 4 := hC
  have hl : lv_has ls 4 [(0, .ref (ad 0 0)), (1, .int (nI u)), (2, .int k)] := hl
  have hx := hC.1
  have hb := hC.2.1
  have hwn : ¬ x_isWorker (nI u) = 0 := by rw [hw]; decide
  refine lv_iload_n hx hb d_KG_begin_0 rfl (lv_at hl 1 rfl) ?_
  refine zb_i (r := 1) hd (zrunS (n := 1) (rest := []) hC hd (c_KG_isWorker l G ad ow Z (nI u) 1 hw) q_418 q_419 q_1 q_420 rfl rfl rfl (by decide +kernel) ⟨by decide, by decide⟩ rfl hl.1 (Nat.le_of_ble_eq_true rfl) d_KG_begin_1 ⟨by decide, by decide⟩) (fun H locs hd => ?_)
  refine lv_if_eq (tgt := 27) hx hb d_KG_begin_4 (by decide) (fun c => absurd c (by decide)) (fun _ => ?_)
  refine lv_aload_n hx hb d_KG_begin_7 rfl (lv_at hl 0 rfl) ?_
  refine lv_iload_n hx hb d_KG_begin_8 rfl (lv_at hl 2 rfl) ?_
  refine zb_i (r := 0) hd (zrunV (n := 1) (rest := []) hC hd (e_kg hX.kg) rfl (c_KG_isKey l G ad ow Z hX k 0 h0) q_348 q_350 qp_4 q_1 q_351 rfl rfl rfl (by decide +kernel) ⟨by decide, by decide⟩ rfl hl.1 (Nat.le_of_ble_eq_true rfl) d_KG_begin_9 ⟨by decide, by decide⟩) (fun H locs hd => ?_)
  refine lv_if_eq (tgt := 27) hx hb d_KG_begin_12 (by decide) (fun _ => ?_) (fun c => absurd c (by decide))
  refine lv_iconst (v := (-1)) hx hb d_KG_begin_27 (by decide) ?_
  exact zfi hC hd hr hlk d_KG_begin_28 (by unfold x_beginR; (repeat (first | (rw [if_pos]; rotate_left; first | assumption | decide) | (rw [if_neg]; rotate_left; first | assumption | decide))) <;> (try rfl)) (by unfold x_beginR; (repeat (first | (rw [if_pos]; rotate_left; first | assumption | decide) | (rw [if_neg]; rotate_left; first | assumption | decide))) <;> (try rfl))
set_option maxHeartbeats 4000000 in
theorem c_KG_begin_yes (l : Launch) (G : Gt) (ad : Nat → Nat → Nat) (ow : Nat → Nat × Nat) (Z : Zt) (hX : XS Z) (hps : ∀ q, xn Z 9 q ≤ 40) (u : Nat) (hu : u < 4) (k : Nat) (hk : k < xn Z 0 1) (hk6 : x_isSure Z k = 0 → xn Z 1 k < 6) (hw : x_isWorker (nI u) = 1) (h0 : x_isKey Z (nI k) = 1) : Met l y_KG_begin w_KG_begin ({ frames := 3, cells := 0, slots := 0, locals := 65 }) (zPc G ad ow Z [.ref (ad 0 0), .int (nI u), .int (nI k)]) (Qd G ad ow ((x_beginR Z (nI u) (nI k)).1) (some (.int (x_beginR Z (nI u) (nI k)).2))) 0 0 (zA G) := by
  refine zopen (cc := b_KG_begin) (maxL := 4) (ret := (some FieldType.int)) (by decide) rfl (Nat.le_of_ble_eq_true rfl) ?_
  intro p e s m below meth c ls hC hr hlk hnm hd hl
  have hC : Cx G p c m s _ "KeyGraph" b_KG_begin 4 := hC
  have hl : lv_has ls 4 [(0, .ref (ad 0 0)), (1, .int (nI u)), (2, .int (nI k))] := hl
  have hx := hC.1
  have hb := hC.2.1
  have hwn : ¬ x_isWorker (nI u) = 0 := by rw [hw]; decide
  have h0n : ¬ x_isKey Z (nI k) = 0 := by rw [h0]; decide
  have h40 := hX.k40
  have hcl : (nI k).toNatClampNeg = k := nI_clamp (by omega)
  have hcu : (nI u).toNatClampNeg = u := nI_clamp (by omega)
  have hup := hps u
  refine lv_iload_n hx hb d_KG_begin_0 rfl (lv_at hl 1 rfl) ?_
  refine zb_i (r := 1) hd (zrunS (n := 1) (rest := []) hC hd (c_KG_isWorker l G ad ow Z (nI u) 1 hw) q_418 q_419 q_1 q_420 rfl rfl rfl (by decide +kernel) ⟨by decide, by decide⟩ rfl hl.1 (Nat.le_of_ble_eq_true rfl) d_KG_begin_1 ⟨by decide, by decide⟩) (fun H locs hd => ?_)
  refine lv_if_eq (tgt := 27) hx hb d_KG_begin_4 (by decide) (fun c => absurd c (by decide)) (fun _ => ?_)
  refine lv_aload_n hx hb d_KG_begin_7 rfl (lv_at hl 0 rfl) ?_
  refine lv_iload_n hx hb d_KG_begin_8 rfl (lv_at hl 2 rfl) ?_
  refine zb_i (r := 1) hd (zrunV (n := 1) (rest := []) hC hd (e_kg hX.kg) rfl (c_KG_isKey l G ad ow Z hX (nI k) 1 h0) q_348 q_350 qp_4 q_1 q_351 rfl rfl rfl (by decide +kernel) ⟨by decide, by decide⟩ rfl hl.1 (Nat.le_of_ble_eq_true rfl) d_KG_begin_9 ⟨by decide, by decide⟩) (fun H locs hd => ?_)
  refine lv_if_eq (tgt := 27) hx hb d_KG_begin_12 (by decide) (fun c => absurd c (by decide)) (fun _ => ?_)
  refine lv_aload_n hx hb d_KG_begin_15 rfl (lv_at hl 0 rfl) ?_
  refine zget hC hd (e_kg hX.kg) rfl i_KG 1 (by decide) q_81 (Or.inl rfl) (v := .ref (ad 8 0)) rfl d_KG_begin_16 ?_
  refine lv_iload_n hx hb d_KG_begin_19 rfl (lv_at hl 1 rfl) ?_
  refine zaaP (k := u) hC hd (e_piles hX.ps) (by omega) (by decide) rfl d_KG_begin_20 ?_
  refine zgetN hC hd (e_pile (hX.pl (by omega))) rfl i_Pile 1 (by decide) z_74 (Or.inl rfl) (v := .int (nI (xn Z 9 u))) rfl d_KG_begin_21 ?_
  refine zi_le (x := xn Z 9 u) (tgt := 29) (by omega) hx hb d_KG_begin_24 (by decide) (fun c24 => ?_) (fun c24 => ?_)
  · have c24' := zi_z c24
    refine lv_aload_n hx hb d_KG_begin_29 rfl (lv_at hl 0 rfl) ?_
    refine zget hC hd (e_kg hX.kg) rfl i_KG 0 (by decide) q_80 (Or.inl rfl) (v := .ref (ad 3 0)) rfl d_KG_begin_30 ?_
    refine lv_iload_n hx hb d_KG_begin_33 rfl (lv_at hl 2 rfl) ?_
    refine zb_a (r := (ad 1 k)) hd (zrunV (n := 1) (rest := []) hC hd (e_list hX.l0) rfl (c_get l G ad ow Z hX 0 k k hX.l0 (show k < xn Z 2 0 by rw [hX.kl]; exact hk) (hX.ke hk)) q_352 q_353 q_354 q_4 q_355 rfl rfl rfl (by decide +kernel) ⟨by decide, by decide⟩ rfl hl.1 (Nat.le_of_ble_eq_true rfl) d_KG_begin_34 ⟨by decide, by decide⟩) (fun H locs hd => ?_)
    refine zcast hC hd (e_key hk) q_105 d_KG_begin_37 ?_
    refine lv_astore_n (lv' := [(3, .ref (ad 1 k)), (0, .ref (ad 0 0)), (1, .int (nI u)), (2, .int (nI k))]) hx hb d_KG_begin_40 rfl hl (by decide) rfl (fun ls hl => ?_)
    refine lv_aload_n hx hb d_KG_begin_41 rfl (lv_at hl 1 rfl) ?_
    refine lv_aload_n hx hb d_KG_begin_42 rfl (lv_at hl 0 rfl) ?_
    refine zb_i (r := (x_isSure Z k)) hd (zrunV (n := 1) (rest := []) hC hd (e_kg hX.kg) rfl (c_KG_isSure l G ad ow Z hX k (x_isSure Z k) hk rfl) q_421 q_423 qp_9 q_1 q_424 rfl rfl rfl (by decide +kernel) ⟨by decide, by decide⟩ rfl hl.1 (Nat.le_of_ble_eq_true rfl) d_KG_begin_43 ⟨by decide, by decide⟩) (fun H locs hd => ?_)
    refine lv_if_eq (tgt := 51) hx hb d_KG_begin_46 (by decide) (fun c46 => ?_) (fun c46 => ?_)
    · refine lv_aload_n hx hb d_KG_begin_51 rfl (lv_at hl 0 rfl) ?_
      refine zgetN hC hd (e_key hk) rfl i_Key 15 (by decide) z_135 (Or.inl rfl) (v := .int (xi Z 8 k)) rfl d_KG_begin_52 ?_
      refine lv_if_lt (tgt := 61) hx hb d_KG_begin_55 (by decide) (fun c55 => ?_) (fun c55 => ?_)
      · refine lv_aload_n hx hb d_KG_begin_61 rfl (lv_at hl 1 rfl) ?_
        refine lv_iload_n hx hb d_KG_begin_62 rfl (lv_at hl 2 rfl) ?_
        refine lv_aload_n hx hb d_KG_begin_63 rfl (lv_at hl 0 rfl) ?_
        refine zb_v hd (zrunV (n := 2) (rest := []) hC hd (e_kg hX.kg) rfl (c_KG_put l G ad ow Z hX u k (by omega) hk (show xn Z 9 u < 40 by omega) (hk6 c46)) q_425 q_427 qp_10 q_1 q_428 rfl rfl rfl (by decide +kernel) ⟨by decide, by decide⟩ rfl hl.1 (Nat.le_of_ble_eq_true rfl) d_KG_begin_64 ⟨by decide, by decide⟩) (fun H locs hd => ?_)
        refine lv_iconst (v := 1) hx hb d_KG_begin_67 (by decide) ?_
        exact zfi hC hd hr hlk d_KG_begin_68 (by unfold x_beginR; rw [hcl, hcu]; (repeat (first | (rw [if_pos]; rotate_left; first | assumption | decide) | (rw [if_neg]; rotate_left; first | assumption | decide))) <;> (try rfl)) (by unfold x_beginR; rw [hcl, hcu]; (repeat (first | (rw [if_pos]; rotate_left; first | assumption | decide) | (rw [if_neg]; rotate_left; first | assumption | decide))) <;> (try rfl))
      · refine lv_bipush (v := (-2)) hx hb d_KG_begin_58 (by decide) ?_
        exact zfi hC hd hr hlk d_KG_begin_60 (by unfold x_beginR; rw [hcl, hcu]; (repeat (first | (rw [if_pos]; rotate_left; first | assumption | decide) | (rw [if_neg]; rotate_left; first | assumption | decide))) <;> (try rfl)) (by unfold x_beginR; rw [hcl, hcu]; (repeat (first | (rw [if_pos]; rotate_left; first | assumption | decide) | (rw [if_neg]; rotate_left; first | assumption | decide))) <;> (try rfl))
    · refine lv_iconst (v := 0) hx hb d_KG_begin_49 (by decide) ?_
      exact zfi hC hd hr hlk d_KG_begin_50 (by unfold x_beginR; rw [hcl, hcu]; (repeat (first | (rw [if_pos]; rotate_left; first | assumption | decide) | (rw [if_neg]; rotate_left; first | assumption | decide))) <;> (try rfl)) (by unfold x_beginR; rw [hcl, hcu]; (repeat (first | (rw [if_pos]; rotate_left; first | assumption | decide) | (rw [if_neg]; rotate_left; first | assumption | decide))) <;> (try rfl))
  · have c24' := zi_p c24
    refine lv_iconst (v := (-1)) hx hb d_KG_begin_27 (by decide) ?_
    exact zfi hC hd hr hlk d_KG_begin_28 (by unfold x_beginR; rw [hcl, hcu]; (repeat (first | (rw [if_pos]; rotate_left; first | assumption | decide) | (rw [if_neg]; rotate_left; first | assumption | decide))) <;> (try rfl)) (by unfold x_beginR; rw [hcl, hcu]; (repeat (first | (rw [if_pos]; rotate_left; first | assumption | decide) | (rw [if_neg]; rotate_left; first | assumption | decide))) <;> (try rfl))
theorem x_notsure {Z : Zt} {k : Nat} (h6 : xn Z 1 k ≤ 6) (h : x_isSure Z k = 0) : xn Z 1 k < 6 := by
  by_cases h1 : xn Z 1 k = 6
  · unfold x_isSure at h; rw [if_pos h1] at h; exact absurd h (by decide)
  · omega
theorem c_KG_begin (l : Launch) (G : Gt) (ad : Nat → Nat → Nat) (ow : Nat → Nat × Nat) (Z : Zt) (hX : XS Z) (hps : ∀ q, xn Z 9 q ≤ 40) (h6 : ∀ q, xn Z 1 q ≤ 6) (w k : Int32) : Met l y_KG_begin w_KG_begin ({ frames := 3, cells := 0, slots := 0, locals := 65 }) (zPc G ad ow Z [.ref (ad 0 0), .int w, .int k]) (Qd G ad ow ((x_beginR Z w k).1) (some (.int (x_beginR Z w k).2))) 0 0 (zA G) := by
  have h40 := hX.k40
  have hkl := hX.kl
  rcases x_isWorker_cases w with hw | ⟨u, hu, rfl, hw⟩
  · exact c_KG_begin_now l G ad ow Z hX w k hw
  · rcases x_isKey_cases Z k (by omega) with h0 | ⟨j, hj, rfl, h0⟩
    · exact c_KG_begin_nok l G ad ow Z hX u hu k hw h0
    · exact c_KG_begin_yes l G ad ow Z hX hps u hu j (by omega) (x_notsure (h6 j)) hw h0
set_option maxHeartbeats 4000000 in
theorem c_KG_step_no (l : Launch) (G : Gt) (ad : Nat → Nat → Nat) (ow : Nat → Nat × Nat) (Z : Zt) (hX : XS Z) (w : Int32) (hw : x_isWorker w = 0) : Met l y_KG_step w_KG_step ({ frames := 6, cells := 0, slots := 0, locals := 136 }) (zPc G ad ow Z [.ref (ad 0 0), .int w]) (Qd G ad ow ((x_step Z w).1) (some (.int (x_step Z w).2))) 0 0 (zA G) := by
  refine zopen (cc := b_KG_step) (maxL := 2) (ret := (some FieldType.int)) (by decide) rfl (Nat.le_of_ble_eq_true rfl) ?_
  intro p e s m below meth c ls hC hr hlk hnm hd hl
  have hC : Cx G p c m s _ "KeyGraph" b_KG_step 2 := hC
  have hl : lv_has ls 2 [(0, .ref (ad 0 0)), (1, .int w)] := hl
  have hx := hC.1
  have hb := hC.2.1
  refine lv_iload_n hx hb d_KG_step_0 rfl (lv_at hl 1 rfl) ?_
  refine zb_i (r := 0) hd (zrunS (n := 1) (rest := []) hC hd (c_KG_isWorker l G ad ow Z w 0 hw) q_418 q_419 q_1 q_420 rfl rfl rfl (by decide +kernel) ⟨by decide, by decide⟩ rfl hl.1 (Nat.le_of_ble_eq_true rfl) d_KG_step_1 ⟨by decide, by decide⟩) (fun H locs hd => ?_)
  refine lv_if_eq (tgt := 15) hx hb d_KG_step_4 (by decide) (fun _ => ?_) (fun c => absurd c (by decide))
  refine lv_iconst (v := (-1)) hx hb d_KG_step_15 (by decide) ?_
  exact zfi hC hd hr hlk d_KG_step_16 (by unfold x_step; (repeat (first | (rw [if_pos]; rotate_left; first | assumption | decide) | (rw [if_neg]; rotate_left; first | assumption | decide))) <;> (try rfl)) (by unfold x_step; (repeat (first | (rw [if_pos]; rotate_left; first | assumption | decide) | (rw [if_neg]; rotate_left; first | assumption | decide))) <;> (try rfl))
set_option maxHeartbeats 4000000 in
theorem c_KG_step_yes (l : Launch) (G : Gt) (ad : Nat → Nat → Nat) (ow : Nat → Nat × Nat) (Z : Zt) (hX : XS Z) (u : Nat) (hu : u < 4) (hw : x_isWorker (nI u) = 1) (hsp : StepPre Z u) (hab : ∀ k, xn Z 6 k ≤ 2147483647 ∧ xn Z 4 k ≤ 2147483647) : Met l y_KG_step w_KG_step ({ frames := 6, cells := 0, slots := 0, locals := 136 }) (zPc G ad ow Z [.ref (ad 0 0), .int (nI u)]) (Qd G ad ow ((x_step Z (nI u)).1) (some (.int (x_step Z (nI u)).2))) 0 0 (zA G) := by
  refine zopen (cc := b_KG_step) (maxL := 2) (ret := (some FieldType.int)) (by decide) rfl (Nat.le_of_ble_eq_true rfl) ?_
  intro p e s m below meth c ls hC hr hlk hnm hd hl
  have hC : Cx G p c m s _ "KeyGraph" b_KG_step 2 := hC
  have hl : lv_has ls 2 [(0, .ref (ad 0 0)), (1, .int (nI u))] := hl
  have hx := hC.1
  have hb := hC.2.1
  have hwn : ¬ x_isWorker (nI u) = 0 := by rw [hw]; decide
  have hcu : (nI u).toNatClampNeg = u := nI_clamp (by omega)
  refine lv_iload_n hx hb d_KG_step_0 rfl (lv_at hl 1 rfl) ?_
  refine zb_i (r := 1) hd (zrunS (n := 1) (rest := []) hC hd (c_KG_isWorker l G ad ow Z (nI u) 1 hw) q_418 q_419 q_1 q_420 rfl rfl rfl (by decide +kernel) ⟨by decide, by decide⟩ rfl hl.1 (Nat.le_of_ble_eq_true rfl) d_KG_step_1 ⟨by decide, by decide⟩) (fun H locs hd => ?_)
  refine lv_if_eq (tgt := 15) hx hb d_KG_step_4 (by decide) (fun c => absurd c (by decide)) (fun _ => ?_)
  refine lv_aload_n hx hb d_KG_step_7 rfl (lv_at hl 0 rfl) ?_
  refine lv_iload_n hx hb d_KG_step_8 rfl (lv_at hl 1 rfl) ?_
  refine zb_i (r := ((x_stepOf Z u).2)) hd (zrunV (n := 1) (rest := []) hC hd (e_kg hX.kg) rfl (c_KG_stepOf l G ad ow Z u hsp hab) q_449 q_451 qp_11 q_1 q_452 rfl rfl rfl (by decide +kernel) ⟨by decide, by decide⟩ rfl hl.1 (Nat.le_of_ble_eq_true rfl) d_KG_step_9 ⟨by decide, by decide⟩) (fun H locs hd => ?_)
  refine lv_goto (tgt := 16) hx hb d_KG_step_12 (by decide) ?_
  exact zfi hC hd hr hlk d_KG_step_16 (by unfold x_step; rw [hcu]; (repeat (first | (rw [if_pos]; rotate_left; first | assumption | decide) | (rw [if_neg]; rotate_left; first | assumption | decide))) <;> (try rfl)) (by unfold x_step; rw [hcu]; (repeat (first | (rw [if_pos]; rotate_left; first | assumption | decide) | (rw [if_neg]; rotate_left; first | assumption | decide))) <;> (try rfl))
def x_runs : Nat → Zt → Int32 → Zt → Int32 → Prop
  | 0, _, _, _, _ => False
  | n + 1, Z, g, Z', g' => if g = 0 then (Z' = Z ∧ g' = g) else if g = 3 then (Z' = Z ∧ g' = g) else (StepPre Z 4 ∧ ∀ k, xn Z 6 k ≤ 2147483647 ∧ xn Z 4 k ≤ 2147483647) ∧ x_runs n (x_stepOf Z 4).1 (x_stepOf Z 4).2 Z' g'
theorem x_put_xn (Z : Zt) (u k t i : Nat) (h1 : t ≠ 9) (h2 : t ≠ 6) (h3 : t ≠ 5) : xn (x_put Z u k) t i = xn Z t i := by
  unfold x_put
  rw [x_begin_xn]
  unfold x_putA
  rw [xn_sn, if_neg (fun q => h3 q.1), xn_si, xn_sn, if_neg (fun q => h2 q.1), xn_si, xn_sn, if_neg (fun q => h1 q.1), xn_sc]
theorem x_put_XS {Z : Zt} (hX : XS Z) (u k : Nat) : XS (x_put Z u k) := by
  refine hX.of (fun i => x_put_xn Z u k 0 i (by decide) (by decide) (by decide)) (fun i => x_put_xn Z u k 2 i (by decide) (by decide) (by decide)) (fun i => x_put_xn Z u k 3 i (by decide) (by decide) (by decide)) (fun i j => ?_) (fun q hq => ?_)
  · unfold x_put; rw [x_begin_xc]; rfl
  · rw [x_put_xn Z u k 7 q (by decide) (by decide) (by decide), x_put_xn Z u k 8 q (by decide) (by decide) (by decide)]; exact hX.2.2.2.2.2 q hq
set_option maxHeartbeats 4000000 in
theorem lq_KG_run {p : Program} {l : Launch} {e : Env} {s : State} {m : MethodId} {args : Array Value} {below : List Frame} {meth : Method} {c : Code} {Q : State → Prop} {G : Gt} {ad : Nat → Nat → Nat} {ow : Nat → Nat × Nat} (k : Nat) (Z9 : Zt) (g9 : Int32) (hC : Cx G p c m s args "KeyGraph" b_KG_run 5) : ∀ (n : Nat) (Z : Zt) (g : Int32) (ls : Array Slot) (H : Heap) (locs : List Loc), x_runs n Z g Z9 g9 → (g = 0 ∨ g = 3) → Dy G ad ow Z s H locs → lv_has ls 5 [(3, .int g), (2, .ref (ad 1 k)), (0, .ref (ad 0 0)), (1, .int (nI k))] → (∀ (ls : Array Slot) (H : Heap) (locs : List Loc), Dy G ad ow Z9 s H locs → lv_has ls 5 [(3, .int g9), (2, .ref (ad 1 k)), (0, .ref (ad 0 0)), (1, .int (nI k))] → W p l e ({ frames := 6, cells := 0, slots := 0, locals := 136 } : Room) s m args below meth c H locs 0 0 Q (F0 m 66 ls [])) → W p l e ({ frames := 6, cells := 0, slots := 0, locals := 136 } : Room) s m args below meth c H locs 0 0 Q (F0 m 48 ls []) := by
  have hx := hC.1
  have hb := hC.2.1
  intro n Z g ls H locs hrun hg hd hl kk
  cases n with
  | zero => exact hrun.elim
  | succ n =>
    unfold x_runs at hrun
    refine lv_iload_n hx hb d_KG_run_48 rfl (lv_at hl 0 rfl) ?_
    refine lv_if_eq (tgt := 66) hx hb d_KG_run_49 (by decide) (fun c49 => ?_) (fun c49 => ?_)
    · rw [if_pos c49] at hrun
      obtain ⟨rfl, rfl⟩ := hrun
      exact kk ls H locs hd hl
    · refine lv_iload_n hx hb d_KG_run_52 rfl (lv_at hl 0 rfl) ?_
      refine lv_iconst (v := 3) hx hb d_KG_run_53 (by decide) ?_
      refine lv_icmp_eq (tgt := 66) hx hb d_KG_run_54 (by decide) (fun c54 => ?_) (fun c54 => absurd hg (fun q => q.elim c49 c54))
      rw [if_neg c49, if_pos c54] at hrun
      obtain ⟨rfl, rfl⟩ := hrun
      exact kk ls H locs hd hl
set_option maxHeartbeats 4000000 in
theorem lp_KG_run {p : Program} {l : Launch} {e : Env} {s : State} {m : MethodId} {args : Array Value} {below : List Frame} {meth : Method} {c : Code} {Q : State → Prop} {G : Gt} {ad : Nat → Nat → Nat} {ow : Nat → Nat × Nat} (k : Nat) (Z9 : Zt) (g9 : Int32) (hC : Cx G p c m s args "KeyGraph" b_KG_run 5) : ∀ (n : Nat) (Z : Zt) (g : Int32) (ls : Array Slot) (H : Heap) (locs : List Loc), XS Z → x_runs n Z g Z9 g9 → Dy G ad ow Z s H locs → lv_has ls 5 [(3, .int g), (2, .ref (ad 1 k)), (0, .ref (ad 0 0)), (1, .int (nI k))] → (∀ (ls : Array Slot) (H : Heap) (locs : List Loc), Dy G ad ow Z9 s H locs → lv_has ls 5 [(3, .int g9), (2, .ref (ad 1 k)), (0, .ref (ad 0 0)), (1, .int (nI k))] → W p l e ({ frames := 6, cells := 0, slots := 0, locals := 136 } : Room) s m args below meth c H locs 0 0 Q (F0 m 66 ls [])) → W p l e ({ frames := 6, cells := 0, slots := 0, locals := 136 } : Room) s m args below meth c H locs 0 0 Q (F0 m 48 ls []) := by
  have hx := hC.1
  have hb := hC.2.1
  intro n
  induction n with
  | zero => exact fun Z g ls H locs hX hrun => hrun.elim
  | succ n ih =>
    intro Z g ls H locs hX hrun hd hl kk
    unfold x_runs at hrun
    refine lv_iload_n hx hb d_KG_run_48 rfl (lv_at hl 0 rfl) ?_
    refine lv_if_eq (tgt := 66) hx hb d_KG_run_49 (by decide) (fun c49 => ?_) (fun c49 => ?_)
    · rw [if_pos c49] at hrun
      obtain ⟨rfl, rfl⟩ := hrun
      exact kk ls H locs hd hl
    · refine lv_iload_n hx hb d_KG_run_52 rfl (lv_at hl 0 rfl) ?_
      refine lv_iconst (v := 3) hx hb d_KG_run_53 (by decide) ?_
      refine lv_icmp_eq (tgt := 66) hx hb d_KG_run_54 (by decide) (fun c54 => ?_) (fun c54 => ?_)
      · rw [if_neg c49, if_pos c54] at hrun
        obtain ⟨rfl, rfl⟩ := hrun
        exact kk ls H locs hd hl
      · rw [if_neg c49, if_neg c54] at hrun
        obtain ⟨⟨hsp, hab⟩, hrun⟩ := hrun
        refine lv_aload_n hx hb d_KG_run_57 rfl (lv_at hl 2 rfl) ?_
        refine lv_iconst (v := 4) hx hb d_KG_run_58 (by decide) ?_
        refine zb_i (r := ((x_stepOf Z 4).2)) hd (zrunV (n := 1) (rest := []) hC hd (e_kg hX.kg) rfl (c_KG_stepOf l G ad ow Z 4 hsp hab) q_449 q_451 qp_11 q_1 q_452 rfl rfl rfl (by decide +kernel) ⟨by decide, by decide⟩ rfl hl.1 (Nat.le_of_ble_eq_true rfl) d_KG_run_59 ⟨by decide, by decide⟩) (fun H locs hd => ?_)
        refine lv_istore_n (lv' := [(3, .int ((x_stepOf Z 4).2)), (2, .ref (ad 1 k)), (0, .ref (ad 0 0)), (1, .int (nI k))]) hx hb d_KG_run_62 rfl hl (by decide) rfl (fun ls hl => ?_)
        refine lv_goto (tgt := 48) hx hb d_KG_run_63 (by decide) ?_
        by_cases hg0 : (x_stepOf Z 4).2 = 0 ∨ (x_stepOf Z 4).2 = 3
        · exact lq_KG_run k Z9 g9 hC n _ _ ls H locs hrun hg0 hd (lv_sub hl [0, 1, 2, 3] rfl) kk
        · refine ih _ _ ls H locs ?_ hrun hd (lv_sub hl [0, 1, 2, 3] rfl) kk
          cases n with
          | zero => exact hrun.elim
          | succ n =>
            unfold x_runs at hrun
            rw [if_neg (fun q => hg0 (Or.inl q)), if_neg (fun q => hg0 (Or.inr q))] at hrun
            exact hrun.1.1.1
set_option maxHeartbeats 4000000 in
theorem lc_KG_run {p : Program} {l : Launch} {e : Env} {s : State} {m : MethodId} {args : Array Value} {below : List Frame} {meth : Method} {c : Code} {Q : State → Prop} {G : Gt} {ad : Nat → Nat → Nat} {ow : Nat → Nat × Nat} (u : Nat) (hu : u < 5) (k : Nat) (g : Int32) (hC : Cx G p c m s args "KeyGraph" b_KG_run 5) : ∀ (n : Nat) (Z : Zt) (ls : Array Slot) (H : Heap) (locs : List Loc), xn Z 9 u = n → XS Z → PileOk Z u → Dy G ad ow Z s H locs → lv_has ls 5 [(4, .ref (ad 6 u)), (3, .int g), (2, .ref (ad 1 k)), (0, .ref (ad 0 0)), (1, .int (nI k))] → (∀ (ls : Array Slot) (H : Heap) (locs : List Loc), Dy G ad ow (x_clr u Z n) s H locs → lv_has ls 5 [(4, .ref (ad 6 u)), (3, .int g), (2, .ref (ad 1 k)), (0, .ref (ad 0 0)), (1, .int (nI k))] → W p l e ({ frames := 6, cells := 0, slots := 0, locals := 136 } : Room) s m args below meth c H locs 0 0 Q (F0 m 110 ls [])) → W p l e ({ frames := 6, cells := 0, slots := 0, locals := 136 } : Room) s m args below meth c H locs 0 0 Q (F0 m 79 ls []) := by
  have hx := hC.1
  have hb := hC.2.1
  intro n
  induction n with
  | zero =>
    intro Z ls H locs hn hX hp hd hl kk
    refine lv_aload hx hb d_KG_run_79 (lv_at hl 0 rfl) ?_
    refine zgetN hC hd (e_pile (hX.pl hu)) rfl i_Pile 1 (by decide) z_74 (Or.inl rfl) (v := .int (nI (xn Z 9 u))) rfl d_KG_run_81 ?_
    refine zi_le (x := xn Z 9 u) (tgt := 110) (by omega) hx hb d_KG_run_84 (by decide) (fun c84 => ?_) (fun c84 => absurd hn (by omega))
    exact kk ls H locs hd hl
  | succ n ih =>
    intro Z ls H locs hn hX hp hd hl kk
    obtain ⟨h40, hq⟩ := hp
    obtain ⟨k, hkn, hk⟩ := hq n (by omega)
    have hne : xc Z 7 u (xn Z 9 u - 1) = k + 1 := by rw [show xn Z 9 u - 1 = n by omega]; exact hk
    refine lv_aload hx hb d_KG_run_79 (lv_at hl 0 rfl) ?_
    refine zgetN hC hd (e_pile (hX.pl hu)) rfl i_Pile 1 (by decide) z_74 (Or.inl rfl) (v := .int (nI (xn Z 9 u))) rfl d_KG_run_81 ?_
    refine zi_le (x := xn Z 9 u) (tgt := 110) (by omega) hx hb d_KG_run_84 (by decide) (fun c84 => absurd hn (by omega)) (fun c84 => ?_)
    refine lv_aload hx hb d_KG_run_87 (lv_at hl 0 rfl) ?_
    refine zb_a (r := (ad 1 k)) hd (zrunV (n := 0) (rest := []) hC hd (e_pile (hX.pl hu)) rfl (c_Pile_top l G ad ow Z hX u hu (by omega) (by omega) k hne) q_394 q_395 q_396 q_5 q_397 rfl rfl rfl (by decide +kernel) ⟨by decide, by decide⟩ rfl hl.1 (Nat.le_of_ble_eq_true rfl) d_KG_run_89 ⟨by decide, by decide⟩) (fun H locs hd => ?_)
    refine lv_iconst (v := (-1)) hx hb d_KG_run_92 (by decide) ?_
    refine zputN (Z' := (si Z 8 k (-1))) (v := .int (-1)) hC hd (e_key hkn) rfl i_Key t_Key t_Key_ok n_Key 15 (by decide) z_135 rfl rfl rfl rfl (Nat.le_of_ble_eq_true rfl) (u_worker hkn) d_KG_run_93 (fun H locs hd => ?_)
    refine lv_aload hx hb d_KG_run_96 (lv_at hl 0 rfl) ?_
    refine lv_dup hx hb d_KG_run_98 rfl ?_
    refine zgetN hC hd (e_pile (hX.pl hu)) rfl i_Pile 1 (by decide) z_74 (Or.inl rfl) (v := .int (nI (xn Z 9 u))) rfl d_KG_run_99 ?_
    refine lv_iconst (v := 1) hx hb d_KG_run_102 (by decide) ?_
    refine zsubN (x := xn Z 9 u) (y := 1) (by omega) hx hb d_KG_run_103 ?_
    refine zputN (Z' := (sn (si Z 8 k (-1)) 9 u ((xn Z 9 u) - 1))) (v := .int (nI ((xn Z 9 u) - 1))) hC hd (e_pile (hX.pl hu)) rfl i_Pile t_Pile t_Pile_ok n_Pile 1 (by decide) z_74 rfl rfl rfl rfl (Nat.le_of_ble_eq_true rfl) (u_psz (hX.pl hu)) d_KG_run_104 (fun H locs hd => ?_)
    refine lv_goto (tgt := 79) hx hb d_KG_run_107 (by decide) ?_
    have ez : (sn (si Z 8 k (-1)) 9 u ((xn Z 9 u) - 1)) = sn (si Z 8 (xc Z 7 u n - 1) (-1)) 9 u n := by rw [show xn Z 9 u - 1 = n by omega, show xc Z 7 u n - 1 = k by omega]
    have hd := Dy.eq hd ez
    refine ih (sn (si Z 8 (xc Z 7 u n - 1) (-1)) 9 u n) ls H locs (by rw [xn_sn, if_pos ⟨rfl, rfl⟩]) hX ⟨by rw [xn_sn, if_pos ⟨rfl, rfl⟩]; omega, fun j hj => hq j (by rw [xn_sn, if_pos ⟨rfl, rfl⟩] at hj; omega)⟩ hd (lv_sub hl [0, 1, 2, 3, 4] rfl) (fun ls H locs hd hl => kk ls H locs hd ?_)
    exact hl
set_option maxHeartbeats 4000000 in
theorem c_KG_run_no (l : Launch) (G : Gt) (ad : Nat → Nat → Nat) (ow : Nat → Nat × Nat) (Z : Zt) (hX : XS Z) (k : Int32) (h0 : x_isKey Z k = 0) : Met l y_KG_run w_KG_run ({ frames := 6, cells := 0, slots := 0, locals := 136 }) (zPc G ad ow Z [.ref (ad 0 0), .int k]) (Qd G ad ow Z (some (.int (-1)))) 0 0 (zA G) := by
  refine zopen (cc := b_KG_run) (maxL := 5) (ret := (some FieldType.int)) (by decide) rfl (Nat.le_of_ble_eq_true rfl) ?_
  intro p e s m below meth c ls hC hr hlk hnm hd hl
  have hC : Cx G p c m s _ "KeyGraph" b_KG_run 5 := hC
  have hl : lv_has ls 5 [(0, .ref (ad 0 0)), (1, .int k)] := hl
  have hx := hC.1
  have hb := hC.2.1
  refine lv_aload_n hx hb d_KG_run_0 rfl (lv_at hl 0 rfl) ?_
  refine lv_iload_n hx hb d_KG_run_1 rfl (lv_at hl 1 rfl) ?_
  refine zb_i (r := 0) hd (zrunV (n := 1) (rest := []) hC hd (e_kg hX.kg) rfl (c_KG_isKey l G ad ow Z hX k 0 h0) q_348 q_350 qp_4 q_1 q_351 rfl rfl rfl (by decide +kernel) ⟨by decide, by decide⟩ rfl hl.1 (Nat.le_of_ble_eq_true rfl) d_KG_run_2 ⟨by decide, by decide⟩) (fun H locs hd => ?_)
  refine lv_if_ne (tgt := 10) hx hb d_KG_run_5 (by decide) (fun c => absurd c (by decide)) (fun _ => ?_)
  refine lv_iconst (v := (-1)) hx hb d_KG_run_8 (by decide) ?_
  exact zfi hC hd hr hlk d_KG_run_9 rfl rfl
set_option maxHeartbeats 4000000 in
theorem c_KG_run_sure (l : Launch) (G : Gt) (ad : Nat → Nat → Nat) (ow : Nat → Nat × Nat) (Z : Zt) (hX : XS Z) (k : Nat) (hk : k < xn Z 0 1) (h0 : x_isKey Z (nI k) = 1) (h1 : x_isSure Z k = 1) : Met l y_KG_run w_KG_run ({ frames := 6, cells := 0, slots := 0, locals := 136 }) (zPc G ad ow Z [.ref (ad 0 0), .int (nI k)]) (Qd G ad ow Z (some (.int (xi Z 1 k)))) 0 0 (zA G) := by
  refine zopen (cc := b_KG_run) (maxL := 5) (ret := (some FieldType.int)) (by decide) rfl (Nat.le_of_ble_eq_true rfl) ?_
  intro p e s m below meth c ls hC hr hlk hnm hd hl
  have hC : Cx G p c m s _ "KeyGraph" b_KG_run 5 := hC
  have hl : lv_has ls 5 [(0, .ref (ad 0 0)), (1, .int (nI k))] := hl
  have hx := hC.1
  have hb := hC.2.1
  have h40 := hX.k40
  refine lv_aload_n hx hb d_KG_run_0 rfl (lv_at hl 0 rfl) ?_
  refine lv_iload_n hx hb d_KG_run_1 rfl (lv_at hl 1 rfl) ?_
  refine zb_i (r := 1) hd (zrunV (n := 1) (rest := []) hC hd (e_kg hX.kg) rfl (c_KG_isKey l G ad ow Z hX (nI k) 1 h0) q_348 q_350 qp_4 q_1 q_351 rfl rfl rfl (by decide +kernel) ⟨by decide, by decide⟩ rfl hl.1 (Nat.le_of_ble_eq_true rfl) d_KG_run_2 ⟨by decide, by decide⟩) (fun H locs hd => ?_)
  refine lv_if_ne (tgt := 10) hx hb d_KG_run_5 (by decide) (fun _ => ?_) (fun c => absurd c (by decide))
  refine lv_aload_n hx hb d_KG_run_10 rfl (lv_at hl 0 rfl) ?_
  refine zget hC hd (e_kg hX.kg) rfl i_KG 0 (by decide) q_80 (Or.inl rfl) (v := .ref (ad 3 0)) rfl d_KG_run_11 ?_
  refine lv_iload_n hx hb d_KG_run_14 rfl (lv_at hl 1 rfl) ?_
  refine zb_a (r := (ad 1 k)) hd (zrunV (n := 1) (rest := []) hC hd (e_list hX.l0) rfl (c_get l G ad ow Z hX 0 k k hX.l0 (show k < xn Z 2 0 by rw [hX.kl]; exact hk) (hX.ke hk)) q_352 q_353 q_354 q_4 q_355 rfl rfl rfl (by decide +kernel) ⟨by decide, by decide⟩ rfl hl.1 (Nat.le_of_ble_eq_true rfl) d_KG_run_15 ⟨by decide, by decide⟩) (fun H locs hd => ?_)
  refine zcast hC hd (e_key hk) q_105 d_KG_run_18 ?_
  refine lv_astore_n (lv' := [(2, .ref (ad 1 k)), (0, .ref (ad 0 0)), (1, .int (nI k))]) hx hb d_KG_run_21 rfl hl (by decide) rfl (fun ls hl => ?_)
  refine lv_aload_n hx hb d_KG_run_22 rfl (lv_at hl 1 rfl) ?_
  refine lv_aload_n hx hb d_KG_run_23 rfl (lv_at hl 0 rfl) ?_
  refine zb_i (r := 1) hd (zrunV (n := 1) (rest := []) hC hd (e_kg hX.kg) rfl (c_KG_isSure l G ad ow Z hX k 1 hk h1) q_421 q_423 qp_9 q_1 q_424 rfl rfl rfl (by decide +kernel) ⟨by decide, by decide⟩ rfl hl.1 (Nat.le_of_ble_eq_true rfl) d_KG_run_24 ⟨by decide, by decide⟩) (fun H locs hd => ?_)
  refine lv_if_ne (tgt := 113) hx hb d_KG_run_27 (by decide) (fun _ => ?_) (fun c => absurd c (by decide))
  refine lv_aload_n hx hb d_KG_run_113 rfl (lv_at hl 0 rfl) ?_
  refine zgetN hC hd (e_key hk) rfl i_Key 3 (by decide) z_119 (Or.inl rfl) (v := .int (xi Z 1 k)) rfl d_KG_run_114 ?_
  exact zfi hC hd hr hlk d_KG_run_117 rfl rfl
set_option maxHeartbeats 4000000 in
theorem c_KG_run_on (l : Launch) (G : Gt) (ad : Nat → Nat → Nat) (ow : Nat → Nat × Nat) (Z : Zt) (hX : XS Z) (k : Nat) (hk : k < xn Z 0 1) (h0 : x_isKey Z (nI k) = 1) (h1 : x_isSure Z k = 0) (h2 : ¬ xi Z 8 k < 0) : Met l y_KG_run w_KG_run ({ frames := 6, cells := 0, slots := 0, locals := 136 }) (zPc G ad ow Z [.ref (ad 0 0), .int (nI k)]) (Qd G ad ow Z (some (.int (-2)))) 0 0 (zA G) := by
  refine zopen (cc := b_KG_run) (maxL := 5) (ret := (some FieldType.int)) (by decide) rfl (Nat.le_of_ble_eq_true rfl) ?_
  intro p e s m below meth c ls hC hr hlk hnm hd hl
  have hC : Cx G p c m s _ "KeyGraph" b_KG_run 5 := hC
  have hl : lv_has ls 5 [(0, .ref (ad 0 0)), (1, .int (nI k))] := hl
  have hx := hC.1
  have hb := hC.2.1
  have h40 := hX.k40
  refine lv_aload_n hx hb d_KG_run_0 rfl (lv_at hl 0 rfl) ?_
  refine lv_iload_n hx hb d_KG_run_1 rfl (lv_at hl 1 rfl) ?_
  refine zb_i (r := 1) hd (zrunV (n := 1) (rest := []) hC hd (e_kg hX.kg) rfl (c_KG_isKey l G ad ow Z hX (nI k) 1 h0) q_348 q_350 qp_4 q_1 q_351 rfl rfl rfl (by decide +kernel) ⟨by decide, by decide⟩ rfl hl.1 (Nat.le_of_ble_eq_true rfl) d_KG_run_2 ⟨by decide, by decide⟩) (fun H locs hd => ?_)
  refine lv_if_ne (tgt := 10) hx hb d_KG_run_5 (by decide) (fun _ => ?_) (fun c => absurd c (by decide))
  refine lv_aload_n hx hb d_KG_run_10 rfl (lv_at hl 0 rfl) ?_
  refine zget hC hd (e_kg hX.kg) rfl i_KG 0 (by decide) q_80 (Or.inl rfl) (v := .ref (ad 3 0)) rfl d_KG_run_11 ?_
  refine lv_iload_n hx hb d_KG_run_14 rfl (lv_at hl 1 rfl) ?_
  refine zb_a (r := (ad 1 k)) hd (zrunV (n := 1) (rest := []) hC hd (e_list hX.l0) rfl (c_get l G ad ow Z hX 0 k k hX.l0 (show k < xn Z 2 0 by rw [hX.kl]; exact hk) (hX.ke hk)) q_352 q_353 q_354 q_4 q_355 rfl rfl rfl (by decide +kernel) ⟨by decide, by decide⟩ rfl hl.1 (Nat.le_of_ble_eq_true rfl) d_KG_run_15 ⟨by decide, by decide⟩) (fun H locs hd => ?_)
  refine zcast hC hd (e_key hk) q_105 d_KG_run_18 ?_
  refine lv_astore_n (lv' := [(2, .ref (ad 1 k)), (0, .ref (ad 0 0)), (1, .int (nI k))]) hx hb d_KG_run_21 rfl hl (by decide) rfl (fun ls hl => ?_)
  refine lv_aload_n hx hb d_KG_run_22 rfl (lv_at hl 1 rfl) ?_
  refine lv_aload_n hx hb d_KG_run_23 rfl (lv_at hl 0 rfl) ?_
  refine zb_i (r := 0) hd (zrunV (n := 1) (rest := []) hC hd (e_kg hX.kg) rfl (c_KG_isSure l G ad ow Z hX k 0 hk h1) q_421 q_423 qp_9 q_1 q_424 rfl rfl rfl (by decide +kernel) ⟨by decide, by decide⟩ rfl hl.1 (Nat.le_of_ble_eq_true rfl) d_KG_run_24 ⟨by decide, by decide⟩) (fun H locs hd => ?_)
  refine lv_if_ne (tgt := 113) hx hb d_KG_run_27 (by decide) (fun c => absurd c (by decide)) (fun _ => ?_)
  refine lv_aload_n hx hb d_KG_run_30 rfl (lv_at hl 0 rfl) ?_
  refine zgetN hC hd (e_key hk) rfl i_Key 15 (by decide) z_135 (Or.inl rfl) (v := .int (xi Z 8 k)) rfl d_KG_run_31 ?_
  refine lv_if_lt (tgt := 40) hx hb d_KG_run_34 (by decide) (fun c34 => absurd c34 h2) (fun c34 => ?_)
  refine lv_bipush (v := (-2)) hx hb d_KG_run_37 (by decide) ?_
  exact zfi hC hd hr hlk d_KG_run_39 rfl rfl
set_option maxHeartbeats 4000000 in
theorem c_KG_run_wait (l : Launch) (G : Gt) (ad : Nat → Nat → Nat) (ow : Nat → Nat × Nat) (Z : Zt) (hX : XS Z) (k : Nat) (hk : k < xn Z 0 1) (h0 : x_isKey Z (nI k) = 1) (h1 : x_isSure Z k = 0) (h2 : xi Z 8 k < 0) (hps : xn Z 9 4 < 40) (hk6 : xn Z 1 k < 6) (N : Nat) (Z9 : Zt) (g9 : Int32) (hrun : x_runs N (x_put Z 4 k) 1 Z9 g9) (hX9 : XS Z9) (hkn9 : k < xn Z9 0 1) (hg9 : g9 = 3) (hp9 : PileOk Z9 4) : Met l y_KG_run w_KG_run ({ frames := 6, cells := 0, slots := 0, locals := 136 }) (zPc G ad ow Z [.ref (ad 0 0), .int (nI k)]) (Qd G ad ow (x_clr 4 Z9 (xn Z9 9 4)) (some (.int (-2)))) 0 0 (zA G) := by
  refine zopen (cc := b_KG_run) (maxL := 5) (ret := (some FieldType.int)) (by decide) rfl (Nat.le_of_ble_eq_true rfl) ?_
  intro p e s m below meth c ls hC hr hlk hnm hd hl
  have hC : Cx G p c m s _ "KeyGraph" b_KG_run 5 := hC
  have hl : lv_has ls 5 [(0, .ref (ad 0 0)), (1, .int (nI k))] := hl
  have hx := hC.1
  have hb := hC.2.1
  have h40 := hX.k40
  refine lv_aload_n hx hb d_KG_run_0 rfl (lv_at hl 0 rfl) ?_
  refine lv_iload_n hx hb d_KG_run_1 rfl (lv_at hl 1 rfl) ?_
  refine zb_i (r := 1) hd (zrunV (n := 1) (rest := []) hC hd (e_kg hX.kg) rfl (c_KG_isKey l G ad ow Z hX (nI k) 1 h0) q_348 q_350 qp_4 q_1 q_351 rfl rfl rfl (by decide +kernel) ⟨by decide, by decide⟩ rfl hl.1 (Nat.le_of_ble_eq_true rfl) d_KG_run_2 ⟨by decide, by decide⟩) (fun H locs hd => ?_)
  refine lv_if_ne (tgt := 10) hx hb d_KG_run_5 (by decide) (fun _ => ?_) (fun c => absurd c (by decide))
  refine lv_aload_n hx hb d_KG_run_10 rfl (lv_at hl 0 rfl) ?_
  refine zget hC hd (e_kg hX.kg) rfl i_KG 0 (by decide) q_80 (Or.inl rfl) (v := .ref (ad 3 0)) rfl d_KG_run_11 ?_
  refine lv_iload_n hx hb d_KG_run_14 rfl (lv_at hl 1 rfl) ?_
  refine zb_a (r := (ad 1 k)) hd (zrunV (n := 1) (rest := []) hC hd (e_list hX.l0) rfl (c_get l G ad ow Z hX 0 k k hX.l0 (show k < xn Z 2 0 by rw [hX.kl]; exact hk) (hX.ke hk)) q_352 q_353 q_354 q_4 q_355 rfl rfl rfl (by decide +kernel) ⟨by decide, by decide⟩ rfl hl.1 (Nat.le_of_ble_eq_true rfl) d_KG_run_15 ⟨by decide, by decide⟩) (fun H locs hd => ?_)
  refine zcast hC hd (e_key hk) q_105 d_KG_run_18 ?_
  refine lv_astore_n (lv' := [(2, .ref (ad 1 k)), (0, .ref (ad 0 0)), (1, .int (nI k))]) hx hb d_KG_run_21 rfl hl (by decide) rfl (fun ls hl => ?_)
  refine lv_aload_n hx hb d_KG_run_22 rfl (lv_at hl 1 rfl) ?_
  refine lv_aload_n hx hb d_KG_run_23 rfl (lv_at hl 0 rfl) ?_
  refine zb_i (r := 0) hd (zrunV (n := 1) (rest := []) hC hd (e_kg hX.kg) rfl (c_KG_isSure l G ad ow Z hX k 0 hk h1) q_421 q_423 qp_9 q_1 q_424 rfl rfl rfl (by decide +kernel) ⟨by decide, by decide⟩ rfl hl.1 (Nat.le_of_ble_eq_true rfl) d_KG_run_24 ⟨by decide, by decide⟩) (fun H locs hd => ?_)
  refine lv_if_ne (tgt := 113) hx hb d_KG_run_27 (by decide) (fun c => absurd c (by decide)) (fun _ => ?_)
  refine lv_aload_n hx hb d_KG_run_30 rfl (lv_at hl 0 rfl) ?_
  refine zgetN hC hd (e_key hk) rfl i_Key 15 (by decide) z_135 (Or.inl rfl) (v := .int (xi Z 8 k)) rfl d_KG_run_31 ?_
  refine lv_if_lt (tgt := 40) hx hb d_KG_run_34 (by decide) (fun c34 => ?_) (fun c34 => absurd h2 c34)
  refine lv_aload_n hx hb d_KG_run_40 rfl (lv_at hl 1 rfl) ?_
  refine lv_iconst (v := 4) hx hb d_KG_run_41 (by decide) ?_
  refine lv_aload_n hx hb d_KG_run_42 rfl (lv_at hl 0 rfl) ?_
  refine zb_v hd (zrunV (n := 2) (rest := []) hC hd (e_kg hX.kg) rfl (c_KG_put l G ad ow Z hX 4 k (by omega) hk hps hk6) q_425 q_427 qp_10 q_1 q_428 rfl rfl rfl (by decide +kernel) ⟨by decide, by decide⟩ rfl hl.1 (Nat.le_of_ble_eq_true rfl) d_KG_run_43 ⟨by decide, by decide⟩) (fun H locs hd => ?_)
  refine lv_iconst (v := 1) hx hb d_KG_run_46 (by decide) ?_
  refine lv_istore_n (lv' := [(3, .int 1), (2, .ref (ad 1 k)), (0, .ref (ad 0 0)), (1, .int (nI k))]) hx hb d_KG_run_47 rfl hl (by decide) rfl (fun ls hl => ?_)
  refine lp_KG_run k Z9 g9 hC N (x_put Z 4 k) 1 ls H locs (x_put_XS hX 4 k) hrun hd (lv_sub hl [0, 1, 2, 3] rfl) (fun ls H locs hd hl => ?_)
  refine lv_iload_n hx hb d_KG_run_66 rfl (lv_at hl 0 rfl) ?_
  refine lv_iconst (v := 3) hx hb d_KG_run_67 (by decide) ?_
  refine lv_icmp_ne (tgt := 113) hx hb d_KG_run_68 (by decide) (fun c68 => absurd hg9 c68) (fun c68 => ?_)
  refine lv_aload_n hx hb d_KG_run_71 rfl (lv_at hl 2 rfl) ?_
  refine zget hC hd (e_kg hX9.kg) rfl i_KG 1 (by decide) q_81 (Or.inl rfl) (v := .ref (ad 8 0)) rfl d_KG_run_72 ?_
  refine lv_iconst (v := 4) hx hb d_KG_run_75 (by decide) ?_
  refine zaaP (k := 4) hC hd (e_piles hX9.ps) (by omega) (by decide) rfl d_KG_run_76 ?_
  refine lv_astore (lv' := [(4, .ref (ad 6 4)), (3, .int g9), (2, .ref (ad 1 k)), (0, .ref (ad 0 0)), (1, .int (nI k))]) hx hb d_KG_run_77 hl (by decide) rfl (fun ls hl => ?_)
  refine lc_KG_run 4 (by decide) k g9 hC (xn Z9 9 4) Z9 ls H locs rfl hX9 hp9 hd (lv_sub hl [0, 1, 2, 3, 4] rfl) (fun ls H locs hd hl => ?_)
  refine lv_bipush (v := (-2)) hx hb d_KG_run_110 (by decide) ?_
  exact zfi hC hd hr hlk d_KG_run_112 rfl rfl
set_option maxHeartbeats 4000000 in
theorem c_KG_run_go (l : Launch) (G : Gt) (ad : Nat → Nat → Nat) (ow : Nat → Nat × Nat) (Z : Zt) (hX : XS Z) (k : Nat) (hk : k < xn Z 0 1) (h0 : x_isKey Z (nI k) = 1) (h1 : x_isSure Z k = 0) (h2 : xi Z 8 k < 0) (hps : xn Z 9 4 < 40) (hk6 : xn Z 1 k < 6) (N : Nat) (Z9 : Zt) (g9 : Int32) (hrun : x_runs N (x_put Z 4 k) 1 Z9 g9) (hX9 : XS Z9) (hkn9 : k < xn Z9 0 1) (hg9 : ¬ g9 = 3) : Met l y_KG_run w_KG_run ({ frames := 6, cells := 0, slots := 0, locals := 136 }) (zPc G ad ow Z [.ref (ad 0 0), .int (nI k)]) (Qd G ad ow Z9 (some (.int (xi Z9 1 k)))) 0 0 (zA G) := by
  refine zopen (cc := b_KG_run) (maxL := 5) (ret := (some FieldType.int)) (by decide) rfl (Nat.le_of_ble_eq_true rfl) ?_
  intro p e s m below meth c ls hC hr hlk hnm hd hl
  have hC : Cx G p c m s _ "KeyGraph" b_KG_run 5 := hC
  have hl : lv_has ls 5 [(0, .ref (ad 0 0)), (1, .int (nI k))] := hl
  have hx := hC.1
  have hb := hC.2.1
  have h40 := hX.k40
  refine lv_aload_n hx hb d_KG_run_0 rfl (lv_at hl 0 rfl) ?_
  refine lv_iload_n hx hb d_KG_run_1 rfl (lv_at hl 1 rfl) ?_
  refine zb_i (r := 1) hd (zrunV (n := 1) (rest := []) hC hd (e_kg hX.kg) rfl (c_KG_isKey l G ad ow Z hX (nI k) 1 h0) q_348 q_350 qp_4 q_1 q_351 rfl rfl rfl (by decide +kernel) ⟨by decide, by decide⟩ rfl hl.1 (Nat.le_of_ble_eq_true rfl) d_KG_run_2 ⟨by decide, by decide⟩) (fun H locs hd => ?_)
  refine lv_if_ne (tgt := 10) hx hb d_KG_run_5 (by decide) (fun _ => ?_) (fun c => absurd c (by decide))
  refine lv_aload_n hx hb d_KG_run_10 rfl (lv_at hl 0 rfl) ?_
  refine zget hC hd (e_kg hX.kg) rfl i_KG 0 (by decide) q_80 (Or.inl rfl) (v := .ref (ad 3 0)) rfl d_KG_run_11 ?_
  refine lv_iload_n hx hb d_KG_run_14 rfl (lv_at hl 1 rfl) ?_
  refine zb_a (r := (ad 1 k)) hd (zrunV (n := 1) (rest := []) hC hd (e_list hX.l0) rfl (c_get l G ad ow Z hX 0 k k hX.l0 (show k < xn Z 2 0 by rw [hX.kl]; exact hk) (hX.ke hk)) q_352 q_353 q_354 q_4 q_355 rfl rfl rfl (by decide +kernel) ⟨by decide, by decide⟩ rfl hl.1 (Nat.le_of_ble_eq_true rfl) d_KG_run_15 ⟨by decide, by decide⟩) (fun H locs hd => ?_)
  refine zcast hC hd (e_key hk) q_105 d_KG_run_18 ?_
  refine lv_astore_n (lv' := [(2, .ref (ad 1 k)), (0, .ref (ad 0 0)), (1, .int (nI k))]) hx hb d_KG_run_21 rfl hl (by decide) rfl (fun ls hl => ?_)
  refine lv_aload_n hx hb d_KG_run_22 rfl (lv_at hl 1 rfl) ?_
  refine lv_aload_n hx hb d_KG_run_23 rfl (lv_at hl 0 rfl) ?_
  refine zb_i (r := 0) hd (zrunV (n := 1) (rest := []) hC hd (e_kg hX.kg) rfl (c_KG_isSure l G ad ow Z hX k 0 hk h1) q_421 q_423 qp_9 q_1 q_424 rfl rfl rfl (by decide +kernel) ⟨by decide, by decide⟩ rfl hl.1 (Nat.le_of_ble_eq_true rfl) d_KG_run_24 ⟨by decide, by decide⟩) (fun H locs hd => ?_)
  refine lv_if_ne (tgt := 113) hx hb d_KG_run_27 (by decide) (fun c => absurd c (by decide)) (fun _ => ?_)
  refine lv_aload_n hx hb d_KG_run_30 rfl (lv_at hl 0 rfl) ?_
  refine zgetN hC hd (e_key hk) rfl i_Key 15 (by decide) z_135 (Or.inl rfl) (v := .int (xi Z 8 k)) rfl d_KG_run_31 ?_
  refine lv_if_lt (tgt := 40) hx hb d_KG_run_34 (by decide) (fun c34 => ?_) (fun c34 => absurd h2 c34)
  refine lv_aload_n hx hb d_KG_run_40 rfl (lv_at hl 1 rfl) ?_
  refine lv_iconst (v := 4) hx hb d_KG_run_41 (by decide) ?_
  refine lv_aload_n hx hb d_KG_run_42 rfl (lv_at hl 0 rfl) ?_
  refine zb_v hd (zrunV (n := 2) (rest := []) hC hd (e_kg hX.kg) rfl (c_KG_put l G ad ow Z hX 4 k (by omega) hk hps hk6) q_425 q_427 qp_10 q_1 q_428 rfl rfl rfl (by decide +kernel) ⟨by decide, by decide⟩ rfl hl.1 (Nat.le_of_ble_eq_true rfl) d_KG_run_43 ⟨by decide, by decide⟩) (fun H locs hd => ?_)
  refine lv_iconst (v := 1) hx hb d_KG_run_46 (by decide) ?_
  refine lv_istore_n (lv' := [(3, .int 1), (2, .ref (ad 1 k)), (0, .ref (ad 0 0)), (1, .int (nI k))]) hx hb d_KG_run_47 rfl hl (by decide) rfl (fun ls hl => ?_)
  refine lp_KG_run k Z9 g9 hC N (x_put Z 4 k) 1 ls H locs (x_put_XS hX 4 k) hrun hd (lv_sub hl [0, 1, 2, 3] rfl) (fun ls H locs hd hl => ?_)
  refine lv_iload_n hx hb d_KG_run_66 rfl (lv_at hl 0 rfl) ?_
  refine lv_iconst (v := 3) hx hb d_KG_run_67 (by decide) ?_
  refine lv_icmp_ne (tgt := 113) hx hb d_KG_run_68 (by decide) (fun c68 => ?_) (fun c68 => absurd c68 hg9)
  refine lv_aload_n hx hb d_KG_run_113 rfl (lv_at hl 1 rfl) ?_
  refine zgetN hC hd (e_key hkn9) rfl i_Key 3 (by decide) z_119 (Or.inl rfl) (v := .int (xi Z9 1 k)) rfl d_KG_run_114 ?_
  exact zfi hC hd hr hlk d_KG_run_117 rfl rfl
set_option maxHeartbeats 4000000 in
theorem c_KG_ring (l : Launch) (G : Gt) (ad : Nat → Nat → Nat) (ow : Nat → Nat × Nat) (Z : Zt) (hX : XS Z) (i : Int32) : Met l y_KG_ring w_KG_ring ({ frames := 3, cells := 0, slots := 0, locals := 64 }) (zPc G ad ow Z [.ref (ad 0 0), .int i]) (Qd G ad ow Z (some (.int (x_ring Z i)))) 0 0 (zA G) := by
  refine zopen (cc := b_KG_ring) (maxL := 2) (ret := (some FieldType.int)) (by decide) rfl (Nat.le_of_ble_eq_true rfl) ?_
  intro p e s m below meth c ls hC hr hlk hnm hd hl
  have hC : Cx G p c m s _ "KeyGraph" b_KG_ring 2 := hC
  have hl : lv_has ls 2 [(0, .ref (ad 0 0)), (1, .int i)] := hl
  have hx := hC.1
  have hb := hC.2.1
  have hr40 := hX.2.2.2.2.1.1
  refine lv_iload_n hx hb d_KG_ring_0 rfl (lv_at hl 1 rfl) ?_
  refine lv_if_lt (tgt := 15) hx hb d_KG_ring_1 (by decide) (fun c1 => ?_) (fun c1 => ?_)
  · refine lv_iconst (v := (-1)) hx hb d_KG_ring_15 (by decide) ?_
    refine lv_goto (tgt := 33) hx hb d_KG_ring_16 (by decide) ?_
    exact zfi hC hd hr hlk d_KG_ring_33 (by unfold x_ring; (repeat (first | (rw [if_pos]; rotate_left; first | assumption | decide) | (rw [if_neg]; rotate_left; first | assumption | decide))) <;> (try rfl)) rfl
  · obtain ⟨i1, hi1, rfl⟩ := nI_of c1
    have hci : (nI i1).toNatClampNeg = i1 := nI_clamp hi1
    refine lv_iload_n hx hb d_KG_ring_4 rfl (lv_at hl 1 rfl) ?_
    refine lv_aload_n hx hb d_KG_ring_5 rfl (lv_at hl 0 rfl) ?_
    refine zget hC hd (e_kg hX.kg) rfl i_KG 2 (by decide) q_82 (Or.inl rfl) (v := .ref (ad 3 1)) rfl d_KG_ring_6 ?_
    refine zb_i (r := (nI (xn Z 2 1))) hd (zrunV (n := 0) (rest := [.int (nI i1)]) hC hd (e_list hX.l1) rfl (c_AL_size l G ad ow Z 1 hX.l1) q_101 q_102 q_103 q_4 q_104 rfl rfl rfl (by decide +kernel) ⟨by decide, by decide⟩ rfl hl.1 (Nat.le_of_ble_eq_true rfl) d_KG_ring_9 ⟨by decide, by decide⟩) (fun H locs hd => ?_)
    refine zc_lt (x := i1) (y := xn Z 2 1) (tgt := 19) (by omega) (by omega) hx hb d_KG_ring_12 (by decide) (fun c12 => ?_) (fun c12 => ?_)
    · have c12' := Nat.not_le.mpr c12
      have c12b :  nI i1 < nI (xn Z 2 1) := nI_lt c12 (by omega)
      have he := hX.2.2.2.2.1.2 i1 c12
      obtain ⟨q, hq⟩ : ∃ q, xc Z 4 1 i1 = q + 1 := ⟨xc Z 4 1 i1 - 1, by omega⟩
      have hq1 : xc Z 4 1 i1 - 1 = q := by omega
      have hqn : q < xn Z 0 1 := by omega
      refine lv_aload_n hx hb d_KG_ring_19 rfl (lv_at hl 0 rfl) ?_
      refine zget hC hd (e_kg hX.kg) rfl i_KG 2 (by decide) q_82 (Or.inl rfl) (v := .ref (ad 3 1)) rfl d_KG_ring_20 ?_
      refine lv_iload_n hx hb d_KG_ring_23 rfl (lv_at hl 1 rfl) ?_
      refine zb_a (r := (ad 1 q)) hd (zrunV (n := 1) (rest := []) hC hd (e_list hX.l1) rfl (c_get l G ad ow Z hX 1 i1 q hX.l1 c12 hq) q_352 q_353 q_354 q_4 q_355 rfl rfl rfl (by decide +kernel) ⟨by decide, by decide⟩ rfl hl.1 (Nat.le_of_ble_eq_true rfl) d_KG_ring_24 ⟨by decide, by decide⟩) (fun H locs hd => ?_)
      refine zcast hC hd (e_key hqn) q_105 d_KG_ring_27 ?_
      refine zgetN hC hd (e_key hqn) rfl i_Key 0 (by decide) z_114 (Or.inl rfl) (v := .int (nI q)) rfl d_KG_ring_30 ?_
      exact zfi hC hd hr hlk d_KG_ring_33 (by unfold x_ring; rw [hci, hq1]; (repeat (first | (rw [if_pos]; rotate_left; first | assumption | decide) | (rw [if_neg]; rotate_left; first | assumption | decide))) <;> (try rfl)) rfl
    · have c12' := Nat.not_lt.mpr c12
      have c12b : ¬ nI i1 < nI (xn Z 2 1) := fun q => absurd ((nI_ltI (by omega) (by omega)).mp q) (by omega)
      refine lv_iconst (v := (-1)) hx hb d_KG_ring_15 (by decide) ?_
      refine lv_goto (tgt := 33) hx hb d_KG_ring_16 (by decide) ?_
      exact zfi hC hd hr hlk d_KG_ring_33 (by unfold x_ring; rw [hci]; (repeat (first | (rw [if_pos]; rotate_left; first | assumption | decide) | (rw [if_neg]; rotate_left; first | assumption | decide))) <;> (try rfl)) rfl
end
