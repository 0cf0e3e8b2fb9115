def TT : List Cond := lw_tbl.filter goodWord
theorem tt_i {w : Cond} {i : Nat} (h : lw_tbl[i]? = some w) (g : goodWord w = true) : w ∈ TT := List.mem_filter.mpr ⟨List.mem_of_getElem? h, g⟩
def y_KG_init : MethodName := ⟨"KeyGraph", "<init>", "()V"⟩
def y_Obj_init : MethodName := ⟨"java/lang/Object", "<init>", "()V"⟩
def y_AL_init : MethodName := ⟨"java/util/ArrayList", "<init>", "()V"⟩
def y_AbsL_init : MethodName := ⟨"java/util/AbstractList", "<init>", "()V"⟩
def y_AbsC_init : MethodName := ⟨"java/util/AbstractCollection", "<init>", "()V"⟩
def y_KG_piles : MethodName := ⟨"KeyGraph", "piles", "()[LKeyGraph$Pile;"⟩
def y_Pile_init : MethodName := ⟨"KeyGraph$Pile", "<init>", "()V"⟩
def y_KG_leaf : MethodName := ⟨"KeyGraph", "leaf", "(J)I"⟩
def y_AL_size : MethodName := ⟨"java/util/ArrayList", "size", "()I"⟩
def y_Key_init : MethodName := ⟨"KeyGraph$Key", "<init>", "(ILKeyGraph$Function;)V"⟩
def y_AL_add1 : MethodName := ⟨"java/util/ArrayList", "add", "(Ljava/lang/Object;)Z"⟩
def y_AL_add3 : MethodName := ⟨"java/util/ArrayList", "add", "(Ljava/lang/Object;[Ljava/lang/Object;I)V"⟩
def y_AL_grow0 : MethodName := ⟨"java/util/ArrayList", "grow", "()[Ljava/lang/Object;"⟩
def y_AL_grow1 : MethodName := ⟨"java/util/ArrayList", "grow", "(I)[Ljava/lang/Object;"⟩
def y_ASup_newLength : MethodName := ⟨"jdk/internal/util/ArraysSupport", "newLength", "(III)I"⟩
def y_Math_max : MethodName := ⟨"java/lang/Math", "max", "(II)I"⟩
def y_ASup_hugeLength : MethodName := ⟨"jdk/internal/util/ArraysSupport", "hugeLength", "(II)I"⟩
def y_Arrs_copyOf2 : MethodName := ⟨"java/util/Arrays", "copyOf", "([Ljava/lang/Object;I)[Ljava/lang/Object;"⟩
def y_Obj_getClass : MethodName := ⟨"java/lang/Object", "getClass", "()Ljava/lang/Class;"⟩
def y_Arrs_copyOf3 : MethodName := ⟨"java/util/Arrays", "copyOf", "([Ljava/lang/Object;ILjava/lang/Class;)[Ljava/lang/Object;"⟩
def y_Math_min : MethodName := ⟨"java/lang/Math", "min", "(II)I"⟩
def y_Sys_arraycopy : MethodName := ⟨"java/lang/System", "arraycopy", "(Ljava/lang/Object;ILjava/lang/Object;II)V"⟩
def y_KG_key : MethodName := ⟨"KeyGraph", "key", "(I)I"⟩
def y_KG_made : MethodName := ⟨"KeyGraph", "made", "(I)LKeyGraph$Function;"⟩
def y_Sum_init : MethodName := ⟨"KeyGraph$Sum", "<init>", "(Z)V"⟩
def y_Fun_init : MethodName := ⟨"KeyGraph$Function", "<init>", "()V"⟩
def y_First_init : MethodName := ⟨"KeyGraph$First", "<init>", "()V"⟩
def y_Choice_init : MethodName := ⟨"KeyGraph$Choice", "<init>", "()V"⟩
def y_Quot_init : MethodName := ⟨"KeyGraph$Quotient", "<init>", "()V"⟩
def y_Great_init : MethodName := ⟨"KeyGraph$Greatest", "<init>", "()V"⟩
def y_KG_asks : MethodName := ⟨"KeyGraph", "asks", "(II)I"⟩
def y_KG_isFunction : MethodName := ⟨"KeyGraph", "isFunction", "(I)Z"⟩
def y_KG_isKey : MethodName := ⟨"KeyGraph", "isKey", "(I)Z"⟩
def y_AL_get : MethodName := ⟨"java/util/ArrayList", "get", "(I)Ljava/lang/Object;"⟩
def y_Objs_checkIndex : MethodName := ⟨"java/util/Objects", "checkIndex", "(II)I"⟩
def y_Prec_checkIndex : MethodName := ⟨"jdk/internal/util/Preconditions", "checkIndex", "(IILjava/util/function/BiFunction;)I"⟩
def y_AL_elementData : MethodName := ⟨"java/util/ArrayList", "elementData", "(I)Ljava/lang/Object;"⟩
def y_Key_isLeaf : MethodName := ⟨"KeyGraph$Key", "isLeaf", "()Z"⟩
def y_KG_leadTo : MethodName := ⟨"KeyGraph", "leadTo", "(LKeyGraph$Key;)V"⟩
def y_KG_asksOne : MethodName := ⟨"KeyGraph", "asksOne", "(LKeyGraph$Key;)Z"⟩
def y_KG_isLeading : MethodName := ⟨"KeyGraph", "isLeading", "(LKeyGraph$Key;)Z"⟩
def y_AL_clear : MethodName := ⟨"java/util/ArrayList", "clear", "()V"⟩
def y_KG_raise : MethodName := ⟨"KeyGraph", "raise", "()V"⟩
def y_KG_cancel : MethodName := ⟨"KeyGraph", "cancel", "()I"⟩
def y_Pile_top : MethodName := ⟨"KeyGraph$Pile", "top", "()LKeyGraph$Key;"⟩
def y_KG_ring : MethodName := ⟨"KeyGraph", "ring", "(I)I"⟩
def y_KG_change : MethodName := ⟨"KeyGraph", "change", "(IJ)I"⟩
def y_KG_spoil : MethodName := ⟨"KeyGraph", "spoil", "(IZ)I"⟩
def y_KG_version : MethodName := ⟨"KeyGraph", "version", "()I"⟩
def y_KG_begin : MethodName := ⟨"KeyGraph", "begin", "(II)I"⟩
def y_KG_isWorker : MethodName := ⟨"KeyGraph", "isWorker", "(I)Z"⟩
def y_KG_isSure : MethodName := ⟨"KeyGraph", "isSure", "(LKeyGraph$Key;)Z"⟩
def y_KG_put : MethodName := ⟨"KeyGraph", "put", "(ILKeyGraph$Key;)V"⟩
def y_Fun_begin : MethodName := ⟨"KeyGraph$Function", "begin", "(I)V"⟩
def y_Choice_begin : MethodName := ⟨"KeyGraph$Choice", "begin", "(I)V"⟩
def y_Great_begin : MethodName := ⟨"KeyGraph$Greatest", "begin", "(I)V"⟩
def y_KG_step : MethodName := ⟨"KeyGraph", "step", "(I)I"⟩
def y_KG_stepOf : MethodName := ⟨"KeyGraph", "stepOf", "(I)I"⟩
def y_KG_check : MethodName := ⟨"KeyGraph", "check", "(ILKeyGraph$Pile;LKeyGraph$Key;)I"⟩
def y_KG_found : MethodName := ⟨"KeyGraph", "found", "(LKeyGraph$Pile;)I"⟩
def y_KG_goesDown : MethodName := ⟨"KeyGraph", "goesDown", "(ILKeyGraph$Key;)I"⟩
def y_KG_ends : MethodName := ⟨"KeyGraph", "ends", "(LKeyGraph$Pile;IJ)I"⟩
def y_Fun_fails : MethodName := ⟨"KeyGraph$Function", "fails", "()Z"⟩
def y_Fun_next : MethodName := ⟨"KeyGraph$Function", "next", "()I"⟩
def y_Choice_next : MethodName := ⟨"KeyGraph$Choice", "next", "()I"⟩
def y_Fun_result : MethodName := ⟨"KeyGraph$Function", "result", "()J"⟩
def y_Sum_result : MethodName := ⟨"KeyGraph$Sum", "result", "()J"⟩
def y_Fun_take : MethodName := ⟨"KeyGraph$Function", "take", "(J)V"⟩
def y_Choice_take : MethodName := ⟨"KeyGraph$Choice", "take", "(J)V"⟩
def y_Choice_with : MethodName := ⟨"KeyGraph$Choice", "with", "(J)V"⟩
def y_Fun_with : MethodName := ⟨"KeyGraph$Function", "with", "(J)V"⟩
def y_First_with : MethodName := ⟨"KeyGraph$First", "with", "(J)V"⟩
def y_Great_with : MethodName := ⟨"KeyGraph$Greatest", "with", "(J)V"⟩
def y_Quot_with : MethodName := ⟨"KeyGraph$Quotient", "with", "(J)V"⟩
def y_Sum_with : MethodName := ⟨"KeyGraph$Sum", "with", "(J)V"⟩
def y_KG_run : MethodName := ⟨"KeyGraph", "run", "(I)I"⟩
def y_KG_state : MethodName := ⟨"KeyGraph", "state", "(I)I"⟩
def y_KG_worked : MethodName := ⟨"KeyGraph", "worked", "(I)I"⟩
def y_KG_kept : MethodName := ⟨"KeyGraph", "kept", "(I)I"⟩
def y_KG_changed : MethodName := ⟨"KeyGraph", "changed", "(I)I"⟩
def y_KG_asked : MethodName := ⟨"KeyGraph", "asked", "(II)I"⟩
def y_KG_drop : MethodName := ⟨"KeyGraph", "drop", "(I)Z"⟩
def y_Law_value : MethodName := ⟨"KeyGraphLaw", "value", "(LKeyGraph;I[J)I"⟩
def y_KG_value : MethodName := ⟨"KeyGraph", "value", "(I)J"⟩
def y_RTE_init : MethodName := ⟨"java/lang/RuntimeException", "<init>", "()V"⟩
def y_RTE_initx : MethodName := ⟨"java/lang/RuntimeException", "<init>", "(Ljava/lang/String;)V"⟩
def y_Exc_init : MethodName := ⟨"java/lang/Exception", "<init>", "()V"⟩
def y_Exc_initx : MethodName := ⟨"java/lang/Exception", "<init>", "(Ljava/lang/String;)V"⟩
def y_Thr_init : MethodName := ⟨"java/lang/Throwable", "<init>", "()V"⟩
def y_Thr_initx : MethodName := ⟨"java/lang/Throwable", "<init>", "(Ljava/lang/String;)V"⟩
def y_Thr_fillInStackTracex : MethodName := ⟨"java/lang/Throwable", "fillInStackTrace", "(I)Ljava/lang/Throwable;"⟩
def y_Thr_fillInStackTrace : MethodName := ⟨"java/lang/Throwable", "fillInStackTrace", "()Ljava/lang/Throwable;"⟩
def y_IAE_init : MethodName := ⟨"java/lang/IllegalArgumentException", "<init>", "()V"⟩
def y_ISE_init : MethodName := ⟨"java/lang/IllegalStateException", "<init>", "()V"⟩
def y_Mod_init : MethodName := ⟨"KeyGraphModel", "<init>", "()V"⟩
def y_Mod_thrown : MethodName := ⟨"KeyGraphModel", "thrown", "()I"⟩
def y_Mod_leaf : MethodName := ⟨"KeyGraphModel", "leaf", "(J)I"⟩
def y_Mod_make : MethodName := ⟨"KeyGraphModel", "make", "(I)I"⟩
def y_Mod_key : MethodName := ⟨"KeyGraphModel", "key", "(I)I"⟩
def y_Mod_asks : MethodName := ⟨"KeyGraphModel", "asks", "(II)I"⟩
def y_Mod_isKey : MethodName := ⟨"KeyGraphModel", "isKey", "(I)Z"⟩
def y_Mod_isLeaf : MethodName := ⟨"KeyGraphModel", "isLeaf", "(I)Z"⟩
def y_Mod_fillLeads : MethodName := ⟨"KeyGraphModel", "fillLeads", "(I)V"⟩
def y_Mod_rowKey : MethodName := ⟨"KeyGraphModel", "rowKey", "(II)I"⟩
def y_Mod_firstBack : MethodName := ⟨"KeyGraphModel", "firstBack", "(I)I"⟩
def y_Mod_next : MethodName := ⟨"KeyGraphModel", "next", "()I"⟩
def y_Mod_empty : MethodName := ⟨"KeyGraphModel", "empty", "()I"⟩
def y_Mod_ring : MethodName := ⟨"KeyGraphModel", "ring", "(I)I"⟩
def y_Mod_change : MethodName := ⟨"KeyGraphModel", "change", "(IJ)I"⟩
def y_Mod_spoil : MethodName := ⟨"KeyGraphModel", "spoil", "(IZ)I"⟩
def y_Mod_begin : MethodName := ⟨"KeyGraphModel", "begin", "(II)I"⟩
def y_Mod_isWorker : MethodName := ⟨"KeyGraphModel", "isWorker", "(I)Z"⟩
def y_Mod_pileOf : MethodName := ⟨"KeyGraphModel", "pileOf", "(I)I"⟩
def y_Mod_isSure : MethodName := ⟨"KeyGraphModel", "isSure", "(I)Z"⟩
def y_Mod_lay : MethodName := ⟨"KeyGraphModel", "lay", "(II)V"⟩
def y_Mod_cancel : MethodName := ⟨"KeyGraphModel", "cancel", "()I"⟩
def y_Mod_step : MethodName := ⟨"KeyGraphModel", "step", "(I)I"⟩
def y_Mod_go : MethodName := ⟨"KeyGraphModel", "go", "(I)I"⟩
def y_Mod_check : MethodName := ⟨"KeyGraphModel", "check", "(II)I"⟩
def y_Mod_await : MethodName := ⟨"KeyGraphModel", "await", "(II)I"⟩
def y_Mod_comes : MethodName := ⟨"KeyGraphModel", "comes", "(I)I"⟩
def y_Mod_taken : MethodName := ⟨"KeyGraphModel", "taken", "(II)J"⟩
def y_Mod_remainder : MethodName := ⟨"KeyGraphModel", "remainder", "(JI)I"⟩
def y_Mod_end : MethodName := ⟨"KeyGraphModel", "end", "(IIJ)I"⟩
def y_Mod_outcome : MethodName := ⟨"KeyGraphModel", "outcome", "(I)J"⟩
def y_Mod_run : MethodName := ⟨"KeyGraphModel", "run", "(I)I"⟩
def y_Mod_state : MethodName := ⟨"KeyGraphModel", "state", "(I)I"⟩
def y_Mod_value : MethodName := ⟨"KeyGraphModel", "value", "(I)J"⟩
def y_Mod_worked : MethodName := ⟨"KeyGraphModel", "worked", "(I)I"⟩
def y_Mod_kept : MethodName := ⟨"KeyGraphModel", "kept", "(I)I"⟩
def y_Mod_changed : MethodName := ⟨"KeyGraphModel", "changed", "(I)I"⟩
def y_Mod_asked : MethodName := ⟨"KeyGraphModel", "asked", "(II)I"⟩
def y_Mod_drop : MethodName := ⟨"KeyGraphModel", "drop", "(I)Z"⟩
def y_Mod_version : MethodName := ⟨"KeyGraphModel", "version", "()I"⟩
abbrev b_KG_init : ByteArray := prog_1_method_3_code
abbrev b_Obj_init : ByteArray := object_method_1_code
abbrev b_AL_init : ByteArray := prog_24_method_2_code
abbrev b_AbsL_init : ByteArray := prog_23_method_1_code
abbrev b_AbsC_init : ByteArray := prog_22_method_1_code
abbrev b_KG_piles : ByteArray := prog_1_method_2_code
abbrev b_Pile_init : ByteArray := prog_7_method_1_code
abbrev b_KG_leaf : ByteArray := prog_1_method_7_code
abbrev b_AL_size : ByteArray := prog_24_method_8_code
abbrev b_Key_init : ByteArray := prog_6_method_1_code
abbrev b_AL_add1 : ByteArray := prog_24_method_25_code
abbrev b_AL_add3 : ByteArray := prog_24_method_24_code
abbrev b_AL_grow0 : ByteArray := prog_24_method_7_code
abbrev b_AL_grow1 : ByteArray := prog_24_method_6_code
abbrev b_ASup_newLength : ByteArray := prog_31_method_27_code
abbrev b_Math_max : ByteArray := prog_18_method_65_code
abbrev b_ASup_hugeLength : ByteArray := prog_31_method_28_code
abbrev b_Arrs_copyOf2 : ByteArray := prog_25_method_119_code
abbrev b_Arrs_copyOf3 : ByteArray := prog_25_method_120_code
abbrev b_Math_min : ByteArray := prog_18_method_69_code
abbrev b_KG_key : ByteArray := prog_1_method_8_code
abbrev b_KG_made : ByteArray := prog_1_method_1_code
abbrev b_Sum_init : ByteArray := prog_9_method_1_code
abbrev b_Fun_init : ByteArray := prog_4_method_1_code
abbrev b_First_init : ByteArray := prog_3_method_1_code
abbrev b_Choice_init : ByteArray := prog_2_method_1_code
abbrev b_Quot_init : ByteArray := prog_8_method_1_code
abbrev b_Great_init : ByteArray := prog_5_method_1_code
abbrev b_KG_asks : ByteArray := prog_1_method_12_code
abbrev b_KG_isFunction : ByteArray := prog_1_method_5_code
abbrev b_KG_isKey : ByteArray := prog_1_method_4_code
abbrev b_AL_get : ByteArray := prog_24_method_20_code
abbrev b_Objs_checkIndex : ByteArray := prog_28_method_17_code
abbrev b_Prec_checkIndex : ByteArray := prog_32_method_11_code
abbrev b_AL_elementData : ByteArray := prog_24_method_18_code
abbrev b_Key_isLeaf : ByteArray := prog_6_method_2_code
abbrev b_KG_leadTo : ByteArray := prog_1_method_11_code
abbrev b_KG_asksOne : ByteArray := prog_1_method_10_code
abbrev b_KG_isLeading : ByteArray := prog_1_method_9_code
abbrev b_AL_clear : ByteArray := prog_24_method_40_code
abbrev b_KG_raise : ByteArray := prog_1_method_14_code
abbrev b_KG_cancel : ByteArray := prog_1_method_21_code
abbrev b_Pile_top : ByteArray := prog_7_method_2_code
abbrev b_KG_ring : ByteArray := prog_1_method_13_code
abbrev b_KG_change : ByteArray := prog_1_method_15_code
abbrev b_KG_spoil : ByteArray := prog_1_method_16_code
abbrev b_KG_version : ByteArray := prog_1_method_17_code
abbrev b_KG_begin : ByteArray := prog_1_method_20_code
abbrev b_KG_isWorker : ByteArray := prog_1_method_18_code
abbrev b_KG_isSure : ByteArray := prog_1_method_6_code
abbrev b_KG_put : ByteArray := prog_1_method_19_code
abbrev b_Choice_begin : ByteArray := prog_2_method_2_code
abbrev b_Great_begin : ByteArray := prog_5_method_2_code
abbrev b_Fun_begin : ByteArray := prog_4_method_2_code
abbrev b_KG_step : ByteArray := prog_1_method_27_code
abbrev b_KG_stepOf : ByteArray := prog_1_method_25_code
abbrev b_KG_check : ByteArray := prog_1_method_26_code
abbrev b_KG_found : ByteArray := prog_1_method_22_code
abbrev b_KG_goesDown : ByteArray := prog_1_method_24_code
abbrev b_KG_ends : ByteArray := prog_1_method_23_code
abbrev b_Fun_fails : ByteArray := prog_4_method_7_code
abbrev b_Choice_next : ByteArray := prog_2_method_3_code
abbrev b_Fun_next : ByteArray := prog_4_method_3_code
abbrev b_Sum_result : ByteArray := prog_9_method_3_code
abbrev b_Fun_result : ByteArray := prog_4_method_6_code
abbrev b_Choice_take : ByteArray := prog_2_method_4_code
abbrev b_Choice_with : ByteArray := prog_2_method_5_code
abbrev b_Fun_take : ByteArray := prog_4_method_4_code
abbrev b_First_with : ByteArray := prog_3_method_2_code
abbrev b_Great_with : ByteArray := prog_5_method_3_code
abbrev b_Quot_with : ByteArray := prog_8_method_2_code
abbrev b_Sum_with : ByteArray := prog_9_method_2_code
abbrev b_KG_run : ByteArray := prog_1_method_28_code
abbrev b_KG_state : ByteArray := prog_1_method_29_code
abbrev b_KG_worked : ByteArray := prog_1_method_31_code
abbrev b_KG_kept : ByteArray := prog_1_method_32_code
abbrev b_KG_changed : ByteArray := prog_1_method_33_code
abbrev b_KG_asked : ByteArray := prog_1_method_34_code
abbrev b_KG_drop : ByteArray := prog_1_method_35_code
abbrev b_Law_value : ByteArray := method_3_code
abbrev b_KG_value : ByteArray := prog_1_method_30_code
abbrev b_Thr_init : ByteArray := prog_21_method_1_code
abbrev b_Thr_fillInStackTrace : ByteArray := prog_21_method_18_code
abbrev b_IAE_init : ByteArray := prog_15_method_1_code
abbrev b_RTE_init : ByteArray := prog_19_method_1_code
abbrev b_Exc_init : ByteArray := prog_14_method_1_code
abbrev b_ISE_init : ByteArray := prog_16_method_1_code
abbrev b_Mod_init : ByteArray := prog_11_method_1_code
abbrev b_Mod_thrown : ByteArray := prog_11_method_2_code
abbrev b_Mod_leaf : ByteArray := prog_11_method_6_code
abbrev b_Mod_make : ByteArray := prog_11_method_5_code
abbrev b_Mod_key : ByteArray := prog_11_method_7_code
abbrev b_Mod_asks : ByteArray := prog_11_method_12_code
abbrev b_Mod_isKey : ByteArray := prog_11_method_3_code
abbrev b_Mod_isLeaf : ByteArray := prog_11_method_4_code
abbrev b_Mod_fillLeads : ByteArray := prog_11_method_11_code
abbrev b_Mod_rowKey : ByteArray := prog_11_method_10_code
abbrev b_Mod_firstBack : ByteArray := prog_11_method_13_code
abbrev b_Mod_next : ByteArray := prog_11_method_9_code
abbrev b_Mod_empty : ByteArray := prog_11_method_8_code
abbrev b_Mod_ring : ByteArray := prog_11_method_14_code
abbrev b_Mod_change : ByteArray := prog_11_method_15_code
abbrev b_Mod_spoil : ByteArray := prog_11_method_16_code
abbrev b_Mod_begin : ByteArray := prog_11_method_21_code
abbrev b_Mod_isWorker : ByteArray := prog_11_method_20_code
abbrev b_Mod_pileOf : ByteArray := prog_11_method_18_code
abbrev b_Mod_isSure : ByteArray := prog_11_method_17_code
abbrev b_Mod_lay : ByteArray := prog_11_method_19_code
abbrev b_Mod_cancel : ByteArray := prog_11_method_22_code
abbrev b_Mod_step : ByteArray := prog_11_method_31_code
abbrev b_Mod_go : ByteArray := prog_11_method_30_code
abbrev b_Mod_check : ByteArray := prog_11_method_29_code
abbrev b_Mod_await : ByteArray := prog_11_method_28_code
abbrev b_Mod_comes : ByteArray := prog_11_method_24_code
abbrev b_Mod_taken : ByteArray := prog_11_method_23_code
abbrev b_Mod_remainder : ByteArray := prog_11_method_25_code
abbrev b_Mod_end : ByteArray := prog_11_method_27_code
abbrev b_Mod_outcome : ByteArray := prog_11_method_26_code
abbrev b_Mod_run : ByteArray := prog_11_method_32_code
abbrev b_Mod_state : ByteArray := prog_11_method_33_code
abbrev b_Mod_value : ByteArray := prog_11_method_34_code
abbrev b_Mod_worked : ByteArray := prog_11_method_35_code
abbrev b_Mod_kept : ByteArray := prog_11_method_36_code
abbrev b_Mod_changed : ByteArray := prog_11_method_37_code
abbrev b_Mod_asked : ByteArray := prog_11_method_38_code
abbrev b_Mod_drop : ByteArray := prog_11_method_39_code
abbrev b_Mod_version : ByteArray := prog_11_method_40_code
def w_KG_init : List Cond := .code y_KG_init b_KG_init 1 none :: TT
def w_Obj_init : List Cond := .code y_Obj_init b_Obj_init 1 none :: TT
def w_AL_init : List Cond := .code y_AL_init b_AL_init 1 none :: TT
def w_AbsL_init : List Cond := .code y_AbsL_init b_AbsL_init 1 none :: TT
def w_AbsC_init : List Cond := .code y_AbsC_init b_AbsC_init 1 none :: TT
def w_KG_piles : List Cond := .code y_KG_piles b_KG_piles 2 (some (FieldType.array (FieldType.object "KeyGraph$Pile"))) :: TT
def w_Pile_init : List Cond := .code y_Pile_init b_Pile_init 1 none :: TT
def w_KG_leaf : List Cond := .code y_KG_leaf b_KG_leaf 4 (some FieldType.int) :: TT
def w_AL_size : List Cond := .code y_AL_size b_AL_size 1 (some FieldType.int) :: TT
def w_Key_init : List Cond := .code y_Key_init b_Key_init 3 none :: TT
def w_AL_add1 : List Cond := .code y_AL_add1 b_AL_add1 2 (some FieldType.boolean) :: TT
def w_AL_add3 : List Cond := .code y_AL_add3 b_AL_add3 4 none :: TT
def w_AL_grow0 : List Cond := .code y_AL_grow0 b_AL_grow0 1 (some (FieldType.array (FieldType.object "java/lang/Object"))) :: TT
def w_AL_grow1 : List Cond := .code y_AL_grow1 b_AL_grow1 4 (some (FieldType.array (FieldType.object "java/lang/Object"))) :: TT
def w_ASup_newLength : List Cond := .code y_ASup_newLength b_ASup_newLength 4 (some FieldType.int) :: TT
def w_Math_max : List Cond := .code y_Math_max b_Math_max 2 (some FieldType.int) :: TT
def w_ASup_hugeLength : List Cond := .code y_ASup_hugeLength b_ASup_hugeLength 3 (some FieldType.int) :: TT
def w_Arrs_copyOf2 : List Cond := .code y_Arrs_copyOf2 b_Arrs_copyOf2 2 (some (FieldType.array (FieldType.object "java/lang/Object"))) :: TT
def w_Arrs_copyOf3 : List Cond := .code y_Arrs_copyOf3 b_Arrs_copyOf3 4 (some (FieldType.array (FieldType.object "java/lang/Object"))) :: TT
def w_Math_min : List Cond := .code y_Math_min b_Math_min 2 (some FieldType.int) :: TT
def w_KG_key : List Cond := .code y_KG_key b_KG_key 2 (some FieldType.int) :: TT
def w_KG_made : List Cond := .code y_KG_made b_KG_made 1 (some (FieldType.object "KeyGraph$Function")) :: TT
def w_Sum_init : List Cond := .code y_Sum_init b_Sum_init 2 none :: TT
def w_Fun_init : List Cond := .code y_Fun_init b_Fun_init 1 none :: TT
def w_First_init : List Cond := .code y_First_init b_First_init 1 none :: TT
def w_Choice_init : List Cond := .code y_Choice_init b_Choice_init 1 none :: TT
def w_Quot_init : List Cond := .code y_Quot_init b_Quot_init 1 none :: TT
def w_Great_init : List Cond := .code y_Great_init b_Great_init 1 none :: TT
def w_KG_asks : List Cond := .code y_KG_asks b_KG_asks 7 (some FieldType.int) :: TT
def w_KG_isFunction : List Cond := .code y_KG_isFunction b_KG_isFunction 2 (some FieldType.boolean) :: TT
def w_KG_isKey : List Cond := .code y_KG_isKey b_KG_isKey 2 (some FieldType.boolean) :: TT
def w_AL_get : List Cond := .code y_AL_get b_AL_get 2 (some (FieldType.object "java/lang/Object")) :: TT
def w_Objs_checkIndex : List Cond := .code y_Objs_checkIndex b_Objs_checkIndex 2 (some FieldType.int) :: TT
def w_Prec_checkIndex : List Cond := .code y_Prec_checkIndex b_Prec_checkIndex 3 (some FieldType.int) :: TT
def w_AL_elementData : List Cond := .code y_AL_elementData b_AL_elementData 2 (some (FieldType.object "java/lang/Object")) :: TT
def w_Key_isLeaf : List Cond := .code y_Key_isLeaf b_Key_isLeaf 1 (some FieldType.boolean) :: TT
def w_KG_leadTo : List Cond := .code y_KG_leadTo b_KG_leadTo 4 none :: TT
def w_KG_asksOne : List Cond := .code y_KG_asksOne b_KG_asksOne 4 (some FieldType.boolean) :: TT
def w_KG_isLeading : List Cond := .code y_KG_isLeading b_KG_isLeading 2 (some FieldType.boolean) :: TT
def w_AL_clear : List Cond := .code y_AL_clear b_AL_clear 4 none :: TT
def w_KG_raise : List Cond := .code y_KG_raise b_KG_raise 1 none :: TT
def w_KG_cancel : List Cond := .code y_KG_cancel b_KG_cancel 4 (some FieldType.int) :: TT
def w_Pile_top : List Cond := .code y_Pile_top b_Pile_top 1 (some (FieldType.object "KeyGraph$Key")) :: TT
def w_KG_ring : List Cond := .code y_KG_ring b_KG_ring 2 (some FieldType.int) :: TT
def w_KG_change : List Cond := .code y_KG_change b_KG_change 5 (some FieldType.int) :: TT
def w_KG_spoil : List Cond := .code y_KG_spoil b_KG_spoil 4 (some FieldType.int) :: TT
def w_KG_version : List Cond := .code y_KG_version b_KG_version 1 (some FieldType.int) :: TT
def w_KG_begin : List Cond := .code y_KG_begin b_KG_begin 4 (some FieldType.int) :: TT
def w_KG_isWorker : List Cond := .code y_KG_isWorker b_KG_isWorker 1 (some FieldType.boolean) :: TT
def w_KG_isSure : List Cond := .code y_KG_isSure b_KG_isSure 2 (some FieldType.boolean) :: TT
def w_KG_put : List Cond := .code y_KG_put b_KG_put 4 none :: TT
def w_Choice_begin : List Cond := .code y_Choice_begin b_Choice_begin 2 none :: TT
def w_Great_begin : List Cond := .code y_Great_begin b_Great_begin 2 none :: TT
def w_Fun_begin : List Cond := .code y_Fun_begin b_Fun_begin 2 none :: TT
def w_KG_step : List Cond := .code y_KG_step b_KG_step 2 (some FieldType.int) :: TT
def w_KG_stepOf : List Cond := .code y_KG_stepOf b_KG_stepOf 6 (some FieldType.int) :: TT
def w_KG_check : List Cond := .code y_KG_check b_KG_check 5 (some FieldType.int) :: TT
def w_KG_found : List Cond := .code y_KG_found b_KG_found 3 (some FieldType.int) :: TT
def w_KG_goesDown : List Cond := .code y_KG_goesDown b_KG_goesDown 3 (some FieldType.int) :: TT
def w_KG_ends : List Cond := .code y_KG_ends b_KG_ends 7 (some FieldType.int) :: TT
def w_Fun_fails : List Cond := .code y_Fun_fails b_Fun_fails 1 (some FieldType.boolean) :: TT
def w_Choice_next : List Cond := .code y_Choice_next b_Choice_next 1 (some FieldType.int) :: TT
def w_Fun_next : List Cond := .code y_Fun_next b_Fun_next 1 (some FieldType.int) :: TT
def w_Sum_result : List Cond := .code y_Sum_result b_Sum_result 1 (some FieldType.long) :: TT
def w_Fun_result : List Cond := .code y_Fun_result b_Fun_result 1 (some FieldType.long) :: TT
def w_Choice_take : List Cond := .code y_Choice_take b_Choice_take 5 none :: TT
def w_Choice_with : List Cond := .code y_Choice_with b_Choice_with 3 none :: TT
def w_Fun_take : List Cond := .code y_Fun_take b_Fun_take 3 none :: TT
def w_First_with : List Cond := .code y_First_with b_First_with 3 none :: TT
def w_Great_with : List Cond := .code y_Great_with b_Great_with 3 none :: TT
def w_Quot_with : List Cond := .code y_Quot_with b_Quot_with 3 none :: TT
def w_Sum_with : List Cond := .code y_Sum_with b_Sum_with 3 none :: TT
def w_KG_run : List Cond := .code y_KG_run b_KG_run 5 (some FieldType.int) :: TT
def w_KG_state : List Cond := .code y_KG_state b_KG_state 2 (some FieldType.int) :: TT
def w_KG_worked : List Cond := .code y_KG_worked b_KG_worked 2 (some FieldType.int) :: TT
def w_KG_kept : List Cond := .code y_KG_kept b_KG_kept 2 (some FieldType.int) :: TT
def w_KG_changed : List Cond := .code y_KG_changed b_KG_changed 2 (some FieldType.int) :: TT
def w_KG_asked : List Cond := .code y_KG_asked b_KG_asked 3 (some FieldType.int) :: TT
def w_KG_drop : List Cond := .code y_KG_drop b_KG_drop 2 (some FieldType.boolean) :: TT
def w_KG_value : List Cond := .code y_KG_value b_KG_value 2 (some FieldType.long) :: TT
def w_Thr_init : List Cond := .code y_Thr_init b_Thr_init 1 none :: TT
def w_IAE_init : List Cond := .code y_IAE_init b_IAE_init 1 none :: TT
def w_RTE_init : List Cond := .code y_RTE_init b_RTE_init 1 none :: TT
def w_Exc_init : List Cond := .code y_Exc_init b_Exc_init 1 none :: TT
def w_ISE_init : List Cond := .code y_ISE_init b_ISE_init 1 none :: TT
def w_Mod_init : List Cond := .code y_Mod_init b_Mod_init 1 none :: TT
def w_Mod_thrown : List Cond := .code y_Mod_thrown b_Mod_thrown 1 (some FieldType.int) :: TT
def w_Mod_leaf : List Cond := .code y_Mod_leaf b_Mod_leaf 3 (some FieldType.int) :: TT
def w_Mod_make : List Cond := .code y_Mod_make b_Mod_make 2 (some FieldType.int) :: TT
def w_Mod_key : List Cond := .code y_Mod_key b_Mod_key 2 (some FieldType.int) :: TT
def w_Mod_asks : List Cond := .code y_Mod_asks b_Mod_asks 4 (some FieldType.int) :: TT
def w_Mod_isKey : List Cond := .code y_Mod_isKey b_Mod_isKey 2 (some FieldType.boolean) :: TT
def w_Mod_isLeaf : List Cond := .code y_Mod_isLeaf b_Mod_isLeaf 2 (some FieldType.boolean) :: TT
def w_Mod_fillLeads : List Cond := .code y_Mod_fillLeads b_Mod_fillLeads 5 none :: TT
def w_Mod_rowKey : List Cond := .code y_Mod_rowKey b_Mod_rowKey 3 (some FieldType.int) :: TT
def w_Mod_firstBack : List Cond := .code y_Mod_firstBack b_Mod_firstBack 3 (some FieldType.int) :: TT
def w_Mod_next : List Cond := .code y_Mod_next b_Mod_next 1 (some FieldType.int) :: TT
def w_Mod_empty : List Cond := .code y_Mod_empty b_Mod_empty 3 (some FieldType.int) :: TT
def w_Mod_ring : List Cond := .code y_Mod_ring b_Mod_ring 2 (some FieldType.int) :: TT
def w_Mod_change : List Cond := .code y_Mod_change b_Mod_change 4 (some FieldType.int) :: TT
def w_Mod_spoil : List Cond := .code y_Mod_spoil b_Mod_spoil 3 (some FieldType.int) :: TT
def w_Mod_begin : List Cond := .code y_Mod_begin b_Mod_begin 3 (some FieldType.int) :: TT
def w_Mod_isWorker : List Cond := .code y_Mod_isWorker b_Mod_isWorker 1 (some FieldType.boolean) :: TT
def w_Mod_pileOf : List Cond := .code y_Mod_pileOf b_Mod_pileOf 5 (some FieldType.int) :: TT
def w_Mod_isSure : List Cond := .code y_Mod_isSure b_Mod_isSure 2 (some FieldType.boolean) :: TT
def w_Mod_lay : List Cond := .code y_Mod_lay b_Mod_lay 4 none :: TT
def w_Mod_cancel : List Cond := .code y_Mod_cancel b_Mod_cancel 1 (some FieldType.int) :: TT
def w_Mod_step : List Cond := .code y_Mod_step b_Mod_step 2 (some FieldType.int) :: TT
def w_Mod_go : List Cond := .code y_Mod_go b_Mod_go 5 (some FieldType.int) :: TT
def w_Mod_check : List Cond := .code y_Mod_check b_Mod_check 5 (some FieldType.int) :: TT
def w_Mod_await : List Cond := .code y_Mod_await b_Mod_await 3 (some FieldType.int) :: TT
def w_Mod_comes : List Cond := .code y_Mod_comes b_Mod_comes 5 (some FieldType.int) :: TT
def w_Mod_taken : List Cond := .code y_Mod_taken b_Mod_taken 3 (some FieldType.long) :: TT
def w_Mod_remainder : List Cond := .code y_Mod_remainder b_Mod_remainder 4 (some FieldType.int) :: TT
def w_Mod_end : List Cond := .code y_Mod_end b_Mod_end 9 (some FieldType.int) :: TT
def w_Mod_outcome : List Cond := .code y_Mod_outcome b_Mod_outcome 9 (some FieldType.long) :: TT
def w_Mod_run : List Cond := .code y_Mod_run b_Mod_run 3 (some FieldType.int) :: TT
def w_Mod_state : List Cond := .code y_Mod_state b_Mod_state 2 (some FieldType.int) :: TT
def w_Mod_value : List Cond := .code y_Mod_value b_Mod_value 2 (some FieldType.long) :: TT
def w_Mod_worked : List Cond := .code y_Mod_worked b_Mod_worked 2 (some FieldType.int) :: TT
def w_Mod_kept : List Cond := .code y_Mod_kept b_Mod_kept 2 (some FieldType.int) :: TT
def w_Mod_changed : List Cond := .code y_Mod_changed b_Mod_changed 2 (some FieldType.int) :: TT
def w_Mod_asked : List Cond := .code y_Mod_asked b_Mod_asked 3 (some FieldType.int) :: TT
def w_Mod_drop : List Cond := .code y_Mod_drop b_Mod_drop 2 (some FieldType.boolean) :: TT
def w_Mod_version : List Cond := .code y_Mod_version b_Mod_version 1 (some FieldType.int) :: TT
theorem q_0 : Cond.initialized "KeyGraphLaw" ∈ TT := tt_i (i := 35) (by decide +kernel) rfl
theorem q_1 : Cond.initialized "KeyGraph" ∈ TT := tt_i (i := 36) (by decide +kernel) rfl
theorem q_2 : Cond.initialized "java/util/AbstractCollection" ∈ TT := tt_i (i := 37) (by decide +kernel) rfl
theorem q_3 : Cond.initialized "java/util/AbstractList" ∈ TT := tt_i (i := 38) (by decide +kernel) rfl
theorem q_4 : Cond.initialized "java/util/ArrayList" ∈ TT := tt_i (i := 39) (by decide +kernel) rfl
theorem q_5 : Cond.initialized "KeyGraph$Pile" ∈ TT := tt_i (i := 40) (by decide +kernel) rfl
theorem q_6 : Cond.initialized "KeyGraphModel" ∈ TT := tt_i (i := 41) (by decide +kernel) rfl
theorem q_7 : Cond.initialized "KeyGraph$Key" ∈ TT := tt_i (i := 42) (by decide +kernel) rfl
theorem q_8 : Cond.initialized "jdk/internal/util/ArraysSupport" ∈ TT := tt_i (i := 43) (by decide +kernel) rfl
theorem q_9 : Cond.initialized "java/lang/Math" ∈ TT := tt_i (i := 44) (by decide +kernel) rfl
theorem q_10 : Cond.initialized "java/util/Arrays" ∈ TT := tt_i (i := 45) (by decide +kernel) rfl
theorem q_11 : Cond.initialized "java/lang/System" ∈ TT := tt_i (i := 46) (by decide +kernel) rfl
theorem q_12 : Cond.initialized "KeyGraph$Function" ∈ TT := tt_i (i := 47) (by decide +kernel) rfl
theorem q_13 : Cond.initialized "KeyGraph$Sum" ∈ TT := tt_i (i := 48) (by decide +kernel) rfl
theorem q_14 : Cond.initialized "KeyGraph$First" ∈ TT := tt_i (i := 49) (by decide +kernel) rfl
theorem q_15 : Cond.initialized "KeyGraph$Choice" ∈ TT := tt_i (i := 50) (by decide +kernel) rfl
theorem q_16 : Cond.initialized "KeyGraph$Quotient" ∈ TT := tt_i (i := 51) (by decide +kernel) rfl
theorem q_17 : Cond.initialized "KeyGraph$Greatest" ∈ TT := tt_i (i := 52) (by decide +kernel) rfl
theorem q_18 : Cond.initialized "java/util/Objects" ∈ TT := tt_i (i := 53) (by decide +kernel) rfl
theorem q_19 : Cond.initialized "jdk/internal/util/Preconditions" ∈ TT := tt_i (i := 54) (by decide +kernel) rfl
theorem q_20 : Cond.initialized "java/lang/Throwable" ∈ TT := tt_i (i := 55) (by decide +kernel) rfl
theorem q_21 : Cond.initialized "java/lang/Exception" ∈ TT := tt_i (i := 56) (by decide +kernel) rfl
theorem q_22 : Cond.initialized "java/lang/RuntimeException" ∈ TT := tt_i (i := 57) (by decide +kernel) rfl
theorem q_23 : Cond.initialized "java/lang/IllegalArgumentException" ∈ TT := tt_i (i := 58) (by decide +kernel) rfl
theorem q_24 : Cond.initialized "java/lang/IllegalStateException" ∈ TT := tt_i (i := 59) (by decide +kernel) rfl
theorem q_25 : Cond.classLink "KeyGraphLaw" 8 "KeyGraph" ∈ TT := tt_i (i := 60) (by decide +kernel) rfl
theorem q_26 : Cond.instantiable "KeyGraph" 5 ∈ TT := tt_i (i := 61) (by decide +kernel) rfl
theorem q_27 : Cond.methodLink "KeyGraphLaw" 17 y_KG_init ∈ TT := tt_i (i := 62) (by decide +kernel) rfl
theorem q_28 : Cond.instanceMethod y_KG_init ∈ TT := tt_i (i := 63) (by decide +kernel) rfl
set_option maxRecDepth 20000 in
theorem q_29 : Cond.code y_KG_init prog_1_method_3_code 1 none ∈ TT := tt_i (i := 64) rfl rfl
theorem q_30 : Cond.methodLink "KeyGraph" 26 y_Obj_init ∈ TT := tt_i (i := 65) (by decide +kernel) rfl
theorem q_31 : Cond.instanceMethod y_Obj_init ∈ TT := tt_i (i := 66) (by decide +kernel) rfl
set_option maxRecDepth 20000 in
theorem q_32 : Cond.code y_Obj_init object_method_1_code 1 none ∈ TT := tt_i (i := 67) rfl rfl
theorem q_33 : Cond.classLink "KeyGraph" 29 "java/util/ArrayList" ∈ TT := tt_i (i := 68) (by decide +kernel) rfl
theorem q_34 : Cond.instantiable "java/util/ArrayList" 3 ∈ TT := tt_i (i := 69) (by decide +kernel) rfl
theorem q_35 : Cond.methodLink "KeyGraph" 31 y_AL_init ∈ TT := tt_i (i := 70) (by decide +kernel) rfl
theorem q_36 : Cond.instanceMethod y_AL_init ∈ TT := tt_i (i := 71) (by decide +kernel) rfl
set_option maxRecDepth 20000 in
theorem q_37 : Cond.code y_AL_init prog_24_method_2_code 1 none ∈ TT := tt_i (i := 72) rfl rfl
theorem q_38 : Cond.methodLink "java/util/ArrayList" 1 y_AbsL_init ∈ TT := tt_i (i := 73) (by decide +kernel) rfl
theorem q_39 : Cond.instanceMethod y_AbsL_init ∈ TT := tt_i (i := 74) (by decide +kernel) rfl
set_option maxRecDepth 20000 in
theorem q_40 : Cond.code y_AbsL_init prog_23_method_1_code 1 none ∈ TT := tt_i (i := 75) rfl rfl
theorem q_41 : Cond.methodLink "java/util/AbstractList" 1 y_AbsC_init ∈ TT := tt_i (i := 76) (by decide +kernel) rfl
theorem q_42 : Cond.instanceMethod y_AbsC_init ∈ TT := tt_i (i := 77) (by decide +kernel) rfl
set_option maxRecDepth 20000 in
theorem q_43 : Cond.code y_AbsC_init prog_22_method_1_code 1 none ∈ TT := tt_i (i := 78) rfl rfl
theorem q_44 : Cond.methodLink "java/util/AbstractCollection" 1 y_Obj_init ∈ TT := tt_i (i := 79) (by decide +kernel) rfl
theorem q_45 : Cond.fieldLink "java/util/ArrayList" 39 "java/util/ArrayList" "DEFAULTCAPACITY_EMPTY_ELEMENTDATA" "[Ljava/lang/Object;" ∈ TT := tt_i (i := 80) (by decide +kernel) rfl
theorem q_47 : Cond.fieldLink "java/util/ArrayList" 9 "java/util/ArrayList" "elementData" "[Ljava/lang/Object;" ∈ TT := tt_i (i := 82) (by decide +kernel) rfl
theorem q_48 : Cond.fieldLink "java/util/ArrayList" 48 "java/util/ArrayList" "size" "I" ∈ TT := tt_i (i := 83) (by decide +kernel) rfl
theorem q_49 : Cond.fieldLink "java/util/AbstractList" 7 "java/util/AbstractList" "modCount" "I" ∈ TT := tt_i (i := 84) (by decide +kernel) rfl
theorem q_50 : Cond.fieldLink "java/util/ArrayList" 63 "java/util/ArrayList" "modCount" "I" ∈ TT := tt_i (i := 85) (by decide +kernel) rfl
theorem q_51 : Cond.sameField "java/util/ArrayList" "java/util/AbstractList" "modCount" "I" ∈ TT := tt_i (i := 86) (by decide +kernel) rfl
theorem q_52 : Cond.lays "java/util/ArrayList" "java/util/ArrayList" "elementData" "[Ljava/lang/Object;" ∈ TT := tt_i (i := 87) (by decide +kernel) rfl
theorem q_54 : Cond.lays "java/util/ArrayList" "java/util/ArrayList" "size" "I" ∈ TT := tt_i (i := 89) (by decide +kernel) rfl
theorem q_56 : Cond.lays "java/util/ArrayList" "java/util/AbstractList" "modCount" "I" ∈ TT := tt_i (i := 91) (by decide +kernel) rfl
theorem q_59 : Cond.methodLink "KeyGraph" 36 y_KG_piles ∈ TT := tt_i (i := 94) (by decide +kernel) rfl
theorem q_60 : Cond.static y_KG_piles ∈ TT := tt_i (i := 95) (by decide +kernel) rfl
set_option maxRecDepth 20000 in
theorem q_61 : Cond.code y_KG_piles prog_1_method_2_code 2 (some (FieldType.array (FieldType.object "KeyGraph$Pile"))) ∈ TT := tt_i (i := 96) rfl rfl
theorem q_62 : Cond.classLink "KeyGraph" 23 "KeyGraph$Pile" ∈ TT := tt_i (i := 97) (by decide +kernel) rfl
theorem q_64 : Cond.instantiable "KeyGraph$Pile" 2 ∈ TT := tt_i (i := 99) (by decide +kernel) rfl
theorem q_66 : Cond.instanceMethod y_Pile_init ∈ TT := tt_i (i := 101) (by decide +kernel) rfl
set_option maxRecDepth 20000 in
theorem q_67 : Cond.code y_Pile_init prog_7_method_1_code 1 none ∈ TT := tt_i (i := 102) rfl rfl
theorem q_68 : Cond.methodLink "KeyGraph$Pile" 3 y_Obj_init ∈ TT := tt_i (i := 103) (by decide +kernel) rfl
theorem q_69 : Cond.classLink "KeyGraph$Pile" 9 "KeyGraph$Key" ∈ TT := tt_i (i := 104) (by decide +kernel) rfl
theorem q_71 : Cond.fieldLink "KeyGraph$Pile" 11 "KeyGraph$Pile" "keys" "[LKeyGraph$Key;" ∈ TT := tt_i (i := 106) (by decide +kernel) rfl
theorem q_73 : Cond.fieldLink "KeyGraph$Pile" 17 "KeyGraph$Pile" "size" "I" ∈ TT := tt_i (i := 108) (by decide +kernel) rfl
theorem q_75 : Cond.laysFinal "KeyGraph$Pile" "KeyGraph$Pile" "keys" "[LKeyGraph$Key;" ∈ TT := tt_i (i := 110) (by decide +kernel) rfl
theorem q_77 : Cond.lays "KeyGraph$Pile" "KeyGraph$Pile" "size" "I" ∈ TT := tt_i (i := 112) (by decide +kernel) rfl
theorem q_80 : Cond.fieldLink "KeyGraph" 32 "KeyGraph" "keys" "Ljava/util/ArrayList;" ∈ TT := tt_i (i := 115) (by decide +kernel) rfl
theorem q_81 : Cond.fieldLink "KeyGraph" 40 "KeyGraph" "piles" "[LKeyGraph$Pile;" ∈ TT := tt_i (i := 116) (by decide +kernel) rfl
theorem q_82 : Cond.fieldLink "KeyGraph" 43 "KeyGraph" "told" "Ljava/util/ArrayList;" ∈ TT := tt_i (i := 117) (by decide +kernel) rfl
theorem q_83 : Cond.fieldLink "KeyGraph" 75 "KeyGraph" "version" "I" ∈ TT := tt_i (i := 118) (by decide +kernel) rfl
theorem q_84 : Cond.fieldLink "KeyGraph" 46 "KeyGraph" "leads" "[Z" ∈ TT := tt_i (i := 119) (by decide +kernel) rfl
theorem q_85 : Cond.laysFinal "KeyGraph" "KeyGraph" "keys" "Ljava/util/ArrayList;" ∈ TT := tt_i (i := 120) (by decide +kernel) rfl
theorem q_87 : Cond.laysFinal "KeyGraph" "KeyGraph" "piles" "[LKeyGraph$Pile;" ∈ TT := tt_i (i := 122) (by decide +kernel) rfl
theorem q_89 : Cond.laysFinal "KeyGraph" "KeyGraph" "told" "Ljava/util/ArrayList;" ∈ TT := tt_i (i := 124) (by decide +kernel) rfl
theorem q_91 : Cond.lays "KeyGraph" "KeyGraph" "version" "I" ∈ TT := tt_i (i := 126) (by decide +kernel) rfl
theorem q_93 : Cond.laysFinal "KeyGraph" "KeyGraph" "leads" "[Z" ∈ TT := tt_i (i := 128) (by decide +kernel) rfl
theorem q_96 : Cond.arrayClass FieldType.boolean ∈ TT := tt_i (i := 131) (by decide +kernel) rfl
theorem q_97 : Cond.methodLink "KeyGraphLaw" 23 y_KG_leaf ∈ TT := tt_i (i := 132) (by decide +kernel) rfl
theorem q_98 : Cond.instanceMethod y_KG_leaf ∈ TT := tt_i (i := 133) (by decide +kernel) rfl
theorem q_99 : Cond.selects "KeyGraph" y_KG_leaf y_KG_leaf ∈ TT := tt_i (i := 134) (by decide +kernel) rfl
set_option maxRecDepth 20000 in
theorem q_100 : Cond.code y_KG_leaf prog_1_method_7_code 4 (some FieldType.int) ∈ TT := tt_i (i := 135) rfl rfl
theorem q_101 : Cond.methodLink "KeyGraph" 50 y_AL_size ∈ TT := tt_i (i := 136) (by decide +kernel) rfl
theorem q_102 : Cond.instanceMethod y_AL_size ∈ TT := tt_i (i := 137) (by decide +kernel) rfl
theorem q_103 : Cond.selects "java/util/ArrayList" y_AL_size y_AL_size ∈ TT := tt_i (i := 138) (by decide +kernel) rfl
set_option maxRecDepth 20000 in
theorem q_104 : Cond.code y_AL_size prog_24_method_8_code 1 (some FieldType.int) ∈ TT := tt_i (i := 139) rfl rfl
theorem q_105 : Cond.classLink "KeyGraph" 62 "KeyGraph$Key" ∈ TT := tt_i (i := 140) (by decide +kernel) rfl
theorem q_106 : Cond.instantiable "KeyGraph$Key" 18 ∈ TT := tt_i (i := 141) (by decide +kernel) rfl
theorem q_107 : Cond.methodLink "KeyGraph" 78 y_Key_init ∈ TT := tt_i (i := 142) (by decide +kernel) rfl
theorem q_108 : Cond.instanceMethod y_Key_init ∈ TT := tt_i (i := 143) (by decide +kernel) rfl
set_option maxRecDepth 20000 in
theorem q_109 : Cond.code y_Key_init prog_6_method_1_code 3 none ∈ TT := tt_i (i := 144) rfl rfl
theorem q_110 : Cond.methodLink "KeyGraph$Key" 3 y_Obj_init ∈ TT := tt_i (i := 145) (by decide +kernel) rfl
theorem q_111 : Cond.classLink "KeyGraph$Key" 9 "java/util/ArrayList" ∈ TT := tt_i (i := 146) (by decide +kernel) rfl
theorem q_112 : Cond.methodLink "KeyGraph$Key" 11 y_AL_init ∈ TT := tt_i (i := 147) (by decide +kernel) rfl
theorem q_113 : Cond.fieldLink "KeyGraph$Key" 32 "KeyGraph$Key" "number" "I" ∈ TT := tt_i (i := 148) (by decide +kernel) rfl
theorem q_115 : Cond.fieldLink "KeyGraph$Key" 35 "KeyGraph$Key" "function" "LKeyGraph$Function;" ∈ TT := tt_i (i := 150) (by decide +kernel) rfl
theorem q_117 : Cond.fieldLink "KeyGraph$Key" 12 "KeyGraph$Key" "row" "Ljava/util/ArrayList;" ∈ TT := tt_i (i := 152) (by decide +kernel) rfl
theorem q_122 : Cond.fieldLink "KeyGraph$Key" 18 "KeyGraph$Key" "sureIn" "I" ∈ TT := tt_i (i := 157) (by decide +kernel) rfl
theorem q_128 : Cond.fieldLink "KeyGraph$Key" 22 "KeyGraph$Key" "asked" "[I" ∈ TT := tt_i (i := 163) (by decide +kernel) rfl
theorem q_130 : Cond.fieldLink "KeyGraph$Key" 26 "KeyGraph$Key" "asking" "[I" ∈ TT := tt_i (i := 165) (by decide +kernel) rfl
theorem q_134 : Cond.fieldLink "KeyGraph$Key" 29 "KeyGraph$Key" "worker" "I" ∈ TT := tt_i (i := 169) (by decide +kernel) rfl
theorem q_138 : Cond.laysFinal "KeyGraph$Key" "KeyGraph$Key" "number" "I" ∈ TT := tt_i (i := 173) (by decide +kernel) rfl
theorem q_140 : Cond.laysFinal "KeyGraph$Key" "KeyGraph$Key" "function" "LKeyGraph$Function;" ∈ TT := tt_i (i := 175) (by decide +kernel) rfl
theorem q_142 : Cond.laysFinal "KeyGraph$Key" "KeyGraph$Key" "row" "Ljava/util/ArrayList;" ∈ TT := tt_i (i := 177) (by decide +kernel) rfl
theorem q_144 : Cond.lays "KeyGraph$Key" "KeyGraph$Key" "state" "I" ∈ TT := tt_i (i := 179) (by decide +kernel) rfl
theorem q_146 : Cond.lays "KeyGraph$Key" "KeyGraph$Key" "value" "J" ∈ TT := tt_i (i := 181) (by decide +kernel) rfl
theorem q_148 : Cond.lays "KeyGraph$Key" "KeyGraph$Key" "changed" "I" ∈ TT := tt_i (i := 183) (by decide +kernel) rfl
theorem q_150 : Cond.lays "KeyGraph$Key" "KeyGraph$Key" "sureIn" "I" ∈ TT := tt_i (i := 185) (by decide +kernel) rfl
theorem q_152 : Cond.lays "KeyGraph$Key" "KeyGraph$Key" "ownIn" "I" ∈ TT := tt_i (i := 187) (by decide +kernel) rfl
theorem q_154 : Cond.lays "KeyGraph$Key" "KeyGraph$Key" "worked" "I" ∈ TT := tt_i (i := 189) (by decide +kernel) rfl
theorem q_156 : Cond.lays "KeyGraph$Key" "KeyGraph$Key" "kept" "I" ∈ TT := tt_i (i := 191) (by decide +kernel) rfl
theorem q_158 : Cond.lays "KeyGraph$Key" "KeyGraph$Key" "spoilt" "Z" ∈ TT := tt_i (i := 193) (by decide +kernel) rfl
theorem q_160 : Cond.lays "KeyGraph$Key" "KeyGraph$Key" "asked" "[I" ∈ TT := tt_i (i := 195) (by decide +kernel) rfl
theorem q_162 : Cond.lays "KeyGraph$Key" "KeyGraph$Key" "asking" "[I" ∈ TT := tt_i (i := 197) (by decide +kernel) rfl
theorem q_164 : Cond.lays "KeyGraph$Key" "KeyGraph$Key" "askedCount" "I" ∈ TT := tt_i (i := 199) (by decide +kernel) rfl
theorem q_166 : Cond.lays "KeyGraph$Key" "KeyGraph$Key" "askingCount" "I" ∈ TT := tt_i (i := 201) (by decide +kernel) rfl
theorem q_168 : Cond.lays "KeyGraph$Key" "KeyGraph$Key" "worker" "I" ∈ TT := tt_i (i := 203) (by decide +kernel) rfl
theorem q_170 : Cond.lays "KeyGraph$Key" "KeyGraph$Key" "at" "I" ∈ TT := tt_i (i := 205) (by decide +kernel) rfl
theorem q_172 : Cond.lays "KeyGraph$Key" "KeyGraph$Key" "checks" "Z" ∈ TT := tt_i (i := 207) (by decide +kernel) rfl
theorem q_175 : Cond.arrayClass FieldType.int ∈ TT := tt_i (i := 210) (by decide +kernel) rfl
theorem q_176 : Cond.methodLink "KeyGraph" 88 y_AL_add1 ∈ TT := tt_i (i := 211) (by decide +kernel) rfl
theorem q_177 : Cond.instanceMethod y_AL_add1 ∈ TT := tt_i (i := 212) (by decide +kernel) rfl
theorem q_178 : Cond.selects "java/util/ArrayList" y_AL_add1 y_AL_add1 ∈ TT := tt_i (i := 213) (by decide +kernel) rfl
set_option maxRecDepth 20000 in
theorem q_179 : Cond.code y_AL_add1 prog_24_method_25_code 2 (some FieldType.boolean) ∈ TT := tt_i (i := 214) rfl rfl
theorem q_180 : Cond.methodLink "java/util/ArrayList" 131 y_AL_add3 ∈ TT := tt_i (i := 215) (by decide +kernel) rfl
theorem q_182 : Cond.instanceMethod y_AL_add3 ∈ TT := tt_i (i := 217) (by decide +kernel) rfl
set_option maxRecDepth 20000 in
theorem q_183 : Cond.code y_AL_add3 prog_24_method_24_code 4 none ∈ TT := tt_i (i := 218) rfl rfl
theorem q_184 : Cond.methodLink "java/util/ArrayList" 129 y_AL_grow0 ∈ TT := tt_i (i := 219) (by decide +kernel) rfl
theorem q_186 : Cond.instanceMethod y_AL_grow0 ∈ TT := tt_i (i := 221) (by decide +kernel) rfl
set_option maxRecDepth 20000 in
theorem q_187 : Cond.code y_AL_grow0 prog_24_method_7_code 1 (some (FieldType.array (FieldType.object "java/lang/Object"))) ∈ TT := tt_i (i := 222) rfl rfl
theorem q_188 : Cond.methodLink "java/util/ArrayList" 69 y_AL_grow1 ∈ TT := tt_i (i := 223) (by decide +kernel) rfl
theorem q_190 : Cond.instanceMethod y_AL_grow1 ∈ TT := tt_i (i := 225) (by decide +kernel) rfl
set_option maxRecDepth 20000 in
theorem q_191 : Cond.code y_AL_grow1 prog_24_method_6_code 4 (some (FieldType.array (FieldType.object "java/lang/Object"))) ∈ TT := tt_i (i := 226) rfl rfl
theorem q_192 : Cond.methodLink "java/util/ArrayList" 73 y_ASup_newLength ∈ TT := tt_i (i := 227) (by decide +kernel) rfl
theorem q_193 : Cond.static y_ASup_newLength ∈ TT := tt_i (i := 228) (by decide +kernel) rfl
set_option maxRecDepth 20000 in
theorem q_194 : Cond.code y_ASup_newLength prog_31_method_27_code 4 (some FieldType.int) ∈ TT := tt_i (i := 229) rfl rfl
theorem q_195 : Cond.methodLink "jdk/internal/util/ArraysSupport" 194 y_Math_max ∈ TT := tt_i (i := 230) (by decide +kernel) rfl
theorem q_196 : Cond.static y_Math_max ∈ TT := tt_i (i := 231) (by decide +kernel) rfl
set_option maxRecDepth 20000 in
theorem q_197 : Cond.code y_Math_max prog_18_method_65_code 2 (some FieldType.int) ∈ TT := tt_i (i := 232) rfl rfl
theorem q_198 : Cond.constant "jdk/internal/util/ArraysSupport" 200 (2147483639 : Int32) ∈ TT := tt_i (i := 233) (by decide +kernel) rfl
theorem q_199 : Cond.methodLink "jdk/internal/util/ArraysSupport" 201 y_ASup_hugeLength ∈ TT := tt_i (i := 234) (by decide +kernel) rfl
theorem q_200 : Cond.static y_ASup_hugeLength ∈ TT := tt_i (i := 235) (by decide +kernel) rfl
set_option maxRecDepth 20000 in
theorem q_201 : Cond.code y_ASup_hugeLength prog_31_method_28_code 3 (some FieldType.int) ∈ TT := tt_i (i := 236) rfl rfl
theorem q_202 : Cond.methodLink "java/util/ArrayList" 66 y_Arrs_copyOf2 ∈ TT := tt_i (i := 237) (by decide +kernel) rfl
theorem q_203 : Cond.static y_Arrs_copyOf2 ∈ TT := tt_i (i := 238) (by decide +kernel) rfl
set_option maxRecDepth 20000 in
theorem q_204 : Cond.code y_Arrs_copyOf2 prog_25_method_119_code 2 (some (FieldType.array (FieldType.object "java/lang/Object"))) ∈ TT := tt_i (i := 239) rfl rfl
theorem q_205 : Cond.methodLink "java/util/Arrays" 86 y_Obj_getClass ∈ TT := tt_i (i := 240) (by decide +kernel) rfl
theorem q_206 : Cond.instanceMethod y_Obj_getClass ∈ TT := tt_i (i := 241) (by decide +kernel) rfl
theorem q_207 : Cond.sameMethod "java/lang/Object" "java/lang/Object" "getClass" "()Ljava/lang/Class;" ∈ TT := tt_i (i := 242) (by decide +kernel) rfl
theorem q_208 : Cond.selects "KeyGraph" y_Obj_getClass y_Obj_getClass ∈ TT := tt_i (i := 243) (by decide +kernel) rfl
theorem q_209 : Cond.selects "KeyGraph$Choice" y_Obj_getClass y_Obj_getClass ∈ TT := tt_i (i := 244) (by decide +kernel) rfl
theorem q_210 : Cond.selects "KeyGraph$First" y_Obj_getClass y_Obj_getClass ∈ TT := tt_i (i := 245) (by decide +kernel) rfl
theorem q_211 : Cond.selects "KeyGraph$Greatest" y_Obj_getClass y_Obj_getClass ∈ TT := tt_i (i := 246) (by decide +kernel) rfl
theorem q_212 : Cond.selects "KeyGraph$Key" y_Obj_getClass y_Obj_getClass ∈ TT := tt_i (i := 247) (by decide +kernel) rfl
theorem q_213 : Cond.selects "KeyGraph$Pile" y_Obj_getClass y_Obj_getClass ∈ TT := tt_i (i := 248) (by decide +kernel) rfl
theorem q_214 : Cond.selects "KeyGraph$Quotient" y_Obj_getClass y_Obj_getClass ∈ TT := tt_i (i := 249) (by decide +kernel) rfl
theorem q_215 : Cond.selects "KeyGraph$Sum" y_Obj_getClass y_Obj_getClass ∈ TT := tt_i (i := 250) (by decide +kernel) rfl
theorem q_216 : Cond.selects "KeyGraphModel" y_Obj_getClass y_Obj_getClass ∈ TT := tt_i (i := 251) (by decide +kernel) rfl
theorem q_217 : Cond.selects "java/lang/IllegalArgumentException" y_Obj_getClass y_Obj_getClass ∈ TT := tt_i (i := 252) (by decide +kernel) rfl
theorem q_218 : Cond.selects "java/lang/IllegalStateException" y_Obj_getClass y_Obj_getClass ∈ TT := tt_i (i := 253) (by decide +kernel) rfl
theorem q_219 : Cond.selects "java/util/ArrayList" y_Obj_getClass y_Obj_getClass ∈ TT := tt_i (i := 254) (by decide +kernel) rfl
theorem q_220 : Cond.native y_Obj_getClass ∈ TT := tt_i (i := 255) (by decide +kernel) rfl
theorem q_221 : Cond.methodLink "java/util/Arrays" 300 y_Arrs_copyOf3 ∈ TT := tt_i (i := 256) (by decide +kernel) rfl
theorem q_222 : Cond.static y_Arrs_copyOf3 ∈ TT := tt_i (i := 257) (by decide +kernel) rfl
set_option maxRecDepth 20000 in
theorem q_223 : Cond.code y_Arrs_copyOf3 prog_25_method_120_code 4 (some (FieldType.array (FieldType.object "java/lang/Object"))) ∈ TT := tt_i (i := 258) rfl rfl
theorem q_224 : Cond.classLink "java/util/Arrays" 110 "[Ljava/lang/Object;" ∈ TT := tt_i (i := 259) (by decide +kernel) rfl
theorem q_226 : Cond.classLink "java/util/Arrays" 2 "java/lang/Object" ∈ TT := tt_i (i := 261) (by decide +kernel) rfl
theorem q_227 : Cond.methodLink "java/util/Arrays" 304 y_Math_min ∈ TT := tt_i (i := 262) (by decide +kernel) rfl
theorem q_228 : Cond.static y_Math_min ∈ TT := tt_i (i := 263) (by decide +kernel) rfl
set_option maxRecDepth 20000 in
theorem q_229 : Cond.code y_Math_min prog_18_method_69_code 2 (some FieldType.int) ∈ TT := tt_i (i := 264) rfl rfl
theorem q_230 : Cond.methodLink "java/util/Arrays" 150 y_Sys_arraycopy ∈ TT := tt_i (i := 265) (by decide +kernel) rfl
theorem q_231 : Cond.static y_Sys_arraycopy ∈ TT := tt_i (i := 266) (by decide +kernel) rfl
theorem q_232 : Cond.native y_Sys_arraycopy ∈ TT := tt_i (i := 267) (by decide +kernel) rfl
theorem q_233 : Cond.methodLink "java/util/ArrayList" 79 y_Math_max ∈ TT := tt_i (i := 268) (by decide +kernel) rfl
theorem q_234 : Cond.classLink "java/util/ArrayList" 7 "java/lang/Object" ∈ TT := tt_i (i := 269) (by decide +kernel) rfl
theorem q_235 : Cond.methodLink "KeyGraphLaw" 28 y_KG_key ∈ TT := tt_i (i := 270) (by decide +kernel) rfl
theorem q_236 : Cond.instanceMethod y_KG_key ∈ TT := tt_i (i := 271) (by decide +kernel) rfl
theorem q_237 : Cond.selects "KeyGraph" y_KG_key y_KG_key ∈ TT := tt_i (i := 272) (by decide +kernel) rfl
set_option maxRecDepth 20000 in
theorem q_238 : Cond.code y_KG_key prog_1_method_8_code 2 (some FieldType.int) ∈ TT := tt_i (i := 273) rfl rfl
theorem q_239 : Cond.methodLink "KeyGraph" 95 y_KG_made ∈ TT := tt_i (i := 274) (by decide +kernel) rfl
theorem q_240 : Cond.static y_KG_made ∈ TT := tt_i (i := 275) (by decide +kernel) rfl
set_option maxRecDepth 20000 in
theorem q_241 : Cond.code y_KG_made prog_1_method_1_code 1 (some (FieldType.object "KeyGraph$Function")) ∈ TT := tt_i (i := 276) rfl rfl
theorem q_242 : Cond.classLink "KeyGraph" 1 "KeyGraph$Sum" ∈ TT := tt_i (i := 277) (by decide +kernel) rfl
theorem q_243 : Cond.instantiable "KeyGraph$Sum" 5 ∈ TT := tt_i (i := 278) (by decide +kernel) rfl
theorem q_244 : Cond.methodLink "KeyGraph" 3 y_Sum_init ∈ TT := tt_i (i := 279) (by decide +kernel) rfl
theorem q_245 : Cond.instanceMethod y_Sum_init ∈ TT := tt_i (i := 280) (by decide +kernel) rfl
set_option maxRecDepth 20000 in
theorem q_246 : Cond.code y_Sum_init prog_9_method_1_code 2 none ∈ TT := tt_i (i := 281) rfl rfl
theorem q_248 : Cond.instanceMethod y_Fun_init ∈ TT := tt_i (i := 283) (by decide +kernel) rfl
set_option maxRecDepth 20000 in
theorem q_249 : Cond.code y_Fun_init prog_4_method_1_code 1 none ∈ TT := tt_i (i := 284) rfl rfl
theorem q_250 : Cond.methodLink "KeyGraph$Function" 3 y_Obj_init ∈ TT := tt_i (i := 285) (by decide +kernel) rfl
theorem q_251 : Cond.fieldLink "KeyGraph$Sum" 7 "KeyGraph$Sum" "parity" "Z" ∈ TT := tt_i (i := 286) (by decide +kernel) rfl
theorem q_252 : Cond.fieldLink "KeyGraph$Function" 9 "KeyGraph$Function" "many" "I" ∈ TT := tt_i (i := 287) (by decide +kernel) rfl
theorem q_253 : Cond.fieldLink "KeyGraph$First" 17 "KeyGraph$First" "many" "I" ∈ TT := tt_i (i := 288) (by decide +kernel) rfl
theorem q_254 : Cond.sameField "KeyGraph$First" "KeyGraph$Function" "many" "I" ∈ TT := tt_i (i := 289) (by decide +kernel) rfl
theorem q_255 : Cond.fieldLink "KeyGraph$Choice" 23 "KeyGraph$Choice" "many" "I" ∈ TT := tt_i (i := 290) (by decide +kernel) rfl
theorem q_256 : Cond.sameField "KeyGraph$Choice" "KeyGraph$Function" "many" "I" ∈ TT := tt_i (i := 291) (by decide +kernel) rfl
theorem q_257 : Cond.fieldLink "KeyGraph$Quotient" 7 "KeyGraph$Quotient" "place" "I" ∈ TT := tt_i (i := 292) (by decide +kernel) rfl
theorem q_258 : Cond.sameField "KeyGraph$Quotient" "KeyGraph$Function" "place" "I" ∈ TT := tt_i (i := 293) (by decide +kernel) rfl
theorem q_259 : Cond.fieldLink "KeyGraph$Function" 15 "KeyGraph$Function" "place" "I" ∈ TT := tt_i (i := 294) (by decide +kernel) rfl
theorem q_260 : Cond.fieldLink "KeyGraph$First" 13 "KeyGraph$First" "place" "I" ∈ TT := tt_i (i := 295) (by decide +kernel) rfl
theorem q_261 : Cond.sameField "KeyGraph$First" "KeyGraph$Function" "place" "I" ∈ TT := tt_i (i := 296) (by decide +kernel) rfl
theorem q_262 : Cond.fieldLink "KeyGraph$Greatest" 17 "KeyGraph$Greatest" "place" "I" ∈ TT := tt_i (i := 297) (by decide +kernel) rfl
theorem q_263 : Cond.sameField "KeyGraph$Greatest" "KeyGraph$Function" "place" "I" ∈ TT := tt_i (i := 298) (by decide +kernel) rfl
theorem q_264 : Cond.fieldLink "KeyGraph$Choice" 19 "KeyGraph$Choice" "place" "I" ∈ TT := tt_i (i := 299) (by decide +kernel) rfl
theorem q_265 : Cond.sameField "KeyGraph$Choice" "KeyGraph$Function" "place" "I" ∈ TT := tt_i (i := 300) (by decide +kernel) rfl
theorem q_266 : Cond.fieldLink "KeyGraph$First" 7 "KeyGraph$First" "v" "J" ∈ TT := tt_i (i := 301) (by decide +kernel) rfl
theorem q_267 : Cond.sameField "KeyGraph$First" "KeyGraph$Function" "v" "J" ∈ TT := tt_i (i := 302) (by decide +kernel) rfl
theorem q_268 : Cond.fieldLink "KeyGraph$Sum" 13 "KeyGraph$Sum" "v" "J" ∈ TT := tt_i (i := 303) (by decide +kernel) rfl
theorem q_269 : Cond.sameField "KeyGraph$Sum" "KeyGraph$Function" "v" "J" ∈ TT := tt_i (i := 304) (by decide +kernel) rfl
theorem q_270 : Cond.fieldLink "KeyGraph$Quotient" 13 "KeyGraph$Quotient" "v" "J" ∈ TT := tt_i (i := 305) (by decide +kernel) rfl
theorem q_271 : Cond.sameField "KeyGraph$Quotient" "KeyGraph$Function" "v" "J" ∈ TT := tt_i (i := 306) (by decide +kernel) rfl
theorem q_272 : Cond.fieldLink "KeyGraph$Function" 18 "KeyGraph$Function" "v" "J" ∈ TT := tt_i (i := 307) (by decide +kernel) rfl
theorem q_273 : Cond.fieldLink "KeyGraph$Greatest" 21 "KeyGraph$Greatest" "v" "J" ∈ TT := tt_i (i := 308) (by decide +kernel) rfl
theorem q_274 : Cond.sameField "KeyGraph$Greatest" "KeyGraph$Function" "v" "J" ∈ TT := tt_i (i := 309) (by decide +kernel) rfl
theorem q_275 : Cond.fieldLink "KeyGraph$Choice" 30 "KeyGraph$Choice" "v" "J" ∈ TT := tt_i (i := 310) (by decide +kernel) rfl
theorem q_276 : Cond.sameField "KeyGraph$Choice" "KeyGraph$Function" "v" "J" ∈ TT := tt_i (i := 311) (by decide +kernel) rfl
theorem q_277 : Cond.fieldLink "KeyGraph$Greatest" 11 "KeyGraph$Greatest" "failed" "Z" ∈ TT := tt_i (i := 312) (by decide +kernel) rfl
theorem q_278 : Cond.sameField "KeyGraph$Greatest" "KeyGraph$Function" "failed" "Z" ∈ TT := tt_i (i := 313) (by decide +kernel) rfl
theorem q_279 : Cond.fieldLink "KeyGraph$Function" 22 "KeyGraph$Function" "failed" "Z" ∈ TT := tt_i (i := 314) (by decide +kernel) rfl
theorem q_280 : Cond.fieldLink "KeyGraph$Quotient" 17 "KeyGraph$Quotient" "failed" "Z" ∈ TT := tt_i (i := 315) (by decide +kernel) rfl
theorem q_281 : Cond.sameField "KeyGraph$Quotient" "KeyGraph$Function" "failed" "Z" ∈ TT := tt_i (i := 316) (by decide +kernel) rfl
theorem q_282 : Cond.laysFinal "KeyGraph$Sum" "KeyGraph$Sum" "parity" "Z" ∈ TT := tt_i (i := 317) (by decide +kernel) rfl
theorem q_284 : Cond.lays "KeyGraph$Sum" "KeyGraph$Function" "many" "I" ∈ TT := tt_i (i := 319) (by decide +kernel) rfl
theorem q_286 : Cond.lays "KeyGraph$Sum" "KeyGraph$Function" "place" "I" ∈ TT := tt_i (i := 321) (by decide +kernel) rfl
theorem q_288 : Cond.lays "KeyGraph$Sum" "KeyGraph$Function" "v" "J" ∈ TT := tt_i (i := 323) (by decide +kernel) rfl
theorem q_290 : Cond.lays "KeyGraph$Sum" "KeyGraph$Function" "failed" "Z" ∈ TT := tt_i (i := 325) (by decide +kernel) rfl
theorem q_293 : Cond.classLink "KeyGraph" 7 "KeyGraph$First" ∈ TT := tt_i (i := 328) (by decide +kernel) rfl
theorem q_294 : Cond.instantiable "KeyGraph$First" 4 ∈ TT := tt_i (i := 329) (by decide +kernel) rfl
theorem q_296 : Cond.instanceMethod y_First_init ∈ TT := tt_i (i := 331) (by decide +kernel) rfl
set_option maxRecDepth 20000 in
theorem q_297 : Cond.code y_First_init prog_3_method_1_code 1 none ∈ TT := tt_i (i := 332) rfl rfl
theorem q_299 : Cond.lays "KeyGraph$First" "KeyGraph$Function" "many" "I" ∈ TT := tt_i (i := 334) (by decide +kernel) rfl
theorem q_300 : Cond.lays "KeyGraph$First" "KeyGraph$Function" "place" "I" ∈ TT := tt_i (i := 335) (by decide +kernel) rfl
theorem q_301 : Cond.lays "KeyGraph$First" "KeyGraph$Function" "v" "J" ∈ TT := tt_i (i := 336) (by decide +kernel) rfl
theorem q_302 : Cond.lays "KeyGraph$First" "KeyGraph$Function" "failed" "Z" ∈ TT := tt_i (i := 337) (by decide +kernel) rfl
theorem q_304 : Cond.classLink "KeyGraph" 12 "KeyGraph$Choice" ∈ TT := tt_i (i := 339) (by decide +kernel) rfl
theorem q_305 : Cond.instantiable "KeyGraph$Choice" 5 ∈ TT := tt_i (i := 340) (by decide +kernel) rfl
theorem q_307 : Cond.instanceMethod y_Choice_init ∈ TT := tt_i (i := 342) (by decide +kernel) rfl
set_option maxRecDepth 20000 in
theorem q_308 : Cond.code y_Choice_init prog_2_method_1_code 1 none ∈ TT := tt_i (i := 343) rfl rfl
theorem q_310 : Cond.fieldLink "KeyGraph$Choice" 13 "KeyGraph$Choice" "chosen" "Z" ∈ TT := tt_i (i := 345) (by decide +kernel) rfl
theorem q_311 : Cond.lays "KeyGraph$Choice" "KeyGraph$Choice" "chosen" "Z" ∈ TT := tt_i (i := 346) (by decide +kernel) rfl
theorem q_313 : Cond.lays "KeyGraph$Choice" "KeyGraph$Function" "many" "I" ∈ TT := tt_i (i := 348) (by decide +kernel) rfl
theorem q_314 : Cond.lays "KeyGraph$Choice" "KeyGraph$Function" "place" "I" ∈ TT := tt_i (i := 349) (by decide +kernel) rfl
theorem q_315 : Cond.lays "KeyGraph$Choice" "KeyGraph$Function" "v" "J" ∈ TT := tt_i (i := 350) (by decide +kernel) rfl
theorem q_316 : Cond.lays "KeyGraph$Choice" "KeyGraph$Function" "failed" "Z" ∈ TT := tt_i (i := 351) (by decide +kernel) rfl
theorem q_318 : Cond.classLink "KeyGraph" 15 "KeyGraph$Quotient" ∈ TT := tt_i (i := 353) (by decide +kernel) rfl
theorem q_319 : Cond.instantiable "KeyGraph$Quotient" 4 ∈ TT := tt_i (i := 354) (by decide +kernel) rfl
theorem q_321 : Cond.instanceMethod y_Quot_init ∈ TT := tt_i (i := 356) (by decide +kernel) rfl
set_option maxRecDepth 20000 in
theorem q_322 : Cond.code y_Quot_init prog_8_method_1_code 1 none ∈ TT := tt_i (i := 357) rfl rfl
theorem q_324 : Cond.lays "KeyGraph$Quotient" "KeyGraph$Function" "many" "I" ∈ TT := tt_i (i := 359) (by decide +kernel) rfl
theorem q_325 : Cond.lays "KeyGraph$Quotient" "KeyGraph$Function" "place" "I" ∈ TT := tt_i (i := 360) (by decide +kernel) rfl
theorem q_326 : Cond.lays "KeyGraph$Quotient" "KeyGraph$Function" "v" "J" ∈ TT := tt_i (i := 361) (by decide +kernel) rfl
theorem q_327 : Cond.lays "KeyGraph$Quotient" "KeyGraph$Function" "failed" "Z" ∈ TT := tt_i (i := 362) (by decide +kernel) rfl
theorem q_329 : Cond.classLink "KeyGraph" 18 "KeyGraph$Greatest" ∈ TT := tt_i (i := 364) (by decide +kernel) rfl
theorem q_330 : Cond.instantiable "KeyGraph$Greatest" 4 ∈ TT := tt_i (i := 365) (by decide +kernel) rfl
theorem q_332 : Cond.instanceMethod y_Great_init ∈ TT := tt_i (i := 367) (by decide +kernel) rfl
set_option maxRecDepth 20000 in
theorem q_333 : Cond.code y_Great_init prog_5_method_1_code 1 none ∈ TT := tt_i (i := 368) rfl rfl
theorem q_335 : Cond.lays "KeyGraph$Greatest" "KeyGraph$Function" "many" "I" ∈ TT := tt_i (i := 370) (by decide +kernel) rfl
theorem q_336 : Cond.lays "KeyGraph$Greatest" "KeyGraph$Function" "place" "I" ∈ TT := tt_i (i := 371) (by decide +kernel) rfl
theorem q_337 : Cond.lays "KeyGraph$Greatest" "KeyGraph$Function" "v" "J" ∈ TT := tt_i (i := 372) (by decide +kernel) rfl
theorem q_338 : Cond.lays "KeyGraph$Greatest" "KeyGraph$Function" "failed" "Z" ∈ TT := tt_i (i := 373) (by decide +kernel) rfl
theorem q_340 : Cond.methodLink "KeyGraphLaw" 33 y_KG_asks ∈ TT := tt_i (i := 375) (by decide +kernel) rfl
theorem q_341 : Cond.instanceMethod y_KG_asks ∈ TT := tt_i (i := 376) (by decide +kernel) rfl
theorem q_342 : Cond.selects "KeyGraph" y_KG_asks y_KG_asks ∈ TT := tt_i (i := 377) (by decide +kernel) rfl
set_option maxRecDepth 20000 in
theorem q_343 : Cond.code y_KG_asks prog_1_method_12_code 7 (some FieldType.int) ∈ TT := tt_i (i := 378) rfl rfl
theorem q_344 : Cond.methodLink "KeyGraph" 109 y_KG_isFunction ∈ TT := tt_i (i := 379) (by decide +kernel) rfl
theorem q_346 : Cond.instanceMethod y_KG_isFunction ∈ TT := tt_i (i := 381) (by decide +kernel) rfl
set_option maxRecDepth 20000 in
theorem q_347 : Cond.code y_KG_isFunction prog_1_method_5_code 2 (some FieldType.boolean) ∈ TT := tt_i (i := 382) rfl rfl
theorem q_348 : Cond.methodLink "KeyGraph" 54 y_KG_isKey ∈ TT := tt_i (i := 383) (by decide +kernel) rfl
theorem q_350 : Cond.instanceMethod y_KG_isKey ∈ TT := tt_i (i := 385) (by decide +kernel) rfl
set_option maxRecDepth 20000 in
theorem q_351 : Cond.code y_KG_isKey prog_1_method_4_code 2 (some FieldType.boolean) ∈ TT := tt_i (i := 386) rfl rfl
theorem q_352 : Cond.methodLink "KeyGraph" 58 y_AL_get ∈ TT := tt_i (i := 387) (by decide +kernel) rfl
theorem q_353 : Cond.instanceMethod y_AL_get ∈ TT := tt_i (i := 388) (by decide +kernel) rfl
theorem q_354 : Cond.selects "java/util/ArrayList" y_AL_get y_AL_get ∈ TT := tt_i (i := 389) (by decide +kernel) rfl
set_option maxRecDepth 20000 in
theorem q_355 : Cond.code y_AL_get prog_24_method_20_code 2 (some (FieldType.object "java/lang/Object")) ∈ TT := tt_i (i := 390) rfl rfl
theorem q_356 : Cond.methodLink "java/util/ArrayList" 118 y_Objs_checkIndex ∈ TT := tt_i (i := 391) (by decide +kernel) rfl
theorem q_357 : Cond.static y_Objs_checkIndex ∈ TT := tt_i (i := 392) (by decide +kernel) rfl
set_option maxRecDepth 20000 in
theorem q_358 : Cond.code y_Objs_checkIndex prog_28_method_17_code 2 (some FieldType.int) ∈ TT := tt_i (i := 393) rfl rfl
theorem q_359 : Cond.methodLink "java/util/Objects" 105 y_Prec_checkIndex ∈ TT := tt_i (i := 394) (by decide +kernel) rfl
theorem q_360 : Cond.static y_Prec_checkIndex ∈ TT := tt_i (i := 395) (by decide +kernel) rfl
set_option maxRecDepth 20000 in
theorem q_361 : Cond.code y_Prec_checkIndex prog_32_method_11_code 3 (some FieldType.int) ∈ TT := tt_i (i := 396) rfl rfl
theorem q_362 : Cond.methodLink "java/util/ArrayList" 123 y_AL_elementData ∈ TT := tt_i (i := 397) (by decide +kernel) rfl
theorem q_363 : Cond.instanceMethod y_AL_elementData ∈ TT := tt_i (i := 398) (by decide +kernel) rfl
theorem q_364 : Cond.selects "java/util/ArrayList" y_AL_elementData y_AL_elementData ∈ TT := tt_i (i := 399) (by decide +kernel) rfl
set_option maxRecDepth 20000 in
theorem q_365 : Cond.code y_AL_elementData prog_24_method_18_code 2 (some (FieldType.object "java/lang/Object")) ∈ TT := tt_i (i := 400) rfl rfl
theorem q_366 : Cond.methodLink "KeyGraph" 64 y_Key_isLeaf ∈ TT := tt_i (i := 401) (by decide +kernel) rfl
theorem q_367 : Cond.instanceMethod y_Key_isLeaf ∈ TT := tt_i (i := 402) (by decide +kernel) rfl
theorem q_368 : Cond.selects "KeyGraph$Key" y_Key_isLeaf y_Key_isLeaf ∈ TT := tt_i (i := 403) (by decide +kernel) rfl
set_option maxRecDepth 20000 in
theorem q_369 : Cond.code y_Key_isLeaf prog_6_method_2_code 1 (some FieldType.boolean) ∈ TT := tt_i (i := 404) rfl rfl
theorem q_370 : Cond.methodLink "KeyGraph" 112 y_KG_leadTo ∈ TT := tt_i (i := 405) (by decide +kernel) rfl
theorem q_372 : Cond.instanceMethod y_KG_leadTo ∈ TT := tt_i (i := 407) (by decide +kernel) rfl
set_option maxRecDepth 20000 in
theorem q_373 : Cond.code y_KG_leadTo prog_1_method_11_code 4 none ∈ TT := tt_i (i := 408) rfl rfl
theorem q_374 : Cond.methodLink "KeyGraph" 106 y_KG_asksOne ∈ TT := tt_i (i := 409) (by decide +kernel) rfl
theorem q_376 : Cond.instanceMethod y_KG_asksOne ∈ TT := tt_i (i := 411) (by decide +kernel) rfl
set_option maxRecDepth 20000 in
theorem q_377 : Cond.code y_KG_asksOne prog_1_method_10_code 4 (some FieldType.boolean) ∈ TT := tt_i (i := 412) rfl rfl
theorem q_378 : Cond.methodLink "KeyGraph" 102 y_KG_isLeading ∈ TT := tt_i (i := 413) (by decide +kernel) rfl
theorem q_380 : Cond.instanceMethod y_KG_isLeading ∈ TT := tt_i (i := 415) (by decide +kernel) rfl
set_option maxRecDepth 20000 in
theorem q_381 : Cond.code y_KG_isLeading prog_1_method_9_code 2 (some FieldType.boolean) ∈ TT := tt_i (i := 416) rfl rfl
theorem q_382 : Cond.methodLink "KeyGraph" 116 y_AL_clear ∈ TT := tt_i (i := 417) (by decide +kernel) rfl
theorem q_383 : Cond.instanceMethod y_AL_clear ∈ TT := tt_i (i := 418) (by decide +kernel) rfl
theorem q_384 : Cond.selects "java/util/ArrayList" y_AL_clear y_AL_clear ∈ TT := tt_i (i := 419) (by decide +kernel) rfl
set_option maxRecDepth 20000 in
theorem q_385 : Cond.code y_AL_clear prog_24_method_40_code 4 none ∈ TT := tt_i (i := 420) rfl rfl
theorem q_386 : Cond.methodLink "KeyGraph" 119 y_KG_raise ∈ TT := tt_i (i := 421) (by decide +kernel) rfl
theorem q_388 : Cond.instanceMethod y_KG_raise ∈ TT := tt_i (i := 423) (by decide +kernel) rfl
set_option maxRecDepth 20000 in
theorem q_389 : Cond.code y_KG_raise prog_1_method_14_code 1 none ∈ TT := tt_i (i := 424) rfl rfl
theorem q_390 : Cond.methodLink "KeyGraph" 125 y_KG_cancel ∈ TT := tt_i (i := 425) (by decide +kernel) rfl
theorem q_391 : Cond.instanceMethod y_KG_cancel ∈ TT := tt_i (i := 426) (by decide +kernel) rfl
theorem q_392 : Cond.selects "KeyGraph" y_KG_cancel y_KG_cancel ∈ TT := tt_i (i := 427) (by decide +kernel) rfl
set_option maxRecDepth 20000 in
theorem q_393 : Cond.code y_KG_cancel prog_1_method_21_code 4 (some FieldType.int) ∈ TT := tt_i (i := 428) rfl rfl
theorem q_394 : Cond.methodLink "KeyGraph" 169 y_Pile_top ∈ TT := tt_i (i := 429) (by decide +kernel) rfl
theorem q_395 : Cond.instanceMethod y_Pile_top ∈ TT := tt_i (i := 430) (by decide +kernel) rfl
theorem q_396 : Cond.selects "KeyGraph$Pile" y_Pile_top y_Pile_top ∈ TT := tt_i (i := 431) (by decide +kernel) rfl
set_option maxRecDepth 20000 in
theorem q_397 : Cond.code y_Pile_top prog_7_method_2_code 1 (some (FieldType.object "KeyGraph$Key")) ∈ TT := tt_i (i := 432) rfl rfl
theorem q_398 : Cond.methodLink "KeyGraphLaw" 38 y_KG_ring ∈ TT := tt_i (i := 433) (by decide +kernel) rfl
theorem q_399 : Cond.instanceMethod y_KG_ring ∈ TT := tt_i (i := 434) (by decide +kernel) rfl
theorem q_400 : Cond.selects "KeyGraph" y_KG_ring y_KG_ring ∈ TT := tt_i (i := 435) (by decide +kernel) rfl
set_option maxRecDepth 20000 in
theorem q_401 : Cond.code y_KG_ring prog_1_method_13_code 2 (some FieldType.int) ∈ TT := tt_i (i := 436) rfl rfl
theorem q_402 : Cond.methodLink "KeyGraphLaw" 42 y_KG_change ∈ TT := tt_i (i := 437) (by decide +kernel) rfl
theorem q_403 : Cond.instanceMethod y_KG_change ∈ TT := tt_i (i := 438) (by decide +kernel) rfl
theorem q_404 : Cond.selects "KeyGraph" y_KG_change y_KG_change ∈ TT := tt_i (i := 439) (by decide +kernel) rfl
set_option maxRecDepth 20000 in
theorem q_405 : Cond.code y_KG_change prog_1_method_15_code 5 (some FieldType.int) ∈ TT := tt_i (i := 440) rfl rfl
theorem q_406 : Cond.methodLink "KeyGraphLaw" 47 y_KG_spoil ∈ TT := tt_i (i := 441) (by decide +kernel) rfl
theorem q_407 : Cond.instanceMethod y_KG_spoil ∈ TT := tt_i (i := 442) (by decide +kernel) rfl
theorem q_408 : Cond.selects "KeyGraph" y_KG_spoil y_KG_spoil ∈ TT := tt_i (i := 443) (by decide +kernel) rfl
set_option maxRecDepth 20000 in
theorem q_409 : Cond.code y_KG_spoil prog_1_method_16_code 4 (some FieldType.int) ∈ TT := tt_i (i := 444) rfl rfl
theorem q_410 : Cond.methodLink "KeyGraphLaw" 103 y_KG_version ∈ TT := tt_i (i := 445) (by decide +kernel) rfl
theorem q_411 : Cond.instanceMethod y_KG_version ∈ TT := tt_i (i := 446) (by decide +kernel) rfl
theorem q_412 : Cond.selects "KeyGraph" y_KG_version y_KG_version ∈ TT := tt_i (i := 447) (by decide +kernel) rfl
set_option maxRecDepth 20000 in
theorem q_413 : Cond.code y_KG_version prog_1_method_17_code 1 (some FieldType.int) ∈ TT := tt_i (i := 448) rfl rfl
theorem q_414 : Cond.methodLink "KeyGraphLaw" 52 y_KG_begin ∈ TT := tt_i (i := 449) (by decide +kernel) rfl
theorem q_415 : Cond.instanceMethod y_KG_begin ∈ TT := tt_i (i := 450) (by decide +kernel) rfl
theorem q_416 : Cond.selects "KeyGraph" y_KG_begin y_KG_begin ∈ TT := tt_i (i := 451) (by decide +kernel) rfl
set_option maxRecDepth 20000 in
theorem q_417 : Cond.code y_KG_begin prog_1_method_20_code 4 (some FieldType.int) ∈ TT := tt_i (i := 452) rfl rfl
theorem q_418 : Cond.methodLink "KeyGraph" 159 y_KG_isWorker ∈ TT := tt_i (i := 453) (by decide +kernel) rfl
theorem q_419 : Cond.static y_KG_isWorker ∈ TT := tt_i (i := 454) (by decide +kernel) rfl
set_option maxRecDepth 20000 in
theorem q_420 : Cond.code y_KG_isWorker prog_1_method_18_code 1 (some FieldType.boolean) ∈ TT := tt_i (i := 455) rfl rfl
theorem q_421 : Cond.methodLink "KeyGraph" 162 y_KG_isSure ∈ TT := tt_i (i := 456) (by decide +kernel) rfl
theorem q_423 : Cond.instanceMethod y_KG_isSure ∈ TT := tt_i (i := 458) (by decide +kernel) rfl
set_option maxRecDepth 20000 in
theorem q_424 : Cond.code y_KG_isSure prog_1_method_6_code 2 (some FieldType.boolean) ∈ TT := tt_i (i := 459) rfl rfl
theorem q_425 : Cond.methodLink "KeyGraph" 165 y_KG_put ∈ TT := tt_i (i := 460) (by decide +kernel) rfl
theorem q_427 : Cond.instanceMethod y_KG_put ∈ TT := tt_i (i := 462) (by decide +kernel) rfl
set_option maxRecDepth 20000 in
theorem q_428 : Cond.code y_KG_put prog_1_method_19_code 4 none ∈ TT := tt_i (i := 463) rfl rfl
theorem q_429 : Cond.methodLink "KeyGraph" 153 y_Fun_begin ∈ TT := tt_i (i := 464) (by decide +kernel) rfl
theorem q_430 : Cond.instanceMethod y_Fun_begin ∈ TT := tt_i (i := 465) (by decide +kernel) rfl
theorem q_431 : Cond.sameMethod "KeyGraph$Function" "KeyGraph$Function" "begin" "(I)V" ∈ TT := tt_i (i := 466) (by decide +kernel) rfl
theorem q_432 : Cond.selects "KeyGraph$Choice" y_Fun_begin y_Choice_begin ∈ TT := tt_i (i := 467) (by decide +kernel) rfl
theorem q_433 : Cond.instanceMethod y_Choice_begin ∈ TT := tt_i (i := 468) (by decide +kernel) rfl
set_option maxRecDepth 20000 in
theorem q_434 : Cond.code y_Choice_begin prog_2_method_2_code 2 none ∈ TT := tt_i (i := 469) rfl rfl
theorem q_435 : Cond.methodLink "KeyGraph$Choice" 9 y_Fun_begin ∈ TT := tt_i (i := 470) (by decide +kernel) rfl
theorem q_436 : Cond.selects "KeyGraph$First" y_Fun_begin y_Fun_begin ∈ TT := tt_i (i := 471) (by decide +kernel) rfl
theorem q_437 : Cond.selects "KeyGraph$Greatest" y_Fun_begin y_Great_begin ∈ TT := tt_i (i := 472) (by decide +kernel) rfl
theorem q_438 : Cond.instanceMethod y_Great_begin ∈ TT := tt_i (i := 473) (by decide +kernel) rfl
set_option maxRecDepth 20000 in
theorem q_439 : Cond.code y_Great_begin prog_5_method_2_code 2 none ∈ TT := tt_i (i := 474) rfl rfl
theorem q_440 : Cond.methodLink "KeyGraph$Greatest" 7 y_Fun_begin ∈ TT := tt_i (i := 475) (by decide +kernel) rfl
theorem q_441 : Cond.selects "KeyGraph$Quotient" y_Fun_begin y_Fun_begin ∈ TT := tt_i (i := 476) (by decide +kernel) rfl
theorem q_442 : Cond.selects "KeyGraph$Sum" y_Fun_begin y_Fun_begin ∈ TT := tt_i (i := 477) (by decide +kernel) rfl
set_option maxRecDepth 20000 in
theorem q_443 : Cond.code y_Fun_begin prog_4_method_2_code 2 none ∈ TT := tt_i (i := 478) rfl rfl
theorem q_444 : Cond.methodLink "KeyGraphLaw" 60 y_KG_cancel ∈ TT := tt_i (i := 479) (by decide +kernel) rfl
theorem q_445 : Cond.methodLink "KeyGraphLaw" 56 y_KG_step ∈ TT := tt_i (i := 480) (by decide +kernel) rfl
theorem q_446 : Cond.instanceMethod y_KG_step ∈ TT := tt_i (i := 481) (by decide +kernel) rfl
theorem q_447 : Cond.selects "KeyGraph" y_KG_step y_KG_step ∈ TT := tt_i (i := 482) (by decide +kernel) rfl
set_option maxRecDepth 20000 in
theorem q_448 : Cond.code y_KG_step prog_1_method_27_code 2 (some FieldType.int) ∈ TT := tt_i (i := 483) rfl rfl
theorem q_449 : Cond.methodLink "KeyGraph" 219 y_KG_stepOf ∈ TT := tt_i (i := 484) (by decide +kernel) rfl
theorem q_451 : Cond.instanceMethod y_KG_stepOf ∈ TT := tt_i (i := 486) (by decide +kernel) rfl
set_option maxRecDepth 20000 in
theorem q_452 : Cond.code y_KG_stepOf prog_1_method_25_code 6 (some FieldType.int) ∈ TT := tt_i (i := 487) rfl rfl
theorem q_453 : Cond.methodLink "KeyGraph" 190 y_KG_check ∈ TT := tt_i (i := 488) (by decide +kernel) rfl
theorem q_455 : Cond.instanceMethod y_KG_check ∈ TT := tt_i (i := 490) (by decide +kernel) rfl
set_option maxRecDepth 20000 in
theorem q_456 : Cond.code y_KG_check prog_1_method_26_code 5 (some FieldType.int) ∈ TT := tt_i (i := 491) rfl rfl
theorem q_457 : Cond.methodLink "KeyGraph" 186 y_KG_found ∈ TT := tt_i (i := 492) (by decide +kernel) rfl
theorem q_459 : Cond.instanceMethod y_KG_found ∈ TT := tt_i (i := 494) (by decide +kernel) rfl
set_option maxRecDepth 20000 in
theorem q_460 : Cond.code y_KG_found prog_1_method_22_code 3 (some FieldType.int) ∈ TT := tt_i (i := 495) rfl rfl
theorem q_461 : Cond.methodLink "KeyGraph" 208 y_KG_goesDown ∈ TT := tt_i (i := 496) (by decide +kernel) rfl
theorem q_463 : Cond.instanceMethod y_KG_goesDown ∈ TT := tt_i (i := 498) (by decide +kernel) rfl
set_option maxRecDepth 20000 in
theorem q_464 : Cond.code y_KG_goesDown prog_1_method_24_code 3 (some FieldType.int) ∈ TT := tt_i (i := 499) rfl rfl
theorem q_465 : Cond.methodLink "KeyGraph" 194 y_KG_ends ∈ TT := tt_i (i := 500) (by decide +kernel) rfl
theorem q_467 : Cond.instanceMethod y_KG_ends ∈ TT := tt_i (i := 502) (by decide +kernel) rfl
set_option maxRecDepth 20000 in
theorem q_468 : Cond.code y_KG_ends prog_1_method_23_code 7 (some FieldType.int) ∈ TT := tt_i (i := 503) rfl rfl
theorem q_469 : Cond.methodLink "KeyGraph" 198 y_Fun_fails ∈ TT := tt_i (i := 504) (by decide +kernel) rfl
theorem q_470 : Cond.instanceMethod y_Fun_fails ∈ TT := tt_i (i := 505) (by decide +kernel) rfl
theorem q_471 : Cond.sameMethod "KeyGraph$Function" "KeyGraph$Function" "fails" "()Z" ∈ TT := tt_i (i := 506) (by decide +kernel) rfl
theorem q_472 : Cond.selects "KeyGraph$Choice" y_Fun_fails y_Fun_fails ∈ TT := tt_i (i := 507) (by decide +kernel) rfl
theorem q_473 : Cond.selects "KeyGraph$First" y_Fun_fails y_Fun_fails ∈ TT := tt_i (i := 508) (by decide +kernel) rfl
theorem q_474 : Cond.selects "KeyGraph$Greatest" y_Fun_fails y_Fun_fails ∈ TT := tt_i (i := 509) (by decide +kernel) rfl
theorem q_475 : Cond.selects "KeyGraph$Quotient" y_Fun_fails y_Fun_fails ∈ TT := tt_i (i := 510) (by decide +kernel) rfl
theorem q_476 : Cond.selects "KeyGraph$Sum" y_Fun_fails y_Fun_fails ∈ TT := tt_i (i := 511) (by decide +kernel) rfl
set_option maxRecDepth 20000 in
theorem q_477 : Cond.code y_Fun_fails prog_4_method_7_code 1 (some FieldType.boolean) ∈ TT := tt_i (i := 512) rfl rfl
theorem q_478 : Cond.methodLink "KeyGraph" 201 y_Fun_next ∈ TT := tt_i (i := 513) (by decide +kernel) rfl
theorem q_479 : Cond.instanceMethod y_Fun_next ∈ TT := tt_i (i := 514) (by decide +kernel) rfl
theorem q_480 : Cond.sameMethod "KeyGraph$Function" "KeyGraph$Function" "next" "()I" ∈ TT := tt_i (i := 515) (by decide +kernel) rfl
theorem q_481 : Cond.selects "KeyGraph$Choice" y_Fun_next y_Choice_next ∈ TT := tt_i (i := 516) (by decide +kernel) rfl
theorem q_482 : Cond.instanceMethod y_Choice_next ∈ TT := tt_i (i := 517) (by decide +kernel) rfl
set_option maxRecDepth 20000 in
theorem q_483 : Cond.code y_Choice_next prog_2_method_3_code 1 (some FieldType.int) ∈ TT := tt_i (i := 518) rfl rfl
theorem q_484 : Cond.selects "KeyGraph$First" y_Fun_next y_Fun_next ∈ TT := tt_i (i := 519) (by decide +kernel) rfl
theorem q_485 : Cond.selects "KeyGraph$Greatest" y_Fun_next y_Fun_next ∈ TT := tt_i (i := 520) (by decide +kernel) rfl
theorem q_486 : Cond.selects "KeyGraph$Quotient" y_Fun_next y_Fun_next ∈ TT := tt_i (i := 521) (by decide +kernel) rfl
theorem q_487 : Cond.selects "KeyGraph$Sum" y_Fun_next y_Fun_next ∈ TT := tt_i (i := 522) (by decide +kernel) rfl
set_option maxRecDepth 20000 in
theorem q_488 : Cond.code y_Fun_next prog_4_method_3_code 1 (some FieldType.int) ∈ TT := tt_i (i := 523) rfl rfl
theorem q_489 : Cond.methodLink "KeyGraph" 204 y_Fun_result ∈ TT := tt_i (i := 524) (by decide +kernel) rfl
theorem q_490 : Cond.instanceMethod y_Fun_result ∈ TT := tt_i (i := 525) (by decide +kernel) rfl
theorem q_491 : Cond.sameMethod "KeyGraph$Function" "KeyGraph$Function" "result" "()J" ∈ TT := tt_i (i := 526) (by decide +kernel) rfl
theorem q_492 : Cond.selects "KeyGraph$Choice" y_Fun_result y_Fun_result ∈ TT := tt_i (i := 527) (by decide +kernel) rfl
theorem q_493 : Cond.selects "KeyGraph$First" y_Fun_result y_Fun_result ∈ TT := tt_i (i := 528) (by decide +kernel) rfl
theorem q_494 : Cond.selects "KeyGraph$Greatest" y_Fun_result y_Fun_result ∈ TT := tt_i (i := 529) (by decide +kernel) rfl
theorem q_495 : Cond.selects "KeyGraph$Quotient" y_Fun_result y_Fun_result ∈ TT := tt_i (i := 530) (by decide +kernel) rfl
theorem q_496 : Cond.selects "KeyGraph$Sum" y_Fun_result y_Sum_result ∈ TT := tt_i (i := 531) (by decide +kernel) rfl
theorem q_497 : Cond.instanceMethod y_Sum_result ∈ TT := tt_i (i := 532) (by decide +kernel) rfl
set_option maxRecDepth 20000 in
theorem q_498 : Cond.code y_Sum_result prog_9_method_3_code 1 (some FieldType.long) ∈ TT := tt_i (i := 533) rfl rfl
set_option maxRecDepth 20000 in
theorem q_499 : Cond.code y_Fun_result prog_4_method_6_code 1 (some FieldType.long) ∈ TT := tt_i (i := 534) rfl rfl
theorem q_500 : Cond.methodLink "KeyGraph" 212 y_Fun_take ∈ TT := tt_i (i := 535) (by decide +kernel) rfl
theorem q_501 : Cond.instanceMethod y_Fun_take ∈ TT := tt_i (i := 536) (by decide +kernel) rfl
theorem q_502 : Cond.sameMethod "KeyGraph$Function" "KeyGraph$Function" "take" "(J)V" ∈ TT := tt_i (i := 537) (by decide +kernel) rfl
theorem q_503 : Cond.selects "KeyGraph$Choice" y_Fun_take y_Choice_take ∈ TT := tt_i (i := 538) (by decide +kernel) rfl
theorem q_504 : Cond.instanceMethod y_Choice_take ∈ TT := tt_i (i := 539) (by decide +kernel) rfl
set_option maxRecDepth 20000 in
theorem q_505 : Cond.code y_Choice_take prog_2_method_4_code 5 none ∈ TT := tt_i (i := 540) rfl rfl
theorem q_506 : Cond.methodLink "KeyGraph$Choice" 26 y_Choice_with ∈ TT := tt_i (i := 541) (by decide +kernel) rfl
theorem q_507 : Cond.instanceMethod y_Choice_with ∈ TT := tt_i (i := 542) (by decide +kernel) rfl
theorem q_508 : Cond.selects "KeyGraph$Choice" y_Choice_with y_Choice_with ∈ TT := tt_i (i := 543) (by decide +kernel) rfl
set_option maxRecDepth 20000 in
theorem q_509 : Cond.code y_Choice_with prog_2_method_5_code 3 none ∈ TT := tt_i (i := 544) rfl rfl
theorem q_510 : Cond.selects "KeyGraph$First" y_Fun_take y_Fun_take ∈ TT := tt_i (i := 545) (by decide +kernel) rfl
theorem q_511 : Cond.selects "KeyGraph$Greatest" y_Fun_take y_Fun_take ∈ TT := tt_i (i := 546) (by decide +kernel) rfl
theorem q_512 : Cond.selects "KeyGraph$Quotient" y_Fun_take y_Fun_take ∈ TT := tt_i (i := 547) (by decide +kernel) rfl
theorem q_513 : Cond.selects "KeyGraph$Sum" y_Fun_take y_Fun_take ∈ TT := tt_i (i := 548) (by decide +kernel) rfl
set_option maxRecDepth 20000 in
theorem q_514 : Cond.code y_Fun_take prog_4_method_4_code 3 none ∈ TT := tt_i (i := 549) rfl rfl
theorem q_515 : Cond.methodLink "KeyGraph$Function" 26 y_Fun_with ∈ TT := tt_i (i := 550) (by decide +kernel) rfl
theorem q_517 : Cond.sameMethod "KeyGraph$Function" "KeyGraph$Function" "with" "(J)V" ∈ TT := tt_i (i := 552) (by decide +kernel) rfl
theorem q_518 : Cond.selects "KeyGraph$Choice" y_Fun_with y_Choice_with ∈ TT := tt_i (i := 553) (by decide +kernel) rfl
theorem q_519 : Cond.selects "KeyGraph$First" y_Fun_with y_First_with ∈ TT := tt_i (i := 554) (by decide +kernel) rfl
theorem q_520 : Cond.instanceMethod y_First_with ∈ TT := tt_i (i := 555) (by decide +kernel) rfl
set_option maxRecDepth 20000 in
theorem q_521 : Cond.code y_First_with prog_3_method_2_code 3 none ∈ TT := tt_i (i := 556) rfl rfl
theorem q_522 : Cond.selects "KeyGraph$Greatest" y_Fun_with y_Great_with ∈ TT := tt_i (i := 557) (by decide +kernel) rfl
theorem q_523 : Cond.instanceMethod y_Great_with ∈ TT := tt_i (i := 558) (by decide +kernel) rfl
set_option maxRecDepth 20000 in
theorem q_524 : Cond.code y_Great_with prog_5_method_3_code 3 none ∈ TT := tt_i (i := 559) rfl rfl
theorem q_525 : Cond.selects "KeyGraph$Quotient" y_Fun_with y_Quot_with ∈ TT := tt_i (i := 560) (by decide +kernel) rfl
theorem q_526 : Cond.instanceMethod y_Quot_with ∈ TT := tt_i (i := 561) (by decide +kernel) rfl
set_option maxRecDepth 20000 in
theorem q_527 : Cond.code y_Quot_with prog_8_method_2_code 3 none ∈ TT := tt_i (i := 562) rfl rfl
theorem q_528 : Cond.constantLong "KeyGraph$Quotient" 21 (-1 : Int64) ∈ TT := tt_i (i := 563) (by decide +kernel) rfl
theorem q_529 : Cond.selects "KeyGraph$Sum" y_Fun_with y_Sum_with ∈ TT := tt_i (i := 564) (by decide +kernel) rfl
theorem q_530 : Cond.instanceMethod y_Sum_with ∈ TT := tt_i (i := 565) (by decide +kernel) rfl
set_option maxRecDepth 20000 in
theorem q_531 : Cond.code y_Sum_with prog_9_method_2_code 3 none ∈ TT := tt_i (i := 566) rfl rfl
theorem q_532 : Cond.methodLink "KeyGraphLaw" 65 y_KG_run ∈ TT := tt_i (i := 567) (by decide +kernel) rfl
theorem q_533 : Cond.instanceMethod y_KG_run ∈ TT := tt_i (i := 568) (by decide +kernel) rfl
theorem q_534 : Cond.selects "KeyGraph" y_KG_run y_KG_run ∈ TT := tt_i (i := 569) (by decide +kernel) rfl
set_option maxRecDepth 20000 in
theorem q_535 : Cond.code y_KG_run prog_1_method_28_code 5 (some FieldType.int) ∈ TT := tt_i (i := 570) rfl rfl
theorem q_536 : Cond.methodLink "KeyGraphLaw" 69 y_KG_state ∈ TT := tt_i (i := 571) (by decide +kernel) rfl
theorem q_537 : Cond.instanceMethod y_KG_state ∈ TT := tt_i (i := 572) (by decide +kernel) rfl
theorem q_538 : Cond.selects "KeyGraph" y_KG_state y_KG_state ∈ TT := tt_i (i := 573) (by decide +kernel) rfl
set_option maxRecDepth 20000 in
theorem q_539 : Cond.code y_KG_state prog_1_method_29_code 2 (some FieldType.int) ∈ TT := tt_i (i := 574) rfl rfl
theorem q_540 : Cond.methodLink "KeyGraphLaw" 82 y_KG_worked ∈ TT := tt_i (i := 575) (by decide +kernel) rfl
theorem q_541 : Cond.instanceMethod y_KG_worked ∈ TT := tt_i (i := 576) (by decide +kernel) rfl
theorem q_542 : Cond.selects "KeyGraph" y_KG_worked y_KG_worked ∈ TT := tt_i (i := 577) (by decide +kernel) rfl
set_option maxRecDepth 20000 in
theorem q_543 : Cond.code y_KG_worked prog_1_method_31_code 2 (some FieldType.int) ∈ TT := tt_i (i := 578) rfl rfl
theorem q_544 : Cond.methodLink "KeyGraphLaw" 86 y_KG_kept ∈ TT := tt_i (i := 579) (by decide +kernel) rfl
theorem q_545 : Cond.instanceMethod y_KG_kept ∈ TT := tt_i (i := 580) (by decide +kernel) rfl
theorem q_546 : Cond.selects "KeyGraph" y_KG_kept y_KG_kept ∈ TT := tt_i (i := 581) (by decide +kernel) rfl
set_option maxRecDepth 20000 in
theorem q_547 : Cond.code y_KG_kept prog_1_method_32_code 2 (some FieldType.int) ∈ TT := tt_i (i := 582) rfl rfl
theorem q_548 : Cond.methodLink "KeyGraphLaw" 90 y_KG_changed ∈ TT := tt_i (i := 583) (by decide +kernel) rfl
theorem q_549 : Cond.instanceMethod y_KG_changed ∈ TT := tt_i (i := 584) (by decide +kernel) rfl
theorem q_550 : Cond.selects "KeyGraph" y_KG_changed y_KG_changed ∈ TT := tt_i (i := 585) (by decide +kernel) rfl
set_option maxRecDepth 20000 in
theorem q_551 : Cond.code y_KG_changed prog_1_method_33_code 2 (some FieldType.int) ∈ TT := tt_i (i := 586) rfl rfl
theorem q_552 : Cond.methodLink "KeyGraphLaw" 94 y_KG_asked ∈ TT := tt_i (i := 587) (by decide +kernel) rfl
theorem q_553 : Cond.instanceMethod y_KG_asked ∈ TT := tt_i (i := 588) (by decide +kernel) rfl
theorem q_554 : Cond.selects "KeyGraph" y_KG_asked y_KG_asked ∈ TT := tt_i (i := 589) (by decide +kernel) rfl
set_option maxRecDepth 20000 in
theorem q_555 : Cond.code y_KG_asked prog_1_method_34_code 3 (some FieldType.int) ∈ TT := tt_i (i := 590) rfl rfl
theorem q_556 : Cond.methodLink "KeyGraphLaw" 98 y_KG_drop ∈ TT := tt_i (i := 591) (by decide +kernel) rfl
theorem q_557 : Cond.instanceMethod y_KG_drop ∈ TT := tt_i (i := 592) (by decide +kernel) rfl
theorem q_558 : Cond.selects "KeyGraph" y_KG_drop y_KG_drop ∈ TT := tt_i (i := 593) (by decide +kernel) rfl
set_option maxRecDepth 20000 in
theorem q_559 : Cond.code y_KG_drop prog_1_method_35_code 2 (some FieldType.boolean) ∈ TT := tt_i (i := 594) rfl rfl
theorem q_560 : Cond.methodLink "KeyGraphLaw" 73 y_Law_value ∈ TT := tt_i (i := 595) (by decide +kernel) rfl
theorem q_561 : Cond.static y_Law_value ∈ TT := tt_i (i := 596) (by decide +kernel) rfl
set_option maxRecDepth 20000 in
theorem q_562 : Cond.codeWith y_Law_value method_3_code 4 (some FieldType.int) [(0, 8, 11, 13), (0, 8, 14, 15)] ∈ TT := tt_i (i := 597) rfl rfl
theorem q_563 : Cond.classLink "KeyGraphLaw" 13 "java/lang/IllegalArgumentException" ∈ TT := tt_i (i := 598) (by decide +kernel) rfl
theorem q_564 : Cond.classLink "KeyGraphLaw" 15 "java/lang/IllegalStateException" ∈ TT := tt_i (i := 599) (by decide +kernel) rfl
theorem q_565 : Cond.methodLink "KeyGraphLaw" 7 y_KG_value ∈ TT := tt_i (i := 600) (by decide +kernel) rfl
theorem q_566 : Cond.instanceMethod y_KG_value ∈ TT := tt_i (i := 601) (by decide +kernel) rfl
theorem q_567 : Cond.selects "KeyGraph" y_KG_value y_KG_value ∈ TT := tt_i (i := 602) (by decide +kernel) rfl
set_option maxRecDepth 20000 in
theorem q_568 : Cond.code y_KG_value prog_1_method_30_code 2 (some FieldType.long) ∈ TT := tt_i (i := 603) rfl rfl
theorem q_569 : Cond.classLink "KeyGraph" 223 "java/lang/IllegalArgumentException" ∈ TT := tt_i (i := 604) (by decide +kernel) rfl
theorem q_570 : Cond.instantiable "java/lang/IllegalArgumentException" 6 ∈ TT := tt_i (i := 605) (by decide +kernel) rfl
theorem q_578 : Cond.selects "java/lang/IllegalArgumentException" y_Thr_fillInStackTracex y_Thr_fillInStackTracex ∈ TT := tt_i (i := 613) (by decide +kernel) rfl
theorem q_579 : Cond.selects "java/lang/IllegalArgumentException" y_Thr_fillInStackTrace y_Thr_fillInStackTrace ∈ TT := tt_i (i := 614) (by decide +kernel) rfl
theorem q_580 : Cond.lays "java/lang/IllegalArgumentException" "java/lang/Throwable" "cause" "Ljava/lang/Throwable;" ∈ TT := tt_i (i := 615) (by decide +kernel) rfl
theorem q_581 : Cond.lays "java/lang/Throwable" "java/lang/Throwable" "cause" "Ljava/lang/Throwable;" ∈ TT := tt_i (i := 616) (by decide +kernel) rfl
theorem q_582 : Cond.lays "java/lang/IllegalArgumentException" "java/lang/Throwable" "stackTrace" "[Ljava/lang/StackTraceElement;" ∈ TT := tt_i (i := 617) (by decide +kernel) rfl
theorem q_583 : Cond.lays "java/lang/Throwable" "java/lang/Throwable" "stackTrace" "[Ljava/lang/StackTraceElement;" ∈ TT := tt_i (i := 618) (by decide +kernel) rfl
theorem q_584 : Cond.lays "java/lang/IllegalArgumentException" "java/lang/Throwable" "suppressedExceptions" "Ljava/util/List;" ∈ TT := tt_i (i := 619) (by decide +kernel) rfl
theorem q_585 : Cond.lays "java/lang/Throwable" "java/lang/Throwable" "suppressedExceptions" "Ljava/util/List;" ∈ TT := tt_i (i := 620) (by decide +kernel) rfl
theorem q_586 : Cond.lays "java/lang/IllegalArgumentException" "java/lang/Throwable" "detailMessage" "Ljava/lang/String;" ∈ TT := tt_i (i := 621) (by decide +kernel) rfl
theorem q_587 : Cond.lays "java/lang/Throwable" "java/lang/Throwable" "detailMessage" "Ljava/lang/String;" ∈ TT := tt_i (i := 622) (by decide +kernel) rfl
theorem q_588 : Cond.lays "java/lang/IllegalArgumentException" "java/lang/Throwable" "backtrace" "Ljava/lang/Object;" ∈ TT := tt_i (i := 623) (by decide +kernel) rfl
theorem q_589 : Cond.lays "java/lang/Throwable" "java/lang/Throwable" "backtrace" "Ljava/lang/Object;" ∈ TT := tt_i (i := 624) (by decide +kernel) rfl
theorem q_590 : Cond.fieldLink "java/lang/Throwable" 198 "java/lang/Throwable" "backtrace" "Ljava/lang/Object;" ∈ TT := tt_i (i := 625) (by decide +kernel) rfl
theorem q_592 : Cond.instanceMethod y_Thr_init ∈ TT := tt_i (i := 627) (by decide +kernel) rfl
set_option maxRecDepth 20000 in
theorem q_593 : Cond.code y_Thr_init prog_21_method_1_code 1 none ∈ TT := tt_i (i := 628) rfl rfl
theorem q_594 : Cond.methodLink "java/lang/Throwable" 1 y_Obj_init ∈ TT := tt_i (i := 629) (by decide +kernel) rfl
theorem q_595 : Cond.fieldLink "java/lang/Throwable" 13 "java/lang/Throwable" "UNASSIGNED_STACK" "[Ljava/lang/StackTraceElement;" ∈ TT := tt_i (i := 630) (by decide +kernel) rfl
theorem q_597 : Cond.fieldLink "java/lang/Throwable" 20 "java/lang/Throwable" "SUPPRESSED_SENTINEL" "Ljava/util/List;" ∈ TT := tt_i (i := 632) (by decide +kernel) rfl
theorem q_599 : Cond.methodLink "java/lang/Throwable" 27 y_Thr_fillInStackTrace ∈ TT := tt_i (i := 634) (by decide +kernel) rfl
theorem q_600 : Cond.instanceMethod y_Thr_fillInStackTrace ∈ TT := tt_i (i := 635) (by decide +kernel) rfl
theorem q_601 : Cond.sameMethod "java/lang/Throwable" "java/lang/Throwable" "fillInStackTrace" "()Ljava/lang/Throwable;" ∈ TT := tt_i (i := 636) (by decide +kernel) rfl
theorem q_602 : Cond.selects "java/lang/IllegalStateException" y_Thr_fillInStackTrace y_Thr_fillInStackTrace ∈ TT := tt_i (i := 637) (by decide +kernel) rfl
set_option maxRecDepth 20000 in
theorem q_603 : Cond.codeSync y_Thr_fillInStackTrace prog_21_method_18_code 1 (some (FieldType.object "java/lang/Throwable")) ∈ TT := tt_i (i := 638) rfl rfl
theorem q_604 : Cond.methodLink "java/lang/Throwable" 202 y_Thr_fillInStackTracex ∈ TT := tt_i (i := 639) (by decide +kernel) rfl
theorem q_606 : Cond.instanceMethod y_Thr_fillInStackTracex ∈ TT := tt_i (i := 641) (by decide +kernel) rfl
theorem q_607 : Cond.instantiable "java/lang/Throwable" 6 ∈ TT := tt_i (i := 642) (by decide +kernel) rfl
theorem q_608 : Cond.native y_Thr_fillInStackTracex ∈ TT := tt_i (i := 643) (by decide +kernel) rfl
theorem q_609 : Cond.methodLink "KeyGraph" 225 y_IAE_init ∈ TT := tt_i (i := 644) (by decide +kernel) rfl
theorem q_610 : Cond.instanceMethod y_IAE_init ∈ TT := tt_i (i := 645) (by decide +kernel) rfl
set_option maxRecDepth 20000 in
theorem q_611 : Cond.code y_IAE_init prog_15_method_1_code 1 none ∈ TT := tt_i (i := 646) rfl rfl
theorem q_612 : Cond.methodLink "java/lang/IllegalArgumentException" 1 y_RTE_init ∈ TT := tt_i (i := 647) (by decide +kernel) rfl
theorem q_613 : Cond.instanceMethod y_RTE_init ∈ TT := tt_i (i := 648) (by decide +kernel) rfl
set_option maxRecDepth 20000 in
theorem q_614 : Cond.code y_RTE_init prog_19_method_1_code 1 none ∈ TT := tt_i (i := 649) rfl rfl
theorem q_615 : Cond.methodLink "java/lang/RuntimeException" 1 y_Exc_init ∈ TT := tt_i (i := 650) (by decide +kernel) rfl
theorem q_616 : Cond.instanceMethod y_Exc_init ∈ TT := tt_i (i := 651) (by decide +kernel) rfl
set_option maxRecDepth 20000 in
theorem q_617 : Cond.code y_Exc_init prog_14_method_1_code 1 none ∈ TT := tt_i (i := 652) rfl rfl
theorem q_618 : Cond.methodLink "java/lang/Exception" 1 y_Thr_init ∈ TT := tt_i (i := 653) (by decide +kernel) rfl
theorem q_619 : Cond.fieldLink "java/lang/Throwable" 198 "java/lang/Throwable" "backtrace" "Ljava/lang/Object;" ∈ TT := tt_i (i := 654) (by decide +kernel) rfl
theorem q_620 : Cond.fieldLink "java/lang/Throwable" 7 "java/lang/Throwable" "cause" "Ljava/lang/Throwable;" ∈ TT := tt_i (i := 655) (by decide +kernel) rfl
theorem q_621 : Cond.fieldLink "java/lang/Throwable" 17 "java/lang/Throwable" "stackTrace" "[Ljava/lang/StackTraceElement;" ∈ TT := tt_i (i := 656) (by decide +kernel) rfl
theorem q_622 : Cond.fieldLink "java/lang/Throwable" 24 "java/lang/Throwable" "suppressedExceptions" "Ljava/util/List;" ∈ TT := tt_i (i := 657) (by decide +kernel) rfl
theorem q_627 : Cond.lays "java/lang/IllegalArgumentException" "java/lang/Throwable" "depth" "I" ∈ TT := tt_i (i := 662) (by decide +kernel) rfl
theorem q_631 : Cond.methodLink "KeyGraph" 226 y_KG_state ∈ TT := tt_i (i := 666) (by decide +kernel) rfl
theorem q_632 : Cond.classLink "KeyGraph" 228 "java/lang/IllegalStateException" ∈ TT := tt_i (i := 667) (by decide +kernel) rfl
theorem q_633 : Cond.instantiable "java/lang/IllegalStateException" 6 ∈ TT := tt_i (i := 668) (by decide +kernel) rfl
theorem q_635 : Cond.selects "java/lang/IllegalStateException" y_Thr_fillInStackTracex y_Thr_fillInStackTracex ∈ TT := tt_i (i := 670) (by decide +kernel) rfl
theorem q_636 : Cond.lays "java/lang/IllegalStateException" "java/lang/Throwable" "cause" "Ljava/lang/Throwable;" ∈ TT := tt_i (i := 671) (by decide +kernel) rfl
theorem q_637 : Cond.lays "java/lang/IllegalStateException" "java/lang/Throwable" "stackTrace" "[Ljava/lang/StackTraceElement;" ∈ TT := tt_i (i := 672) (by decide +kernel) rfl
theorem q_638 : Cond.lays "java/lang/IllegalStateException" "java/lang/Throwable" "suppressedExceptions" "Ljava/util/List;" ∈ TT := tt_i (i := 673) (by decide +kernel) rfl
theorem q_639 : Cond.lays "java/lang/IllegalStateException" "java/lang/Throwable" "detailMessage" "Ljava/lang/String;" ∈ TT := tt_i (i := 674) (by decide +kernel) rfl
theorem q_640 : Cond.lays "java/lang/IllegalStateException" "java/lang/Throwable" "backtrace" "Ljava/lang/Object;" ∈ TT := tt_i (i := 675) (by decide +kernel) rfl
theorem q_641 : Cond.methodLink "KeyGraph" 230 y_ISE_init ∈ TT := tt_i (i := 676) (by decide +kernel) rfl
theorem q_642 : Cond.instanceMethod y_ISE_init ∈ TT := tt_i (i := 677) (by decide +kernel) rfl
set_option maxRecDepth 20000 in
theorem q_643 : Cond.code y_ISE_init prog_16_method_1_code 1 none ∈ TT := tt_i (i := 678) rfl rfl
theorem q_644 : Cond.methodLink "java/lang/IllegalStateException" 1 y_RTE_init ∈ TT := tt_i (i := 679) (by decide +kernel) rfl
theorem q_645 : Cond.lays "java/lang/IllegalStateException" "java/lang/Throwable" "depth" "I" ∈ TT := tt_i (i := 680) (by decide +kernel) rfl
theorem q_647 : Cond.classLink "KeyGraphLaw" 18 "KeyGraphModel" ∈ TT := tt_i (i := 682) (by decide +kernel) rfl
theorem q_648 : Cond.instantiable "KeyGraphModel" 25 ∈ TT := tt_i (i := 683) (by decide +kernel) rfl
theorem q_649 : Cond.methodLink "KeyGraphLaw" 20 y_Mod_init ∈ TT := tt_i (i := 684) (by decide +kernel) rfl
theorem q_650 : Cond.instanceMethod y_Mod_init ∈ TT := tt_i (i := 685) (by decide +kernel) rfl
set_option maxRecDepth 20000 in
theorem q_651 : Cond.code y_Mod_init prog_11_method_1_code 1 none ∈ TT := tt_i (i := 686) rfl rfl
theorem q_652 : Cond.methodLink "KeyGraphModel" 1 y_Obj_init ∈ TT := tt_i (i := 687) (by decide +kernel) rfl
theorem q_653 : Cond.fieldLink "KeyGraphModel" 75 "KeyGraphModel" "code" "I" ∈ TT := tt_i (i := 688) (by decide +kernel) rfl
theorem q_654 : Cond.fieldLink "KeyGraphModel" 86 "KeyGraphModel" "version" "I" ∈ TT := tt_i (i := 689) (by decide +kernel) rfl
theorem q_655 : Cond.fieldLink "KeyGraphModel" 79 "KeyGraphModel" "keys" "I" ∈ TT := tt_i (i := 690) (by decide +kernel) rfl
theorem q_656 : Cond.fieldLink "KeyGraphModel" 7 "KeyGraphModel" "function" "[I" ∈ TT := tt_i (i := 691) (by decide +kernel) rfl
theorem q_657 : Cond.fieldLink "KeyGraphModel" 13 "KeyGraphModel" "rowMany" "[I" ∈ TT := tt_i (i := 692) (by decide +kernel) rfl
theorem q_658 : Cond.fieldLink "KeyGraphModel" 16 "KeyGraphModel" "row" "[I" ∈ TT := tt_i (i := 693) (by decide +kernel) rfl
theorem q_659 : Cond.fieldLink "KeyGraphModel" 19 "KeyGraphModel" "state" "[I" ∈ TT := tt_i (i := 694) (by decide +kernel) rfl
theorem q_660 : Cond.fieldLink "KeyGraphModel" 22 "KeyGraphModel" "sureAt" "[I" ∈ TT := tt_i (i := 695) (by decide +kernel) rfl
theorem q_661 : Cond.fieldLink "KeyGraphModel" 25 "KeyGraphModel" "changedAt" "[I" ∈ TT := tt_i (i := 696) (by decide +kernel) rfl
theorem q_662 : Cond.fieldLink "KeyGraphModel" 28 "KeyGraphModel" "ownAt" "[I" ∈ TT := tt_i (i := 697) (by decide +kernel) rfl
theorem q_663 : Cond.fieldLink "KeyGraphModel" 31 "KeyGraphModel" "askedMany" "[I" ∈ TT := tt_i (i := 698) (by decide +kernel) rfl
theorem q_664 : Cond.fieldLink "KeyGraphModel" 34 "KeyGraphModel" "asked" "[I" ∈ TT := tt_i (i := 699) (by decide +kernel) rfl
theorem q_665 : Cond.fieldLink "KeyGraphModel" 37 "KeyGraphModel" "worked" "[I" ∈ TT := tt_i (i := 700) (by decide +kernel) rfl
theorem q_666 : Cond.fieldLink "KeyGraphModel" 40 "KeyGraphModel" "checked" "[I" ∈ TT := tt_i (i := 701) (by decide +kernel) rfl
theorem q_667 : Cond.fieldLink "KeyGraphModel" 43 "KeyGraphModel" "value" "[J" ∈ TT := tt_i (i := 702) (by decide +kernel) rfl
theorem q_668 : Cond.fieldLink "KeyGraphModel" 47 "KeyGraphModel" "spoilt" "[Z" ∈ TT := tt_i (i := 703) (by decide +kernel) rfl
theorem q_669 : Cond.fieldLink "KeyGraphModel" 51 "KeyGraphModel" "isKept" "[Z" ∈ TT := tt_i (i := 704) (by decide +kernel) rfl
theorem q_670 : Cond.fieldLink "KeyGraphModel" 54 "KeyGraphModel" "high" "[I" ∈ TT := tt_i (i := 705) (by decide +kernel) rfl
theorem q_671 : Cond.fieldLink "KeyGraphModel" 57 "KeyGraphModel" "on" "[I" ∈ TT := tt_i (i := 706) (by decide +kernel) rfl
theorem q_672 : Cond.fieldLink "KeyGraphModel" 60 "KeyGraphModel" "far" "[I" ∈ TT := tt_i (i := 707) (by decide +kernel) rfl
theorem q_673 : Cond.fieldLink "KeyGraphModel" 63 "KeyGraphModel" "took" "[I" ∈ TT := tt_i (i := 708) (by decide +kernel) rfl
theorem q_674 : Cond.fieldLink "KeyGraphModel" 66 "KeyGraphModel" "works" "[Z" ∈ TT := tt_i (i := 709) (by decide +kernel) rfl
theorem q_675 : Cond.fieldLink "KeyGraphModel" 69 "KeyGraphModel" "ring" "[I" ∈ TT := tt_i (i := 710) (by decide +kernel) rfl
theorem q_676 : Cond.fieldLink "KeyGraphModel" 108 "KeyGraphModel" "ringMany" "I" ∈ TT := tt_i (i := 711) (by decide +kernel) rfl
theorem q_677 : Cond.fieldLink "KeyGraphModel" 72 "KeyGraphModel" "leads" "[Z" ∈ TT := tt_i (i := 712) (by decide +kernel) rfl
theorem q_678 : Cond.lays "KeyGraphModel" "KeyGraphModel" "code" "I" ∈ TT := tt_i (i := 713) (by decide +kernel) rfl
theorem q_680 : Cond.lays "KeyGraphModel" "KeyGraphModel" "version" "I" ∈ TT := tt_i (i := 715) (by decide +kernel) rfl
theorem q_682 : Cond.lays "KeyGraphModel" "KeyGraphModel" "keys" "I" ∈ TT := tt_i (i := 717) (by decide +kernel) rfl
theorem q_684 : Cond.laysFinal "KeyGraphModel" "KeyGraphModel" "function" "[I" ∈ TT := tt_i (i := 719) (by decide +kernel) rfl
theorem q_686 : Cond.laysFinal "KeyGraphModel" "KeyGraphModel" "rowMany" "[I" ∈ TT := tt_i (i := 721) (by decide +kernel) rfl
theorem q_688 : Cond.laysFinal "KeyGraphModel" "KeyGraphModel" "row" "[I" ∈ TT := tt_i (i := 723) (by decide +kernel) rfl
theorem q_690 : Cond.laysFinal "KeyGraphModel" "KeyGraphModel" "state" "[I" ∈ TT := tt_i (i := 725) (by decide +kernel) rfl
theorem q_692 : Cond.laysFinal "KeyGraphModel" "KeyGraphModel" "sureAt" "[I" ∈ TT := tt_i (i := 727) (by decide +kernel) rfl
theorem q_694 : Cond.laysFinal "KeyGraphModel" "KeyGraphModel" "changedAt" "[I" ∈ TT := tt_i (i := 729) (by decide +kernel) rfl
theorem q_696 : Cond.laysFinal "KeyGraphModel" "KeyGraphModel" "ownAt" "[I" ∈ TT := tt_i (i := 731) (by decide +kernel) rfl
theorem q_698 : Cond.laysFinal "KeyGraphModel" "KeyGraphModel" "askedMany" "[I" ∈ TT := tt_i (i := 733) (by decide +kernel) rfl
theorem q_700 : Cond.laysFinal "KeyGraphModel" "KeyGraphModel" "asked" "[I" ∈ TT := tt_i (i := 735) (by decide +kernel) rfl
theorem q_702 : Cond.laysFinal "KeyGraphModel" "KeyGraphModel" "worked" "[I" ∈ TT := tt_i (i := 737) (by decide +kernel) rfl
theorem q_704 : Cond.laysFinal "KeyGraphModel" "KeyGraphModel" "checked" "[I" ∈ TT := tt_i (i := 739) (by decide +kernel) rfl
theorem q_706 : Cond.laysFinal "KeyGraphModel" "KeyGraphModel" "value" "[J" ∈ TT := tt_i (i := 741) (by decide +kernel) rfl
theorem q_708 : Cond.laysFinal "KeyGraphModel" "KeyGraphModel" "spoilt" "[Z" ∈ TT := tt_i (i := 743) (by decide +kernel) rfl
theorem q_710 : Cond.laysFinal "KeyGraphModel" "KeyGraphModel" "isKept" "[Z" ∈ TT := tt_i (i := 745) (by decide +kernel) rfl
theorem q_712 : Cond.laysFinal "KeyGraphModel" "KeyGraphModel" "high" "[I" ∈ TT := tt_i (i := 747) (by decide +kernel) rfl
theorem q_714 : Cond.laysFinal "KeyGraphModel" "KeyGraphModel" "on" "[I" ∈ TT := tt_i (i := 749) (by decide +kernel) rfl
theorem q_716 : Cond.laysFinal "KeyGraphModel" "KeyGraphModel" "far" "[I" ∈ TT := tt_i (i := 751) (by decide +kernel) rfl
theorem q_718 : Cond.laysFinal "KeyGraphModel" "KeyGraphModel" "took" "[I" ∈ TT := tt_i (i := 753) (by decide +kernel) rfl
theorem q_720 : Cond.laysFinal "KeyGraphModel" "KeyGraphModel" "works" "[Z" ∈ TT := tt_i (i := 755) (by decide +kernel) rfl
theorem q_722 : Cond.laysFinal "KeyGraphModel" "KeyGraphModel" "ring" "[I" ∈ TT := tt_i (i := 757) (by decide +kernel) rfl
theorem q_724 : Cond.lays "KeyGraphModel" "KeyGraphModel" "ringMany" "I" ∈ TT := tt_i (i := 759) (by decide +kernel) rfl
theorem q_726 : Cond.laysFinal "KeyGraphModel" "KeyGraphModel" "leads" "[Z" ∈ TT := tt_i (i := 761) (by decide +kernel) rfl
theorem q_729 : Cond.arrayClass FieldType.long ∈ TT := tt_i (i := 764) (by decide +kernel) rfl
theorem q_730 : Cond.methodLink "KeyGraphLaw" 79 y_Mod_thrown ∈ TT := tt_i (i := 765) (by decide +kernel) rfl
theorem q_731 : Cond.instanceMethod y_Mod_thrown ∈ TT := tt_i (i := 766) (by decide +kernel) rfl
theorem q_732 : Cond.selects "KeyGraphModel" y_Mod_thrown y_Mod_thrown ∈ TT := tt_i (i := 767) (by decide +kernel) rfl
set_option maxRecDepth 20000 in
theorem q_733 : Cond.code y_Mod_thrown prog_11_method_2_code 1 (some FieldType.int) ∈ TT := tt_i (i := 768) rfl rfl
theorem q_734 : Cond.methodLink "KeyGraphLaw" 27 y_Mod_leaf ∈ TT := tt_i (i := 769) (by decide +kernel) rfl
theorem q_735 : Cond.instanceMethod y_Mod_leaf ∈ TT := tt_i (i := 770) (by decide +kernel) rfl
theorem q_736 : Cond.selects "KeyGraphModel" y_Mod_leaf y_Mod_leaf ∈ TT := tt_i (i := 771) (by decide +kernel) rfl
set_option maxRecDepth 20000 in
theorem q_737 : Cond.code y_Mod_leaf prog_11_method_6_code 3 (some FieldType.int) ∈ TT := tt_i (i := 772) rfl rfl
theorem q_738 : Cond.methodLink "KeyGraphModel" 89 y_Mod_make ∈ TT := tt_i (i := 773) (by decide +kernel) rfl
theorem q_740 : Cond.instanceMethod y_Mod_make ∈ TT := tt_i (i := 775) (by decide +kernel) rfl
set_option maxRecDepth 20000 in
theorem q_741 : Cond.code y_Mod_make prog_11_method_5_code 2 (some FieldType.int) ∈ TT := tt_i (i := 776) rfl rfl
theorem q_742 : Cond.methodLink "KeyGraphLaw" 32 y_Mod_key ∈ TT := tt_i (i := 777) (by decide +kernel) rfl
theorem q_743 : Cond.instanceMethod y_Mod_key ∈ TT := tt_i (i := 778) (by decide +kernel) rfl
theorem q_744 : Cond.selects "KeyGraphModel" y_Mod_key y_Mod_key ∈ TT := tt_i (i := 779) (by decide +kernel) rfl
set_option maxRecDepth 20000 in
theorem q_745 : Cond.code y_Mod_key prog_11_method_7_code 2 (some FieldType.int) ∈ TT := tt_i (i := 780) rfl rfl
theorem q_746 : Cond.methodLink "KeyGraphLaw" 37 y_Mod_asks ∈ TT := tt_i (i := 781) (by decide +kernel) rfl
theorem q_747 : Cond.instanceMethod y_Mod_asks ∈ TT := tt_i (i := 782) (by decide +kernel) rfl
theorem q_748 : Cond.selects "KeyGraphModel" y_Mod_asks y_Mod_asks ∈ TT := tt_i (i := 783) (by decide +kernel) rfl
set_option maxRecDepth 20000 in
theorem q_749 : Cond.code y_Mod_asks prog_11_method_12_code 4 (some FieldType.int) ∈ TT := tt_i (i := 784) rfl rfl
theorem q_750 : Cond.methodLink "KeyGraphModel" 82 y_Mod_isKey ∈ TT := tt_i (i := 785) (by decide +kernel) rfl
theorem q_752 : Cond.instanceMethod y_Mod_isKey ∈ TT := tt_i (i := 787) (by decide +kernel) rfl
set_option maxRecDepth 20000 in
theorem q_753 : Cond.code y_Mod_isKey prog_11_method_3_code 2 (some FieldType.boolean) ∈ TT := tt_i (i := 788) rfl rfl
theorem q_754 : Cond.methodLink "KeyGraphModel" 101 y_Mod_isLeaf ∈ TT := tt_i (i := 789) (by decide +kernel) rfl
theorem q_756 : Cond.instanceMethod y_Mod_isLeaf ∈ TT := tt_i (i := 791) (by decide +kernel) rfl
set_option maxRecDepth 20000 in
theorem q_757 : Cond.code y_Mod_isLeaf prog_11_method_4_code 2 (some FieldType.boolean) ∈ TT := tt_i (i := 792) rfl rfl
theorem q_758 : Cond.methodLink "KeyGraphModel" 104 y_Mod_fillLeads ∈ TT := tt_i (i := 793) (by decide +kernel) rfl
theorem q_760 : Cond.instanceMethod y_Mod_fillLeads ∈ TT := tt_i (i := 795) (by decide +kernel) rfl
set_option maxRecDepth 20000 in
theorem q_761 : Cond.code y_Mod_fillLeads prog_11_method_11_code 5 none ∈ TT := tt_i (i := 796) rfl rfl
theorem q_762 : Cond.methodLink "KeyGraphModel" 97 y_Mod_rowKey ∈ TT := tt_i (i := 797) (by decide +kernel) rfl
theorem q_764 : Cond.instanceMethod y_Mod_rowKey ∈ TT := tt_i (i := 799) (by decide +kernel) rfl
set_option maxRecDepth 20000 in
theorem q_765 : Cond.code y_Mod_rowKey prog_11_method_10_code 3 (some FieldType.int) ∈ TT := tt_i (i := 800) rfl rfl
theorem q_766 : Cond.methodLink "KeyGraphModel" 111 y_Mod_firstBack ∈ TT := tt_i (i := 801) (by decide +kernel) rfl
theorem q_768 : Cond.instanceMethod y_Mod_firstBack ∈ TT := tt_i (i := 803) (by decide +kernel) rfl
set_option maxRecDepth 20000 in
theorem q_769 : Cond.code y_Mod_firstBack prog_11_method_13_code 3 (some FieldType.int) ∈ TT := tt_i (i := 804) rfl rfl
theorem q_770 : Cond.methodLink "KeyGraphModel" 114 y_Mod_next ∈ TT := tt_i (i := 805) (by decide +kernel) rfl
theorem q_772 : Cond.instanceMethod y_Mod_next ∈ TT := tt_i (i := 807) (by decide +kernel) rfl
set_option maxRecDepth 20000 in
theorem q_773 : Cond.code y_Mod_next prog_11_method_9_code 1 (some FieldType.int) ∈ TT := tt_i (i := 808) rfl rfl
theorem q_774 : Cond.methodLink "KeyGraphModel" 93 y_Mod_empty ∈ TT := tt_i (i := 809) (by decide +kernel) rfl
theorem q_776 : Cond.instanceMethod y_Mod_empty ∈ TT := tt_i (i := 811) (by decide +kernel) rfl
set_option maxRecDepth 20000 in
theorem q_777 : Cond.code y_Mod_empty prog_11_method_8_code 3 (some FieldType.int) ∈ TT := tt_i (i := 812) rfl rfl
theorem q_778 : Cond.methodLink "KeyGraphLaw" 41 y_Mod_ring ∈ TT := tt_i (i := 813) (by decide +kernel) rfl
theorem q_779 : Cond.instanceMethod y_Mod_ring ∈ TT := tt_i (i := 814) (by decide +kernel) rfl
theorem q_780 : Cond.selects "KeyGraphModel" y_Mod_ring y_Mod_ring ∈ TT := tt_i (i := 815) (by decide +kernel) rfl
set_option maxRecDepth 20000 in
theorem q_781 : Cond.code y_Mod_ring prog_11_method_14_code 2 (some FieldType.int) ∈ TT := tt_i (i := 816) rfl rfl
theorem q_782 : Cond.methodLink "KeyGraphLaw" 46 y_Mod_change ∈ TT := tt_i (i := 817) (by decide +kernel) rfl
theorem q_783 : Cond.instanceMethod y_Mod_change ∈ TT := tt_i (i := 818) (by decide +kernel) rfl
theorem q_784 : Cond.selects "KeyGraphModel" y_Mod_change y_Mod_change ∈ TT := tt_i (i := 819) (by decide +kernel) rfl
set_option maxRecDepth 20000 in
theorem q_785 : Cond.code y_Mod_change prog_11_method_15_code 4 (some FieldType.int) ∈ TT := tt_i (i := 820) rfl rfl
theorem q_786 : Cond.methodLink "KeyGraphLaw" 51 y_Mod_spoil ∈ TT := tt_i (i := 821) (by decide +kernel) rfl
theorem q_787 : Cond.instanceMethod y_Mod_spoil ∈ TT := tt_i (i := 822) (by decide +kernel) rfl
theorem q_788 : Cond.selects "KeyGraphModel" y_Mod_spoil y_Mod_spoil ∈ TT := tt_i (i := 823) (by decide +kernel) rfl
set_option maxRecDepth 20000 in
theorem q_789 : Cond.code y_Mod_spoil prog_11_method_16_code 3 (some FieldType.int) ∈ TT := tt_i (i := 824) rfl rfl
theorem q_790 : Cond.methodLink "KeyGraphLaw" 55 y_Mod_begin ∈ TT := tt_i (i := 825) (by decide +kernel) rfl
theorem q_791 : Cond.instanceMethod y_Mod_begin ∈ TT := tt_i (i := 826) (by decide +kernel) rfl
theorem q_792 : Cond.selects "KeyGraphModel" y_Mod_begin y_Mod_begin ∈ TT := tt_i (i := 827) (by decide +kernel) rfl
set_option maxRecDepth 20000 in
theorem q_793 : Cond.code y_Mod_begin prog_11_method_21_code 3 (some FieldType.int) ∈ TT := tt_i (i := 828) rfl rfl
theorem q_794 : Cond.methodLink "KeyGraphModel" 117 y_Mod_isWorker ∈ TT := tt_i (i := 829) (by decide +kernel) rfl
theorem q_795 : Cond.static y_Mod_isWorker ∈ TT := tt_i (i := 830) (by decide +kernel) rfl
set_option maxRecDepth 20000 in
theorem q_796 : Cond.code y_Mod_isWorker prog_11_method_20_code 1 (some FieldType.boolean) ∈ TT := tt_i (i := 831) rfl rfl
theorem q_797 : Cond.methodLink "KeyGraphModel" 120 y_Mod_pileOf ∈ TT := tt_i (i := 832) (by decide +kernel) rfl
theorem q_799 : Cond.instanceMethod y_Mod_pileOf ∈ TT := tt_i (i := 834) (by decide +kernel) rfl
set_option maxRecDepth 20000 in
theorem q_800 : Cond.code y_Mod_pileOf prog_11_method_18_code 5 (some FieldType.int) ∈ TT := tt_i (i := 835) rfl rfl
theorem q_801 : Cond.methodLink "KeyGraphModel" 123 y_Mod_isSure ∈ TT := tt_i (i := 836) (by decide +kernel) rfl
theorem q_803 : Cond.instanceMethod y_Mod_isSure ∈ TT := tt_i (i := 838) (by decide +kernel) rfl
set_option maxRecDepth 20000 in
theorem q_804 : Cond.code y_Mod_isSure prog_11_method_17_code 2 (some FieldType.boolean) ∈ TT := tt_i (i := 839) rfl rfl
theorem q_805 : Cond.methodLink "KeyGraphModel" 126 y_Mod_lay ∈ TT := tt_i (i := 840) (by decide +kernel) rfl
theorem q_807 : Cond.instanceMethod y_Mod_lay ∈ TT := tt_i (i := 842) (by decide +kernel) rfl
set_option maxRecDepth 20000 in
theorem q_808 : Cond.code y_Mod_lay prog_11_method_19_code 4 none ∈ TT := tt_i (i := 843) rfl rfl
theorem q_809 : Cond.methodLink "KeyGraphLaw" 64 y_Mod_cancel ∈ TT := tt_i (i := 844) (by decide +kernel) rfl
theorem q_810 : Cond.instanceMethod y_Mod_cancel ∈ TT := tt_i (i := 845) (by decide +kernel) rfl
theorem q_811 : Cond.selects "KeyGraphModel" y_Mod_cancel y_Mod_cancel ∈ TT := tt_i (i := 846) (by decide +kernel) rfl
set_option maxRecDepth 20000 in
theorem q_812 : Cond.code y_Mod_cancel prog_11_method_22_code 1 (some FieldType.int) ∈ TT := tt_i (i := 847) rfl rfl
theorem q_813 : Cond.methodLink "KeyGraphLaw" 59 y_Mod_step ∈ TT := tt_i (i := 848) (by decide +kernel) rfl
theorem q_814 : Cond.instanceMethod y_Mod_step ∈ TT := tt_i (i := 849) (by decide +kernel) rfl
theorem q_815 : Cond.selects "KeyGraphModel" y_Mod_step y_Mod_step ∈ TT := tt_i (i := 850) (by decide +kernel) rfl
set_option maxRecDepth 20000 in
theorem q_816 : Cond.code y_Mod_step prog_11_method_31_code 2 (some FieldType.int) ∈ TT := tt_i (i := 851) rfl rfl
theorem q_817 : Cond.methodLink "KeyGraphModel" 157 y_Mod_go ∈ TT := tt_i (i := 852) (by decide +kernel) rfl
theorem q_819 : Cond.instanceMethod y_Mod_go ∈ TT := tt_i (i := 854) (by decide +kernel) rfl
set_option maxRecDepth 20000 in
theorem q_820 : Cond.code y_Mod_go prog_11_method_30_code 5 (some FieldType.int) ∈ TT := tt_i (i := 855) rfl rfl
theorem q_821 : Cond.methodLink "KeyGraphModel" 143 y_Mod_check ∈ TT := tt_i (i := 856) (by decide +kernel) rfl
theorem q_823 : Cond.instanceMethod y_Mod_check ∈ TT := tt_i (i := 858) (by decide +kernel) rfl
set_option maxRecDepth 20000 in
theorem q_824 : Cond.code y_Mod_check prog_11_method_29_code 5 (some FieldType.int) ∈ TT := tt_i (i := 859) rfl rfl
theorem q_825 : Cond.methodLink "KeyGraphModel" 140 y_Mod_await ∈ TT := tt_i (i := 860) (by decide +kernel) rfl
theorem q_827 : Cond.instanceMethod y_Mod_await ∈ TT := tt_i (i := 862) (by decide +kernel) rfl
set_option maxRecDepth 20000 in
theorem q_828 : Cond.code y_Mod_await prog_11_method_28_code 3 (some FieldType.int) ∈ TT := tt_i (i := 863) rfl rfl
theorem q_829 : Cond.methodLink "KeyGraphModel" 146 y_Mod_comes ∈ TT := tt_i (i := 864) (by decide +kernel) rfl
theorem q_831 : Cond.instanceMethod y_Mod_comes ∈ TT := tt_i (i := 866) (by decide +kernel) rfl
set_option maxRecDepth 20000 in
theorem q_832 : Cond.code y_Mod_comes prog_11_method_24_code 5 (some FieldType.int) ∈ TT := tt_i (i := 867) rfl rfl
theorem q_833 : Cond.methodLink "KeyGraphModel" 130 y_Mod_taken ∈ TT := tt_i (i := 868) (by decide +kernel) rfl
theorem q_835 : Cond.instanceMethod y_Mod_taken ∈ TT := tt_i (i := 870) (by decide +kernel) rfl
set_option maxRecDepth 20000 in
theorem q_836 : Cond.code y_Mod_taken prog_11_method_23_code 3 (some FieldType.long) ∈ TT := tt_i (i := 871) rfl rfl
theorem q_837 : Cond.methodLink "KeyGraphModel" 134 y_Mod_remainder ∈ TT := tt_i (i := 872) (by decide +kernel) rfl
theorem q_838 : Cond.static y_Mod_remainder ∈ TT := tt_i (i := 873) (by decide +kernel) rfl
set_option maxRecDepth 20000 in
theorem q_839 : Cond.code y_Mod_remainder prog_11_method_25_code 4 (some FieldType.int) ∈ TT := tt_i (i := 874) rfl rfl
theorem q_840 : Cond.methodLink "KeyGraphModel" 149 y_Mod_end ∈ TT := tt_i (i := 875) (by decide +kernel) rfl
theorem q_842 : Cond.instanceMethod y_Mod_end ∈ TT := tt_i (i := 877) (by decide +kernel) rfl
set_option maxRecDepth 20000 in
theorem q_843 : Cond.code y_Mod_end prog_11_method_27_code 9 (some FieldType.int) ∈ TT := tt_i (i := 878) rfl rfl
theorem q_844 : Cond.methodLink "KeyGraphModel" 153 y_Mod_outcome ∈ TT := tt_i (i := 879) (by decide +kernel) rfl
theorem q_846 : Cond.instanceMethod y_Mod_outcome ∈ TT := tt_i (i := 881) (by decide +kernel) rfl
set_option maxRecDepth 20000 in
theorem q_847 : Cond.code y_Mod_outcome prog_11_method_26_code 9 (some FieldType.long) ∈ TT := tt_i (i := 882) rfl rfl
theorem q_848 : Cond.constantLong "KeyGraphModel" 138 (-1 : Int64) ∈ TT := tt_i (i := 883) (by decide +kernel) rfl
theorem q_849 : Cond.methodLink "KeyGraphLaw" 68 y_Mod_run ∈ TT := tt_i (i := 884) (by decide +kernel) rfl
theorem q_850 : Cond.instanceMethod y_Mod_run ∈ TT := tt_i (i := 885) (by decide +kernel) rfl
theorem q_851 : Cond.selects "KeyGraphModel" y_Mod_run y_Mod_run ∈ TT := tt_i (i := 886) (by decide +kernel) rfl
set_option maxRecDepth 20000 in
theorem q_852 : Cond.code y_Mod_run prog_11_method_32_code 3 (some FieldType.int) ∈ TT := tt_i (i := 887) rfl rfl
theorem q_853 : Cond.methodLink "KeyGraphLaw" 72 y_Mod_state ∈ TT := tt_i (i := 888) (by decide +kernel) rfl
theorem q_854 : Cond.instanceMethod y_Mod_state ∈ TT := tt_i (i := 889) (by decide +kernel) rfl
theorem q_855 : Cond.selects "KeyGraphModel" y_Mod_state y_Mod_state ∈ TT := tt_i (i := 890) (by decide +kernel) rfl
set_option maxRecDepth 20000 in
theorem q_856 : Cond.code y_Mod_state prog_11_method_33_code 2 (some FieldType.int) ∈ TT := tt_i (i := 891) rfl rfl
theorem q_857 : Cond.methodLink "KeyGraphLaw" 78 y_Mod_value ∈ TT := tt_i (i := 892) (by decide +kernel) rfl
theorem q_858 : Cond.instanceMethod y_Mod_value ∈ TT := tt_i (i := 893) (by decide +kernel) rfl
theorem q_859 : Cond.selects "KeyGraphModel" y_Mod_value y_Mod_value ∈ TT := tt_i (i := 894) (by decide +kernel) rfl
set_option maxRecDepth 20000 in
theorem q_860 : Cond.code y_Mod_value prog_11_method_34_code 2 (some FieldType.long) ∈ TT := tt_i (i := 895) rfl rfl
theorem q_861 : Cond.methodLink "KeyGraphLaw" 85 y_Mod_worked ∈ TT := tt_i (i := 896) (by decide +kernel) rfl
theorem q_862 : Cond.instanceMethod y_Mod_worked ∈ TT := tt_i (i := 897) (by decide +kernel) rfl
theorem q_863 : Cond.selects "KeyGraphModel" y_Mod_worked y_Mod_worked ∈ TT := tt_i (i := 898) (by decide +kernel) rfl
set_option maxRecDepth 20000 in
theorem q_864 : Cond.code y_Mod_worked prog_11_method_35_code 2 (some FieldType.int) ∈ TT := tt_i (i := 899) rfl rfl
theorem q_865 : Cond.methodLink "KeyGraphLaw" 89 y_Mod_kept ∈ TT := tt_i (i := 900) (by decide +kernel) rfl
theorem q_866 : Cond.instanceMethod y_Mod_kept ∈ TT := tt_i (i := 901) (by decide +kernel) rfl
theorem q_867 : Cond.selects "KeyGraphModel" y_Mod_kept y_Mod_kept ∈ TT := tt_i (i := 902) (by decide +kernel) rfl
set_option maxRecDepth 20000 in
theorem q_868 : Cond.code y_Mod_kept prog_11_method_36_code 2 (some FieldType.int) ∈ TT := tt_i (i := 903) rfl rfl
theorem q_869 : Cond.methodLink "KeyGraphLaw" 93 y_Mod_changed ∈ TT := tt_i (i := 904) (by decide +kernel) rfl
theorem q_870 : Cond.instanceMethod y_Mod_changed ∈ TT := tt_i (i := 905) (by decide +kernel) rfl
theorem q_871 : Cond.selects "KeyGraphModel" y_Mod_changed y_Mod_changed ∈ TT := tt_i (i := 906) (by decide +kernel) rfl
set_option maxRecDepth 20000 in
theorem q_872 : Cond.code y_Mod_changed prog_11_method_37_code 2 (some FieldType.int) ∈ TT := tt_i (i := 907) rfl rfl
theorem q_873 : Cond.methodLink "KeyGraphLaw" 97 y_Mod_asked ∈ TT := tt_i (i := 908) (by decide +kernel) rfl
theorem q_874 : Cond.instanceMethod y_Mod_asked ∈ TT := tt_i (i := 909) (by decide +kernel) rfl
theorem q_875 : Cond.selects "KeyGraphModel" y_Mod_asked y_Mod_asked ∈ TT := tt_i (i := 910) (by decide +kernel) rfl
set_option maxRecDepth 20000 in
theorem q_876 : Cond.code y_Mod_asked prog_11_method_38_code 3 (some FieldType.int) ∈ TT := tt_i (i := 911) rfl rfl
theorem q_877 : Cond.methodLink "KeyGraphLaw" 102 y_Mod_drop ∈ TT := tt_i (i := 912) (by decide +kernel) rfl
theorem q_878 : Cond.instanceMethod y_Mod_drop ∈ TT := tt_i (i := 913) (by decide +kernel) rfl
theorem q_879 : Cond.selects "KeyGraphModel" y_Mod_drop y_Mod_drop ∈ TT := tt_i (i := 914) (by decide +kernel) rfl
set_option maxRecDepth 20000 in
theorem q_880 : Cond.code y_Mod_drop prog_11_method_39_code 2 (some FieldType.boolean) ∈ TT := tt_i (i := 915) rfl rfl
theorem q_881 : Cond.methodLink "KeyGraphLaw" 106 y_Mod_version ∈ TT := tt_i (i := 916) (by decide +kernel) rfl
theorem q_882 : Cond.instanceMethod y_Mod_version ∈ TT := tt_i (i := 917) (by decide +kernel) rfl
theorem q_883 : Cond.selects "KeyGraphModel" y_Mod_version y_Mod_version ∈ TT := tt_i (i := 918) (by decide +kernel) rfl
set_option maxRecDepth 20000 in
theorem q_884 : Cond.code y_Mod_version prog_11_method_40_code 1 (some FieldType.int) ∈ TT := tt_i (i := 919) rfl rfl
theorem q_885 : Cond.constantLong "KeyGraphLaw" 21 (4294967295 : Int64) ∈ TT := tt_i (i := 920) (by decide +kernel) rfl
theorem q_886 : Cond.sameMethod "java/lang/Throwable" "java/lang/Throwable" "fillInStackTrace" "(I)Ljava/lang/Throwable;" ∈ TT := tt_i (i := 921) (by decide +kernel) rfl
theorem q_888 : Cond.sameMethod "[Ljava/lang/Object;" "java/lang/Object" "getClass" "()Ljava/lang/Class;" ∈ TT := tt_i (i := 923) (by decide +kernel) rfl
theorem q_889 : Cond.selects "[Ljava/lang/Object;" y_Obj_getClass y_Obj_getClass ∈ TT := tt_i (i := 924) (by decide +kernel) rfl
theorem qp_0 : Cond.selects "java/util/ArrayList" y_AL_add3 y_AL_add3 ∈ TT := tt_i (i := 0) (by decide +kernel) rfl
theorem qp_1 : Cond.selects "java/util/ArrayList" y_AL_grow0 y_AL_grow0 ∈ TT := tt_i (i := 1) (by decide +kernel) rfl
theorem qp_2 : Cond.selects "java/util/ArrayList" y_AL_grow1 y_AL_grow1 ∈ TT := tt_i (i := 2) (by decide +kernel) rfl
theorem qp_3 : Cond.selects "KeyGraph" y_KG_isFunction y_KG_isFunction ∈ TT := tt_i (i := 3) (by decide +kernel) rfl
theorem qp_4 : Cond.selects "KeyGraph" y_KG_isKey y_KG_isKey ∈ TT := tt_i (i := 4) (by decide +kernel) rfl
theorem qp_5 : Cond.selects "KeyGraph" y_KG_leadTo y_KG_leadTo ∈ TT := tt_i (i := 5) (by decide +kernel) rfl
theorem qp_6 : Cond.selects "KeyGraph" y_KG_asksOne y_KG_asksOne ∈ TT := tt_i (i := 6) (by decide +kernel) rfl
theorem qp_7 : Cond.selects "KeyGraph" y_KG_isLeading y_KG_isLeading ∈ TT := tt_i (i := 7) (by decide +kernel) rfl
theorem qp_8 : Cond.selects "KeyGraph" y_KG_raise y_KG_raise ∈ TT := tt_i (i := 8) (by decide +kernel) rfl
theorem qp_9 : Cond.selects "KeyGraph" y_KG_isSure y_KG_isSure ∈ TT := tt_i (i := 9) (by decide +kernel) rfl
theorem qp_10 : Cond.selects "KeyGraph" y_KG_put y_KG_put ∈ TT := tt_i (i := 10) (by decide +kernel) rfl
theorem qp_11 : Cond.selects "KeyGraph" y_KG_stepOf y_KG_stepOf ∈ TT := tt_i (i := 11) (by decide +kernel) rfl
theorem qp_12 : Cond.selects "KeyGraph" y_KG_check y_KG_check ∈ TT := tt_i (i := 12) (by decide +kernel) rfl
theorem qp_13 : Cond.selects "KeyGraph" y_KG_found y_KG_found ∈ TT := tt_i (i := 13) (by decide +kernel) rfl
theorem qp_14 : Cond.selects "KeyGraph" y_KG_goesDown y_KG_goesDown ∈ TT := tt_i (i := 14) (by decide +kernel) rfl
theorem qp_15 : Cond.selects "KeyGraph" y_KG_ends y_KG_ends ∈ TT := tt_i (i := 15) (by decide +kernel) rfl
theorem qp_16 : Cond.selects "java/lang/Throwable" y_Thr_fillInStackTracex y_Thr_fillInStackTracex ∈ TT := tt_i (i := 16) (by decide +kernel) rfl
theorem qp_17 : Cond.selects "KeyGraphModel" y_Mod_make y_Mod_make ∈ TT := tt_i (i := 17) (by decide +kernel) rfl
theorem qp_18 : Cond.selects "KeyGraphModel" y_Mod_isKey y_Mod_isKey ∈ TT := tt_i (i := 18) (by decide +kernel) rfl
theorem qp_19 : Cond.selects "KeyGraphModel" y_Mod_isLeaf y_Mod_isLeaf ∈ TT := tt_i (i := 19) (by decide +kernel) rfl
theorem qp_20 : Cond.selects "KeyGraphModel" y_Mod_fillLeads y_Mod_fillLeads ∈ TT := tt_i (i := 20) (by decide +kernel) rfl
theorem qp_21 : Cond.selects "KeyGraphModel" y_Mod_rowKey y_Mod_rowKey ∈ TT := tt_i (i := 21) (by decide +kernel) rfl
theorem qp_22 : Cond.selects "KeyGraphModel" y_Mod_firstBack y_Mod_firstBack ∈ TT := tt_i (i := 22) (by decide +kernel) rfl
theorem qp_23 : Cond.selects "KeyGraphModel" y_Mod_next y_Mod_next ∈ TT := tt_i (i := 23) (by decide +kernel) rfl
theorem qp_24 : Cond.selects "KeyGraphModel" y_Mod_empty y_Mod_empty ∈ TT := tt_i (i := 24) (by decide +kernel) rfl
theorem qp_25 : Cond.selects "KeyGraphModel" y_Mod_pileOf y_Mod_pileOf ∈ TT := tt_i (i := 25) (by decide +kernel) rfl
theorem qp_26 : Cond.selects "KeyGraphModel" y_Mod_isSure y_Mod_isSure ∈ TT := tt_i (i := 26) (by decide +kernel) rfl
theorem qp_27 : Cond.selects "KeyGraphModel" y_Mod_lay y_Mod_lay ∈ TT := tt_i (i := 27) (by decide +kernel) rfl
theorem qp_28 : Cond.selects "KeyGraphModel" y_Mod_go y_Mod_go ∈ TT := tt_i (i := 28) (by decide +kernel) rfl
theorem qp_29 : Cond.selects "KeyGraphModel" y_Mod_check y_Mod_check ∈ TT := tt_i (i := 29) (by decide +kernel) rfl
theorem qp_30 : Cond.selects "KeyGraphModel" y_Mod_await y_Mod_await ∈ TT := tt_i (i := 30) (by decide +kernel) rfl
theorem qp_31 : Cond.selects "KeyGraphModel" y_Mod_comes y_Mod_comes ∈ TT := tt_i (i := 31) (by decide +kernel) rfl
theorem qp_32 : Cond.selects "KeyGraphModel" y_Mod_taken y_Mod_taken ∈ TT := tt_i (i := 32) (by decide +kernel) rfl
theorem qp_33 : Cond.selects "KeyGraphModel" y_Mod_end y_Mod_end ∈ TT := tt_i (i := 33) (by decide +kernel) rfl
theorem qp_34 : Cond.selects "KeyGraphModel" y_Mod_outcome y_Mod_outcome ∈ TT := tt_i (i := 34) (by decide +kernel) rfl
def F_KG : u_T := fun k => match k with
  | 0 => ("KeyGraph", "keys", "Ljava/util/ArrayList;", true)
  | 1 => ("KeyGraph", "piles", "[LKeyGraph$Pile;", true)
  | 2 => ("KeyGraph", "told", "Ljava/util/ArrayList;", true)
  | 3 => ("KeyGraph", "version", "I", false)
  | _ => ("KeyGraph", "leads", "[Z", true)
def t_KG : Nat → FieldType := fun k => match k with
  | 0 => .object "java/util/ArrayList"
  | 1 => .array (.object "KeyGraph$Pile")
  | 2 => .object "java/util/ArrayList"
  | 3 => .int
  | _ => .array .boolean
theorem n_KG : ∀ a, a < 5 → ∀ b, b < 5 → a ≠ b → (F_KG a).2.1 ≠ (F_KG b).2.1 := by decide +kernel
theorem t_KG_ok : ∀ k, k < 5 → parseFieldDescriptor (F_KG k).2.2.1 = some (t_KG k) := by decide +kernel
theorem i_KG : ∀ w ∈ u_ws "KeyGraph" F_KG 5, w ∈ TT := by
  intro w hw
  obtain ⟨k, hk, rfl⟩ := List.mem_map.mp hw
  have hk := List.mem_range.mp hk
  match k, hk with
  | 0, _ => exact q_85
  | 1, _ => exact q_87
  | 2, _ => exact q_89
  | 3, _ => exact q_91
  | 4, _ => exact q_93
  | (k + 5), hk => exact absurd hk (by omega)
def F_Key : u_T := fun k => match k with
  | 0 => ("KeyGraph$Key", "number", "I", true)
  | 1 => ("KeyGraph$Key", "function", "LKeyGraph$Function;", true)
  | 2 => ("KeyGraph$Key", "row", "Ljava/util/ArrayList;", true)
  | 3 => ("KeyGraph$Key", "state", "I", false)
  | 4 => ("KeyGraph$Key", "value", "J", false)
  | 5 => ("KeyGraph$Key", "changed", "I", false)
  | 6 => ("KeyGraph$Key", "sureIn", "I", false)
  | 7 => ("KeyGraph$Key", "ownIn", "I", false)
  | 8 => ("KeyGraph$Key", "worked", "I", false)
  | 9 => ("KeyGraph$Key", "kept", "I", false)
  | 10 => ("KeyGraph$Key", "spoilt", "Z", false)
  | 11 => ("KeyGraph$Key", "asked", "[I", false)
  | 12 => ("KeyGraph$Key", "asking", "[I", false)
  | 13 => ("KeyGraph$Key", "askedCount", "I", false)
  | 14 => ("KeyGraph$Key", "askingCount", "I", false)
  | 15 => ("KeyGraph$Key", "worker", "I", false)
  | 16 => ("KeyGraph$Key", "at", "I", false)
  | _ => ("KeyGraph$Key", "checks", "Z", false)
def t_Key : Nat → FieldType := fun k => match k with
  | 0 => .int
  | 1 => .object "KeyGraph$Function"
  | 2 => .object "java/util/ArrayList"
  | 3 => .int
  | 4 => .long
  | 5 => .int
  | 6 => .int
  | 7 => .int
  | 8 => .int
  | 9 => .int
  | 10 => .boolean
  | 11 => .array .int
  | 12 => .array .int
  | 13 => .int
  | 14 => .int
  | 15 => .int
  | 16 => .int
  | _ => .boolean
theorem n_Key : ∀ a, a < 18 → ∀ b, b < 18 → a ≠ b → (F_Key a).2.1 ≠ (F_Key b).2.1 := by decide +kernel
theorem t_Key_ok : ∀ k, k < 18 → parseFieldDescriptor (F_Key k).2.2.1 = some (t_Key k) := by decide +kernel
theorem i_Key : ∀ w ∈ u_ws "KeyGraph$Key" F_Key 18, w ∈ TT := by
  intro w hw
  obtain ⟨k, hk, rfl⟩ := List.mem_map.mp hw
  have hk := List.mem_range.mp hk
  match k, hk with
  | 0, _ => exact q_138
  | 1, _ => exact q_140
  | 2, _ => exact q_142
  | 3, _ => exact q_144
  | 4, _ => exact q_146
  | 5, _ => exact q_148
  | 6, _ => exact q_150
  | 7, _ => exact q_152
  | 8, _ => exact q_154
  | 9, _ => exact q_156
  | 10, _ => exact q_158
  | 11, _ => exact q_160
  | 12, _ => exact q_162
  | 13, _ => exact q_164
  | 14, _ => exact q_166
  | 15, _ => exact q_168
  | 16, _ => exact q_170
  | 17, _ => exact q_172
  | (k + 18), hk => exact absurd hk (by omega)
def F_Sum : u_T := fun k => match k with
  | 0 => ("KeyGraph$Function", "many", "I", false)
  | 1 => ("KeyGraph$Function", "place", "I", false)
  | 2 => ("KeyGraph$Function", "v", "J", false)
  | 3 => ("KeyGraph$Function", "failed", "Z", false)
  | _ => ("KeyGraph$Sum", "parity", "Z", true)
def t_Sum : Nat → FieldType := fun k => match k with
  | 0 => .int
  | 1 => .int
  | 2 => .long
  | 3 => .boolean
  | _ => .boolean
theorem n_Sum : ∀ a, a < 5 → ∀ b, b < 5 → a ≠ b → (F_Sum a).2.1 ≠ (F_Sum b).2.1 := by decide +kernel
theorem t_Sum_ok : ∀ k, k < 5 → parseFieldDescriptor (F_Sum k).2.2.1 = some (t_Sum k) := by decide +kernel
theorem i_Sum : ∀ w ∈ u_ws "KeyGraph$Sum" F_Sum 5, w ∈ TT := by
  intro w hw
  obtain ⟨k, hk, rfl⟩ := List.mem_map.mp hw
  have hk := List.mem_range.mp hk
  match k, hk with
  | 0, _ => exact q_284
  | 1, _ => exact q_286
  | 2, _ => exact q_288
  | 3, _ => exact q_290
  | 4, _ => exact q_282
  | (k + 5), hk => exact absurd hk (by omega)
def F_First : u_T := fun k => match k with
  | 0 => ("KeyGraph$Function", "many", "I", false)
  | 1 => ("KeyGraph$Function", "place", "I", false)
  | 2 => ("KeyGraph$Function", "v", "J", false)
  | _ => ("KeyGraph$Function", "failed", "Z", false)
def t_First : Nat → FieldType := fun k => match k with
  | 0 => .int
  | 1 => .int
  | 2 => .long
  | _ => .boolean
theorem n_First : ∀ a, a < 4 → ∀ b, b < 4 → a ≠ b → (F_First a).2.1 ≠ (F_First b).2.1 := by decide +kernel
theorem t_First_ok : ∀ k, k < 4 → parseFieldDescriptor (F_First k).2.2.1 = some (t_First k) := by decide +kernel
theorem i_First : ∀ w ∈ u_ws "KeyGraph$First" F_First 4, w ∈ TT := by
  intro w hw
  obtain ⟨k, hk, rfl⟩ := List.mem_map.mp hw
  have hk := List.mem_range.mp hk
  match k, hk with
  | 0, _ => exact q_299
  | 1, _ => exact q_300
  | 2, _ => exact q_301
  | 3, _ => exact q_302
  | (k + 4), hk => exact absurd hk (by omega)
def F_Choice : u_T := fun k => match k with
  | 0 => ("KeyGraph$Function", "many", "I", false)
  | 1 => ("KeyGraph$Function", "place", "I", false)
  | 2 => ("KeyGraph$Function", "v", "J", false)
  | 3 => ("KeyGraph$Function", "failed", "Z", false)
  | _ => ("KeyGraph$Choice", "chosen", "Z", false)
def t_Choice : Nat → FieldType := fun k => match k with
  | 0 => .int
  | 1 => .int
  | 2 => .long
  | 3 => .boolean
  | _ => .boolean
theorem n_Choice : ∀ a, a < 5 → ∀ b, b < 5 → a ≠ b → (F_Choice a).2.1 ≠ (F_Choice b).2.1 := by decide +kernel
theorem t_Choice_ok : ∀ k, k < 5 → parseFieldDescriptor (F_Choice k).2.2.1 = some (t_Choice k) := by decide +kernel
theorem i_Choice : ∀ w ∈ u_ws "KeyGraph$Choice" F_Choice 5, w ∈ TT := by
  intro w hw
  obtain ⟨k, hk, rfl⟩ := List.mem_map.mp hw
  have hk := List.mem_range.mp hk
  match k, hk with
  | 0, _ => exact q_313
  | 1, _ => exact q_314
  | 2, _ => exact q_315
  | 3, _ => exact q_316
  | 4, _ => exact q_311
  | (k + 5), hk => exact absurd hk (by omega)
def F_Quot : u_T := fun k => match k with
  | 0 => ("KeyGraph$Function", "many", "I", false)
  | 1 => ("KeyGraph$Function", "place", "I", false)
  | 2 => ("KeyGraph$Function", "v", "J", false)
  | _ => ("KeyGraph$Function", "failed", "Z", false)
def t_Quot : Nat → FieldType := fun k => match k with
  | 0 => .int
  | 1 => .int
  | 2 => .long
  | _ => .boolean
theorem n_Quot : ∀ a, a < 4 → ∀ b, b < 4 → a ≠ b → (F_Quot a).2.1 ≠ (F_Quot b).2.1 := by decide +kernel
theorem t_Quot_ok : ∀ k, k < 4 → parseFieldDescriptor (F_Quot k).2.2.1 = some (t_Quot k) := by decide +kernel
theorem i_Quot : ∀ w ∈ u_ws "KeyGraph$Quotient" F_Quot 4, w ∈ TT := by
  intro w hw
  obtain ⟨k, hk, rfl⟩ := List.mem_map.mp hw
  have hk := List.mem_range.mp hk
  match k, hk with
  | 0, _ => exact q_324
  | 1, _ => exact q_325
  | 2, _ => exact q_326
  | 3, _ => exact q_327
  | (k + 4), hk => exact absurd hk (by omega)
def F_Great : u_T := fun k => match k with
  | 0 => ("KeyGraph$Function", "many", "I", false)
  | 1 => ("KeyGraph$Function", "place", "I", false)
  | 2 => ("KeyGraph$Function", "v", "J", false)
  | _ => ("KeyGraph$Function", "failed", "Z", false)
def t_Great : Nat → FieldType := fun k => match k with
  | 0 => .int
  | 1 => .int
  | 2 => .long
  | _ => .boolean
theorem n_Great : ∀ a, a < 4 → ∀ b, b < 4 → a ≠ b → (F_Great a).2.1 ≠ (F_Great b).2.1 := by decide +kernel
theorem t_Great_ok : ∀ k, k < 4 → parseFieldDescriptor (F_Great k).2.2.1 = some (t_Great k) := by decide +kernel
theorem i_Great : ∀ w ∈ u_ws "KeyGraph$Greatest" F_Great 4, w ∈ TT := by
  intro w hw
  obtain ⟨k, hk, rfl⟩ := List.mem_map.mp hw
  have hk := List.mem_range.mp hk
  match k, hk with
  | 0, _ => exact q_335
  | 1, _ => exact q_336
  | 2, _ => exact q_337
  | 3, _ => exact q_338
  | (k + 4), hk => exact absurd hk (by omega)
def F_Pile : u_T := fun k => match k with
  | 0 => ("KeyGraph$Pile", "keys", "[LKeyGraph$Key;", true)
  | _ => ("KeyGraph$Pile", "size", "I", false)
def t_Pile : Nat → FieldType := fun k => match k with
  | 0 => .array (.object "KeyGraph$Key")
  | _ => .int
theorem n_Pile : ∀ a, a < 2 → ∀ b, b < 2 → a ≠ b → (F_Pile a).2.1 ≠ (F_Pile b).2.1 := by decide +kernel
theorem t_Pile_ok : ∀ k, k < 2 → parseFieldDescriptor (F_Pile k).2.2.1 = some (t_Pile k) := by decide +kernel
theorem i_Pile : ∀ w ∈ u_ws "KeyGraph$Pile" F_Pile 2, w ∈ TT := by
  intro w hw
  obtain ⟨k, hk, rfl⟩ := List.mem_map.mp hw
  have hk := List.mem_range.mp hk
  match k, hk with
  | 0, _ => exact q_75
  | 1, _ => exact q_77
  | (k + 2), hk => exact absurd hk (by omega)
def F_AL : u_T := fun k => match k with
  | 0 => ("java/util/AbstractList", "modCount", "I", false)
  | 1 => ("java/util/ArrayList", "elementData", "[Ljava/lang/Object;", false)
  | _ => ("java/util/ArrayList", "size", "I", false)
def t_AL : Nat → FieldType := fun k => match k with
  | 0 => .int
  | 1 => .array (.object "java/lang/Object")
  | _ => .int
theorem n_AL : ∀ a, a < 3 → ∀ b, b < 3 → a ≠ b → (F_AL a).2.1 ≠ (F_AL b).2.1 := by decide +kernel
theorem t_AL_ok : ∀ k, k < 3 → parseFieldDescriptor (F_AL k).2.2.1 = some (t_AL k) := by decide +kernel
theorem i_AL : ∀ w ∈ u_ws "java/util/ArrayList" F_AL 3, w ∈ TT := by
  intro w hw
  obtain ⟨k, hk, rfl⟩ := List.mem_map.mp hw
  have hk := List.mem_range.mp hk
  match k, hk with
  | 0, _ => exact q_56
  | 1, _ => exact q_52
  | 2, _ => exact q_54
  | (k + 3), hk => exact absurd hk (by omega)
def F_Mod : u_T := fun k => match k with
  | 0 => ("KeyGraphModel", "code", "I", false)
  | 1 => ("KeyGraphModel", "version", "I", false)
  | 2 => ("KeyGraphModel", "keys", "I", false)
  | 3 => ("KeyGraphModel", "function", "[I", true)
  | 4 => ("KeyGraphModel", "rowMany", "[I", true)
  | 5 => ("KeyGraphModel", "row", "[I", true)
  | 6 => ("KeyGraphModel", "state", "[I", true)
  | 7 => ("KeyGraphModel", "sureAt", "[I", true)
  | 8 => ("KeyGraphModel", "changedAt", "[I", true)
  | 9 => ("KeyGraphModel", "ownAt", "[I", true)
  | 10 => ("KeyGraphModel", "askedMany", "[I", true)
  | 11 => ("KeyGraphModel", "asked", "[I", true)
  | 12 => ("KeyGraphModel", "worked", "[I", true)
  | 13 => ("KeyGraphModel", "checked", "[I", true)
  | 14 => ("KeyGraphModel", "value", "[J", true)
  | 15 => ("KeyGraphModel", "spoilt", "[Z", true)
  | 16 => ("KeyGraphModel", "isKept", "[Z", true)
  | 17 => ("KeyGraphModel", "high", "[I", true)
  | 18 => ("KeyGraphModel", "on", "[I", true)
  | 19 => ("KeyGraphModel", "far", "[I", true)
  | 20 => ("KeyGraphModel", "took", "[I", true)
  | 21 => ("KeyGraphModel", "works", "[Z", true)
  | 22 => ("KeyGraphModel", "ring", "[I", true)
  | 23 => ("KeyGraphModel", "ringMany", "I", false)
  | _ => ("KeyGraphModel", "leads", "[Z", true)
def t_Mod : Nat → FieldType := fun k => match k with
  | 0 => .int
  | 1 => .int
  | 2 => .int
  | 3 => .array .int
  | 4 => .array .int
  | 5 => .array .int
  | 6 => .array .int
  | 7 => .array .int
  | 8 => .array .int
  | 9 => .array .int
  | 10 => .array .int
  | 11 => .array .int
  | 12 => .array .int
  | 13 => .array .int
  | 14 => .array .long
  | 15 => .array .boolean
  | 16 => .array .boolean
  | 17 => .array .int
  | 18 => .array .int
  | 19 => .array .int
  | 20 => .array .int
  | 21 => .array .boolean
  | 22 => .array .int
  | 23 => .int
  | _ => .array .boolean
theorem n_Mod : ∀ a, a < 25 → ∀ b, b < 25 → a ≠ b → (F_Mod a).2.1 ≠ (F_Mod b).2.1 := by decide +kernel
theorem t_Mod_ok : ∀ k, k < 25 → parseFieldDescriptor (F_Mod k).2.2.1 = some (t_Mod k) := by decide +kernel
theorem i_Mod : ∀ w ∈ u_ws "KeyGraphModel" F_Mod 25, w ∈ TT := by
  intro w hw
  obtain ⟨k, hk, rfl⟩ := List.mem_map.mp hw
  have hk := List.mem_range.mp hk
  match k, hk with
  | 0, _ => exact q_678
  | 1, _ => exact q_680
  | 2, _ => exact q_682
  | 3, _ => exact q_684
  | 4, _ => exact q_686
  | 5, _ => exact q_688
  | 6, _ => exact q_690
  | 7, _ => exact q_692
  | 8, _ => exact q_694
  | 9, _ => exact q_696
  | 10, _ => exact q_698
  | 11, _ => exact q_700
  | 12, _ => exact q_702
  | 13, _ => exact q_704
  | 14, _ => exact q_706
  | 15, _ => exact q_708
  | 16, _ => exact q_710
  | 17, _ => exact q_712
  | 18, _ => exact q_714
  | 19, _ => exact q_716
  | 20, _ => exact q_718
  | 21, _ => exact q_720
  | 22, _ => exact q_722
  | 23, _ => exact q_724
  | 24, _ => exact q_726
  | (k + 25), hk => exact absurd hk (by omega)
def F_IAE : u_T := fun k => match k with
  | 0 => ("java/lang/Throwable", "cause", "Ljava/lang/Throwable;", false)
  | 1 => ("java/lang/Throwable", "stackTrace", "[Ljava/lang/StackTraceElement;", false)
  | 2 => ("java/lang/Throwable", "suppressedExceptions", "Ljava/util/List;", false)
  | 3 => ("java/lang/Throwable", "detailMessage", "Ljava/lang/String;", false)
  | 4 => ("java/lang/Throwable", "backtrace", "Ljava/lang/Object;", false)
  | _ => ("java/lang/Throwable", "depth", "I", false)
def t_IAE : Nat → FieldType := fun k => match k with
  | 0 => .object "java/lang/Throwable"
  | 1 => .array (.object "java/lang/StackTraceElement")
  | 2 => .object "java/util/List"
  | 3 => .object "java/lang/String"
  | 4 => .object "java/lang/Object"
  | _ => .int
theorem n_IAE : ∀ a, a < 6 → ∀ b, b < 6 → a ≠ b → (F_IAE a).2.1 ≠ (F_IAE b).2.1 := by decide +kernel
theorem t_IAE_ok : ∀ k, k < 6 → parseFieldDescriptor (F_IAE k).2.2.1 = some (t_IAE k) := by decide +kernel
theorem i_IAE : ∀ w ∈ u_ws "java/lang/IllegalArgumentException" F_IAE 6, w ∈ TT := by
  intro w hw
  obtain ⟨k, hk, rfl⟩ := List.mem_map.mp hw
  have hk := List.mem_range.mp hk
  match k, hk with
  | 0, _ => exact q_580
  | 1, _ => exact q_582
  | 2, _ => exact q_584
  | 3, _ => exact q_586
  | 4, _ => exact q_588
  | 5, _ => exact q_627
  | (k + 6), hk => exact absurd hk (by omega)
def F_ISE : u_T := fun k => match k with
  | 0 => ("java/lang/Throwable", "cause", "Ljava/lang/Throwable;", false)
  | 1 => ("java/lang/Throwable", "stackTrace", "[Ljava/lang/StackTraceElement;", false)
  | 2 => ("java/lang/Throwable", "suppressedExceptions", "Ljava/util/List;", false)
  | 3 => ("java/lang/Throwable", "detailMessage", "Ljava/lang/String;", false)
  | 4 => ("java/lang/Throwable", "backtrace", "Ljava/lang/Object;", false)
  | _ => ("java/lang/Throwable", "depth", "I", false)
def t_ISE : Nat → FieldType := fun k => match k with
  | 0 => .object "java/lang/Throwable"
  | 1 => .array (.object "java/lang/StackTraceElement")
  | 2 => .object "java/util/List"
  | 3 => .object "java/lang/String"
  | 4 => .object "java/lang/Object"
  | _ => .int
theorem n_ISE : ∀ a, a < 6 → ∀ b, b < 6 → a ≠ b → (F_ISE a).2.1 ≠ (F_ISE b).2.1 := by decide +kernel
theorem t_ISE_ok : ∀ k, k < 6 → parseFieldDescriptor (F_ISE k).2.2.1 = some (t_ISE k) := by decide +kernel
theorem i_ISE : ∀ w ∈ u_ws "java/lang/IllegalStateException" F_ISE 6, w ∈ TT := by
  intro w hw
  obtain ⟨k, hk, rfl⟩ := List.mem_map.mp hw
  have hk := List.mem_range.mp hk
  match k, hk with
  | 0, _ => exact q_636
  | 1, _ => exact q_637
  | 2, _ => exact q_638
  | 3, _ => exact q_639
  | 4, _ => exact q_640
  | 5, _ => exact q_645
  | (k + 6), hk => exact absurd hk (by omega)
abbrev cls : List vw_C := [("KeyGraph", F_KG, 5), ("KeyGraph$Key", F_Key, 18), ("KeyGraph$Sum", F_Sum, 5), ("KeyGraph$First", F_First, 4), ("KeyGraph$Choice", F_Choice, 5), ("KeyGraph$Quotient", F_Quot, 4), ("KeyGraph$Greatest", F_Great, 4), ("KeyGraph$Pile", F_Pile, 2), ("java/util/ArrayList", F_AL, 3), ("KeyGraphModel", F_Mod, 25), ("java/lang/IllegalArgumentException", F_IAE, 6), ("java/lang/IllegalStateException", F_ISE, 6)]
def NW : List Cond := [Cond.methodLinkNest "KeyGraph" 25 y_Pile_init "KeyGraph", Cond.fieldLinkNest "KeyGraph" 132 "KeyGraph$Pile" "keys" "[LKeyGraph$Key;" "KeyGraph", Cond.fieldLinkNest "KeyGraph" 135 "KeyGraph$Pile" "size" "I" "KeyGraph", Cond.fieldLinkNest "KeyGraph" 92 "KeyGraph$Key" "number" "I" "KeyGraph", Cond.fieldLinkNest "KeyGraph" 149 "KeyGraph$Key" "function" "LKeyGraph$Function;" "KeyGraph", Cond.fieldLinkNest "KeyGraph" 99 "KeyGraph$Key" "row" "Ljava/util/ArrayList;" "KeyGraph", Cond.fieldLinkNest "KeyGraph" 68 "KeyGraph$Key" "state" "I" "KeyGraph", Cond.fieldLinkNest "KeyGraph" 81 "KeyGraph$Key" "value" "J" "KeyGraph", Cond.fieldLinkNest "KeyGraph" 85 "KeyGraph$Key" "changed" "I" "KeyGraph", Cond.fieldLinkNest "KeyGraph" 72 "KeyGraph$Key" "sureIn" "I" "KeyGraph", Cond.fieldLinkNest "KeyGraph" 122 "KeyGraph$Key" "ownIn" "I" "KeyGraph", Cond.fieldLinkNest "KeyGraph" 183 "KeyGraph$Key" "worked" "I" "KeyGraph", Cond.fieldLinkNest "KeyGraph" 216 "KeyGraph$Key" "kept" "I" "KeyGraph", Cond.fieldLinkNest "KeyGraph" 128 "KeyGraph$Key" "spoilt" "Z" "KeyGraph", Cond.fieldLinkNest "KeyGraph" 173 "KeyGraph$Key" "asked" "[I" "KeyGraph", Cond.fieldLinkNest "KeyGraph" 177 "KeyGraph$Key" "asking" "[I" "KeyGraph", Cond.fieldLinkNest "KeyGraph" 180 "KeyGraph$Key" "askedCount" "I" "KeyGraph", Cond.fieldLinkNest "KeyGraph" 146 "KeyGraph$Key" "askingCount" "I" "KeyGraph", Cond.fieldLinkNest "KeyGraph" 137 "KeyGraph$Key" "worker" "I" "KeyGraph", Cond.fieldLinkNest "KeyGraph" 140 "KeyGraph$Key" "at" "I" "KeyGraph", Cond.fieldLinkNest "KeyGraph" 143 "KeyGraph$Key" "checks" "Z" "KeyGraph", Cond.methodLinkNest "KeyGraph$Sum" 1 y_Fun_init "KeyGraph", Cond.methodLinkNest "KeyGraph" 9 y_First_init "KeyGraph", Cond.methodLinkNest "KeyGraph$First" 1 y_Fun_init "KeyGraph", Cond.methodLinkNest "KeyGraph" 14 y_Choice_init "KeyGraph", Cond.methodLinkNest "KeyGraph$Choice" 3 y_Fun_init "KeyGraph", Cond.methodLinkNest "KeyGraph" 17 y_Quot_init "KeyGraph", Cond.methodLinkNest "KeyGraph$Quotient" 1 y_Fun_init "KeyGraph", Cond.methodLinkNest "KeyGraph" 20 y_Great_init "KeyGraph", Cond.methodLinkNest "KeyGraph$Greatest" 1 y_Fun_init "KeyGraph", Cond.declares y_Fun_with, Cond.castable "java/lang/IllegalArgumentException" "java/lang/IllegalArgumentException", Cond.declares y_RTE_init, Cond.declares y_RTE_initx, Cond.declares y_Exc_init, Cond.declares y_Exc_initx, Cond.declares y_Thr_init, Cond.declares y_Thr_initx, Cond.castable "java/lang/IllegalStateException" "java/lang/IllegalStateException", Cond.castable "KeyGraph$Key" "KeyGraph$Key", Cond.declares y_Obj_getClass, Cond.castable "KeyGraph" "java/lang/Object", Cond.castable "KeyGraph$Pile" "java/lang/Object", Cond.castable "KeyGraphModel" "java/lang/Object", Cond.castable "KeyGraph$Key" "java/lang/Object", Cond.castable "KeyGraph$Sum" "java/lang/Object", Cond.castable "KeyGraph$First" "java/lang/Object", Cond.castable "KeyGraph$Choice" "java/lang/Object", Cond.castable "KeyGraph$Quotient" "java/lang/Object", Cond.castable "KeyGraph$Greatest" "java/lang/Object"]
theorem z_65 : Cond.methodLinkNest "KeyGraph" 25 y_Pile_init "KeyGraph" ∈ NW := List.mem_of_getElem? (i := 0) rfl
theorem z_72 : Cond.fieldLinkNest "KeyGraph" 132 "KeyGraph$Pile" "keys" "[LKeyGraph$Key;" "KeyGraph" ∈ NW := List.mem_of_getElem? (i := 1) rfl
theorem z_74 : Cond.fieldLinkNest "KeyGraph" 135 "KeyGraph$Pile" "size" "I" "KeyGraph" ∈ NW := List.mem_of_getElem? (i := 2) rfl
theorem z_114 : Cond.fieldLinkNest "KeyGraph" 92 "KeyGraph$Key" "number" "I" "KeyGraph" ∈ NW := List.mem_of_getElem? (i := 3) rfl
theorem z_116 : Cond.fieldLinkNest "KeyGraph" 149 "KeyGraph$Key" "function" "LKeyGraph$Function;" "KeyGraph" ∈ NW := List.mem_of_getElem? (i := 4) rfl
theorem z_118 : Cond.fieldLinkNest "KeyGraph" 99 "KeyGraph$Key" "row" "Ljava/util/ArrayList;" "KeyGraph" ∈ NW := List.mem_of_getElem? (i := 5) rfl
theorem z_119 : Cond.fieldLinkNest "KeyGraph" 68 "KeyGraph$Key" "state" "I" "KeyGraph" ∈ NW := List.mem_of_getElem? (i := 6) rfl
theorem z_120 : Cond.fieldLinkNest "KeyGraph" 81 "KeyGraph$Key" "value" "J" "KeyGraph" ∈ NW := List.mem_of_getElem? (i := 7) rfl
theorem z_121 : Cond.fieldLinkNest "KeyGraph" 85 "KeyGraph$Key" "changed" "I" "KeyGraph" ∈ NW := List.mem_of_getElem? (i := 8) rfl
theorem z_123 : Cond.fieldLinkNest "KeyGraph" 72 "KeyGraph$Key" "sureIn" "I" "KeyGraph" ∈ NW := List.mem_of_getElem? (i := 9) rfl
theorem z_124 : Cond.fieldLinkNest "KeyGraph" 122 "KeyGraph$Key" "ownIn" "I" "KeyGraph" ∈ NW := List.mem_of_getElem? (i := 10) rfl
theorem z_125 : Cond.fieldLinkNest "KeyGraph" 183 "KeyGraph$Key" "worked" "I" "KeyGraph" ∈ NW := List.mem_of_getElem? (i := 11) rfl
theorem z_126 : Cond.fieldLinkNest "KeyGraph" 216 "KeyGraph$Key" "kept" "I" "KeyGraph" ∈ NW := List.mem_of_getElem? (i := 12) rfl
theorem z_127 : Cond.fieldLinkNest "KeyGraph" 128 "KeyGraph$Key" "spoilt" "Z" "KeyGraph" ∈ NW := List.mem_of_getElem? (i := 13) rfl
theorem z_129 : Cond.fieldLinkNest "KeyGraph" 173 "KeyGraph$Key" "asked" "[I" "KeyGraph" ∈ NW := List.mem_of_getElem? (i := 14) rfl
theorem z_131 : Cond.fieldLinkNest "KeyGraph" 177 "KeyGraph$Key" "asking" "[I" "KeyGraph" ∈ NW := List.mem_of_getElem? (i := 15) rfl
theorem z_132 : Cond.fieldLinkNest "KeyGraph" 180 "KeyGraph$Key" "askedCount" "I" "KeyGraph" ∈ NW := List.mem_of_getElem? (i := 16) rfl
theorem z_133 : Cond.fieldLinkNest "KeyGraph" 146 "KeyGraph$Key" "askingCount" "I" "KeyGraph" ∈ NW := List.mem_of_getElem? (i := 17) rfl
theorem z_135 : Cond.fieldLinkNest "KeyGraph" 137 "KeyGraph$Key" "worker" "I" "KeyGraph" ∈ NW := List.mem_of_getElem? (i := 18) rfl
theorem z_136 : Cond.fieldLinkNest "KeyGraph" 140 "KeyGraph$Key" "at" "I" "KeyGraph" ∈ NW := List.mem_of_getElem? (i := 19) rfl
theorem z_137 : Cond.fieldLinkNest "KeyGraph" 143 "KeyGraph$Key" "checks" "Z" "KeyGraph" ∈ NW := List.mem_of_getElem? (i := 20) rfl
theorem z_247 : Cond.methodLinkNest "KeyGraph$Sum" 1 y_Fun_init "KeyGraph" ∈ NW := List.mem_of_getElem? (i := 21) rfl
theorem z_295 : Cond.methodLinkNest "KeyGraph" 9 y_First_init "KeyGraph" ∈ NW := List.mem_of_getElem? (i := 22) rfl
theorem z_298 : Cond.methodLinkNest "KeyGraph$First" 1 y_Fun_init "KeyGraph" ∈ NW := List.mem_of_getElem? (i := 23) rfl
theorem z_306 : Cond.methodLinkNest "KeyGraph" 14 y_Choice_init "KeyGraph" ∈ NW := List.mem_of_getElem? (i := 24) rfl
theorem z_309 : Cond.methodLinkNest "KeyGraph$Choice" 3 y_Fun_init "KeyGraph" ∈ NW := List.mem_of_getElem? (i := 25) rfl
theorem z_320 : Cond.methodLinkNest "KeyGraph" 17 y_Quot_init "KeyGraph" ∈ NW := List.mem_of_getElem? (i := 26) rfl
theorem z_323 : Cond.methodLinkNest "KeyGraph$Quotient" 1 y_Fun_init "KeyGraph" ∈ NW := List.mem_of_getElem? (i := 27) rfl
theorem z_331 : Cond.methodLinkNest "KeyGraph" 20 y_Great_init "KeyGraph" ∈ NW := List.mem_of_getElem? (i := 28) rfl
theorem z_334 : Cond.methodLinkNest "KeyGraph$Greatest" 1 y_Fun_init "KeyGraph" ∈ NW := List.mem_of_getElem? (i := 29) rfl
theorem z_516 : Cond.declares y_Fun_with ∈ NW := List.mem_of_getElem? (i := 30) rfl
theorem z_571 : Cond.castable "java/lang/IllegalArgumentException" "java/lang/IllegalArgumentException" ∈ NW := List.mem_of_getElem? (i := 31) rfl
theorem z_572 : Cond.declares y_RTE_init ∈ NW := List.mem_of_getElem? (i := 32) rfl
theorem z_573 : Cond.declares y_RTE_initx ∈ NW := List.mem_of_getElem? (i := 33) rfl
theorem z_574 : Cond.declares y_Exc_init ∈ NW := List.mem_of_getElem? (i := 34) rfl
theorem z_575 : Cond.declares y_Exc_initx ∈ NW := List.mem_of_getElem? (i := 35) rfl
theorem z_576 : Cond.declares y_Thr_init ∈ NW := List.mem_of_getElem? (i := 36) rfl
theorem z_577 : Cond.declares y_Thr_initx ∈ NW := List.mem_of_getElem? (i := 37) rfl
theorem z_634 : Cond.castable "java/lang/IllegalStateException" "java/lang/IllegalStateException" ∈ NW := List.mem_of_getElem? (i := 38) rfl
theorem z_887 : Cond.castable "KeyGraph$Key" "KeyGraph$Key" ∈ NW := List.mem_of_getElem? (i := 39) rfl
theorem z_890 : Cond.declares y_Obj_getClass ∈ NW := List.mem_of_getElem? (i := 40) rfl
theorem z_891 : Cond.castable "KeyGraph" "java/lang/Object" ∈ NW := List.mem_of_getElem? (i := 41) rfl
theorem z_892 : Cond.castable "KeyGraph$Pile" "java/lang/Object" ∈ NW := List.mem_of_getElem? (i := 42) rfl
theorem z_893 : Cond.castable "KeyGraphModel" "java/lang/Object" ∈ NW := List.mem_of_getElem? (i := 43) rfl
theorem z_894 : Cond.castable "KeyGraph$Key" "java/lang/Object" ∈ NW := List.mem_of_getElem? (i := 44) rfl
theorem z_895 : Cond.castable "KeyGraph$Sum" "java/lang/Object" ∈ NW := List.mem_of_getElem? (i := 45) rfl
theorem z_896 : Cond.castable "KeyGraph$First" "java/lang/Object" ∈ NW := List.mem_of_getElem? (i := 46) rfl
theorem z_897 : Cond.castable "KeyGraph$Choice" "java/lang/Object" ∈ NW := List.mem_of_getElem? (i := 47) rfl
theorem z_898 : Cond.castable "KeyGraph$Quotient" "java/lang/Object" ∈ NW := List.mem_of_getElem? (i := 48) rfl
theorem z_899 : Cond.castable "KeyGraph$Greatest" "java/lang/Object" ∈ NW := List.mem_of_getElem? (i := 49) rfl
theorem nw_in : ∀ w ∈ NW, w ∈ lw_tbl := by
  intro w hw
  obtain ⟨k, hk⟩ := List.getElem?_of_mem hw
  have hl : k < 50 := (List.getElem?_eq_some_iff.mp hk).1
  match k, hl, hk with
  | 0, _, hk => cases hk; exact List.mem_of_getElem? (i := 100) (by decide +kernel)
  | 1, _, hk => cases hk; exact List.mem_of_getElem? (i := 107) (by decide +kernel)
  | 2, _, hk => cases hk; exact List.mem_of_getElem? (i := 109) (by decide +kernel)
  | 3, _, hk => cases hk; exact List.mem_of_getElem? (i := 149) (by decide +kernel)
  | 4, _, hk => cases hk; exact List.mem_of_getElem? (i := 151) (by decide +kernel)
  | 5, _, hk => cases hk; exact List.mem_of_getElem? (i := 153) (by decide +kernel)
  | 6, _, hk => cases hk; exact List.mem_of_getElem? (i := 154) (by decide +kernel)
  | 7, _, hk => cases hk; exact List.mem_of_getElem? (i := 155) (by decide +kernel)
  | 8, _, hk => cases hk; exact List.mem_of_getElem? (i := 156) (by decide +kernel)
  | 9, _, hk => cases hk; exact List.mem_of_getElem? (i := 158) (by decide +kernel)
  | 10, _, hk => cases hk; exact List.mem_of_getElem? (i := 159) (by decide +kernel)
  | 11, _, hk => cases hk; exact List.mem_of_getElem? (i := 160) (by decide +kernel)
  | 12, _, hk => cases hk; exact List.mem_of_getElem? (i := 161) (by decide +kernel)
  | 13, _, hk => cases hk; exact List.mem_of_getElem? (i := 162) (by decide +kernel)
  | 14, _, hk => cases hk; exact List.mem_of_getElem? (i := 164) (by decide +kernel)
  | 15, _, hk => cases hk; exact List.mem_of_getElem? (i := 166) (by decide +kernel)
  | 16, _, hk => cases hk; exact List.mem_of_getElem? (i := 167) (by decide +kernel)
  | 17, _, hk => cases hk; exact List.mem_of_getElem? (i := 168) (by decide +kernel)
  | 18, _, hk => cases hk; exact List.mem_of_getElem? (i := 170) (by decide +kernel)
  | 19, _, hk => cases hk; exact List.mem_of_getElem? (i := 171) (by decide +kernel)
  | 20, _, hk => cases hk; exact List.mem_of_getElem? (i := 172) (by decide +kernel)
  | 21, _, hk => cases hk; exact List.mem_of_getElem? (i := 282) (by decide +kernel)
  | 22, _, hk => cases hk; exact List.mem_of_getElem? (i := 330) (by decide +kernel)
  | 23, _, hk => cases hk; exact List.mem_of_getElem? (i := 333) (by decide +kernel)
  | 24, _, hk => cases hk; exact List.mem_of_getElem? (i := 341) (by decide +kernel)
  | 25, _, hk => cases hk; exact List.mem_of_getElem? (i := 344) (by decide +kernel)
  | 26, _, hk => cases hk; exact List.mem_of_getElem? (i := 355) (by decide +kernel)
  | 27, _, hk => cases hk; exact List.mem_of_getElem? (i := 358) (by decide +kernel)
  | 28, _, hk => cases hk; exact List.mem_of_getElem? (i := 366) (by decide +kernel)
  | 29, _, hk => cases hk; exact List.mem_of_getElem? (i := 369) (by decide +kernel)
  | 30, _, hk => cases hk; exact List.mem_of_getElem? (i := 551) (by decide +kernel)
  | 31, _, hk => cases hk; exact List.mem_of_getElem? (i := 606) (by decide +kernel)
  | 32, _, hk => cases hk; exact List.mem_of_getElem? (i := 607) (by decide +kernel)
  | 33, _, hk => cases hk; exact List.mem_of_getElem? (i := 608) (by decide +kernel)
  | 34, _, hk => cases hk; exact List.mem_of_getElem? (i := 609) (by decide +kernel)
  | 35, _, hk => cases hk; exact List.mem_of_getElem? (i := 610) (by decide +kernel)
  | 36, _, hk => cases hk; exact List.mem_of_getElem? (i := 611) (by decide +kernel)
  | 37, _, hk => cases hk; exact List.mem_of_getElem? (i := 612) (by decide +kernel)
  | 38, _, hk => cases hk; exact List.mem_of_getElem? (i := 669) (by decide +kernel)
  | 39, _, hk => cases hk; exact List.mem_of_getElem? (i := 922) (by decide +kernel)
  | 40, _, hk => cases hk; exact List.mem_of_getElem? (i := 925) (by decide +kernel)
  | 41, _, hk => cases hk; exact List.mem_of_getElem? (i := 926) (by decide +kernel)
  | 42, _, hk => cases hk; exact List.mem_of_getElem? (i := 927) (by decide +kernel)
  | 43, _, hk => cases hk; exact List.mem_of_getElem? (i := 928) (by decide +kernel)
  | 44, _, hk => cases hk; exact List.mem_of_getElem? (i := 929) (by decide +kernel)
  | 45, _, hk => cases hk; exact List.mem_of_getElem? (i := 930) (by decide +kernel)
  | 46, _, hk => cases hk; exact List.mem_of_getElem? (i := 931) (by decide +kernel)
  | 47, _, hk => cases hk; exact List.mem_of_getElem? (i := 932) (by decide +kernel)
  | 48, _, hk => cases hk; exact List.mem_of_getElem? (i := 933) (by decide +kernel)
  | 49, _, hk => cases hk; exact List.mem_of_getElem? (i := 934) (by decide +kernel)
