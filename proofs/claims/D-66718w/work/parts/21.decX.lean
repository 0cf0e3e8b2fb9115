theorem d_KG_init_0 : decode b_KG_init 0 = .ok (.aload_n 0, 1) := by decide +kernel
theorem d_KG_init_1 : decode b_KG_init 1 = .ok (.invokespecial 26, 3) := by decide +kernel
theorem d_KG_init_4 : decode b_KG_init 4 = .ok (.aload_n 0, 1) := by decide +kernel
theorem d_KG_init_5 : decode b_KG_init 5 = .ok (.new 29, 3) := by decide +kernel
theorem d_KG_init_8 : decode b_KG_init 8 = .ok (.dup, 1) := by decide +kernel
theorem d_KG_init_9 : decode b_KG_init 9 = .ok (.invokespecial 31, 3) := by decide +kernel
theorem d_KG_init_12 : decode b_KG_init 12 = .ok (.putfield 32, 3) := by decide +kernel
theorem d_KG_init_15 : decode b_KG_init 15 = .ok (.aload_n 0, 1) := by decide +kernel
theorem d_KG_init_16 : decode b_KG_init 16 = .ok (.invokestatic 36, 3) := by decide +kernel
theorem d_KG_init_19 : decode b_KG_init 19 = .ok (.putfield 40, 3) := by decide +kernel
theorem d_KG_init_22 : decode b_KG_init 22 = .ok (.aload_n 0, 1) := by decide +kernel
theorem d_KG_init_23 : decode b_KG_init 23 = .ok (.new 29, 3) := by decide +kernel
theorem d_KG_init_26 : decode b_KG_init 26 = .ok (.dup, 1) := by decide +kernel
theorem d_KG_init_27 : decode b_KG_init 27 = .ok (.invokespecial 31, 3) := by decide +kernel
theorem d_KG_init_30 : decode b_KG_init 30 = .ok (.putfield 43, 3) := by decide +kernel
theorem d_KG_init_33 : decode b_KG_init 33 = .ok (.aload_n 0, 1) := by decide +kernel
theorem d_KG_init_34 : decode b_KG_init 34 = .ok (.bipush 40, 2) := by decide +kernel
theorem d_KG_init_36 : decode b_KG_init 36 = .ok (.newarray .boolean, 2) := by decide +kernel
theorem d_KG_init_38 : decode b_KG_init 38 = .ok (.putfield 46, 3) := by decide +kernel
theorem d_KG_init_41 : decode b_KG_init 41 = .ok (.return_, 1) := by decide +kernel
theorem d_Obj_init_0 : decode b_Obj_init 0 = .ok (.return_, 1) := by decide +kernel
theorem d_AL_init_0 : decode b_AL_init 0 = .ok (.aload_n 0, 1) := by decide +kernel
theorem d_AL_init_1 : decode b_AL_init 1 = .ok (.invokespecial 1, 3) := by decide +kernel
theorem d_AL_init_4 : decode b_AL_init 4 = .ok (.aload_n 0, 1) := by decide +kernel
theorem d_AL_init_5 : decode b_AL_init 5 = .ok (.getstatic 39, 3) := by decide +kernel
theorem d_AL_init_8 : decode b_AL_init 8 = .ok (.putfield 9, 3) := by decide +kernel
theorem d_AL_init_11 : decode b_AL_init 11 = .ok (.return_, 1) := by decide +kernel
theorem d_AbsL_init_0 : decode b_AbsL_init 0 = .ok (.aload_n 0, 1) := by decide +kernel
theorem d_AbsL_init_1 : decode b_AbsL_init 1 = .ok (.invokespecial 1, 3) := by decide +kernel
theorem d_AbsL_init_4 : decode b_AbsL_init 4 = .ok (.aload_n 0, 1) := by decide +kernel
theorem d_AbsL_init_5 : decode b_AbsL_init 5 = .ok (.iconst 0, 1) := by decide +kernel
theorem d_AbsL_init_6 : decode b_AbsL_init 6 = .ok (.putfield 7, 3) := by decide +kernel
theorem d_AbsL_init_9 : decode b_AbsL_init 9 = .ok (.return_, 1) := by decide +kernel
theorem d_AbsC_init_0 : decode b_AbsC_init 0 = .ok (.aload_n 0, 1) := by decide +kernel
theorem d_AbsC_init_1 : decode b_AbsC_init 1 = .ok (.invokespecial 1, 3) := by decide +kernel
theorem d_AbsC_init_4 : decode b_AbsC_init 4 = .ok (.return_, 1) := by decide +kernel
theorem d_KG_piles_0 : decode b_KG_piles 0 = .ok (.iconst 5, 1) := by decide +kernel
theorem d_KG_piles_1 : decode b_KG_piles 1 = .ok (.anewarray 23, 3) := by decide +kernel
theorem d_KG_piles_4 : decode b_KG_piles 4 = .ok (.astore_n 0, 1) := by decide +kernel
theorem d_KG_piles_5 : decode b_KG_piles 5 = .ok (.iconst 0, 1) := by decide +kernel
theorem d_KG_piles_6 : decode b_KG_piles 6 = .ok (.istore_n 1, 1) := by decide +kernel
theorem d_KG_piles_7 : decode b_KG_piles 7 = .ok (.iload_n 1, 1) := by decide +kernel
theorem d_KG_piles_8 : decode b_KG_piles 8 = .ok (.iconst 4, 1) := by decide +kernel
theorem d_KG_piles_9 : decode b_KG_piles 9 = .ok (.if_icmp .gt 19, 3) := by decide +kernel
theorem d_KG_piles_12 : decode b_KG_piles 12 = .ok (.aload_n 0, 1) := by decide +kernel
theorem d_KG_piles_13 : decode b_KG_piles 13 = .ok (.iload_n 1, 1) := by decide +kernel
theorem d_KG_piles_14 : decode b_KG_piles 14 = .ok (.new 23, 3) := by decide +kernel
theorem d_KG_piles_17 : decode b_KG_piles 17 = .ok (.dup, 1) := by decide +kernel
theorem d_KG_piles_18 : decode b_KG_piles 18 = .ok (.invokespecial 25, 3) := by decide +kernel
theorem d_KG_piles_21 : decode b_KG_piles 21 = .ok (.aastore, 1) := by decide +kernel
theorem d_KG_piles_22 : decode b_KG_piles 22 = .ok (.iinc 1 1, 3) := by decide +kernel
theorem d_KG_piles_25 : decode b_KG_piles 25 = .ok (.goto (-18), 3) := by decide +kernel
theorem d_KG_piles_28 : decode b_KG_piles 28 = .ok (.aload_n 0, 1) := by decide +kernel
theorem d_KG_piles_29 : decode b_KG_piles 29 = .ok (.areturn, 1) := by decide +kernel
theorem d_Pile_init_0 : decode b_Pile_init 0 = .ok (.aload_n 0, 1) := by decide +kernel
theorem d_Pile_init_1 : decode b_Pile_init 1 = .ok (.invokespecial 3, 3) := by decide +kernel
theorem d_Pile_init_4 : decode b_Pile_init 4 = .ok (.aload_n 0, 1) := by decide +kernel
theorem d_Pile_init_5 : decode b_Pile_init 5 = .ok (.bipush 40, 2) := by decide +kernel
theorem d_Pile_init_7 : decode b_Pile_init 7 = .ok (.anewarray 9, 3) := by decide +kernel
theorem d_Pile_init_10 : decode b_Pile_init 10 = .ok (.putfield 11, 3) := by decide +kernel
theorem d_Pile_init_13 : decode b_Pile_init 13 = .ok (.return_, 1) := by decide +kernel
theorem d_KG_leaf_0 : decode b_KG_leaf 0 = .ok (.aload_n 0, 1) := by decide +kernel
theorem d_KG_leaf_1 : decode b_KG_leaf 1 = .ok (.getfield 32, 3) := by decide +kernel
theorem d_KG_leaf_4 : decode b_KG_leaf 4 = .ok (.invokevirtual 50, 3) := by decide +kernel
theorem d_KG_leaf_7 : decode b_KG_leaf 7 = .ok (.bipush 40, 2) := by decide +kernel
theorem d_KG_leaf_9 : decode b_KG_leaf 9 = .ok (.if_icmp .ne 5, 3) := by decide +kernel
theorem d_KG_leaf_12 : decode b_KG_leaf 12 = .ok (.iconst (-1), 1) := by decide +kernel
theorem d_KG_leaf_13 : decode b_KG_leaf 13 = .ok (.ireturn, 1) := by decide +kernel
theorem d_KG_leaf_14 : decode b_KG_leaf 14 = .ok (.new 62, 3) := by decide +kernel
theorem d_KG_leaf_17 : decode b_KG_leaf 17 = .ok (.dup, 1) := by decide +kernel
theorem d_KG_leaf_18 : decode b_KG_leaf 18 = .ok (.aload_n 0, 1) := by decide +kernel
theorem d_KG_leaf_19 : decode b_KG_leaf 19 = .ok (.getfield 32, 3) := by decide +kernel
theorem d_KG_leaf_22 : decode b_KG_leaf 22 = .ok (.invokevirtual 50, 3) := by decide +kernel
theorem d_KG_leaf_25 : decode b_KG_leaf 25 = .ok (.aconst_null, 1) := by decide +kernel
theorem d_KG_leaf_26 : decode b_KG_leaf 26 = .ok (.invokespecial 78, 3) := by decide +kernel
theorem d_KG_leaf_29 : decode b_KG_leaf 29 = .ok (.astore_n 3, 1) := by decide +kernel
theorem d_KG_leaf_30 : decode b_KG_leaf 30 = .ok (.aload_n 3, 1) := by decide +kernel
theorem d_KG_leaf_31 : decode b_KG_leaf 31 = .ok (.iconst 1, 1) := by decide +kernel
theorem d_KG_leaf_32 : decode b_KG_leaf 32 = .ok (.putfield 68, 3) := by decide +kernel
theorem d_KG_leaf_35 : decode b_KG_leaf 35 = .ok (.aload_n 3, 1) := by decide +kernel
theorem d_KG_leaf_36 : decode b_KG_leaf 36 = .ok (.lload_n 1, 1) := by decide +kernel
theorem d_KG_leaf_37 : decode b_KG_leaf 37 = .ok (.putfield 81, 3) := by decide +kernel
theorem d_KG_leaf_40 : decode b_KG_leaf 40 = .ok (.aload_n 3, 1) := by decide +kernel
theorem d_KG_leaf_41 : decode b_KG_leaf 41 = .ok (.aload_n 0, 1) := by decide +kernel
theorem d_KG_leaf_42 : decode b_KG_leaf 42 = .ok (.getfield 75, 3) := by decide +kernel
theorem d_KG_leaf_45 : decode b_KG_leaf 45 = .ok (.putfield 85, 3) := by decide +kernel
theorem d_KG_leaf_48 : decode b_KG_leaf 48 = .ok (.aload_n 0, 1) := by decide +kernel
theorem d_KG_leaf_49 : decode b_KG_leaf 49 = .ok (.getfield 32, 3) := by decide +kernel
theorem d_KG_leaf_52 : decode b_KG_leaf 52 = .ok (.aload_n 3, 1) := by decide +kernel
theorem d_KG_leaf_53 : decode b_KG_leaf 53 = .ok (.invokevirtual 88, 3) := by decide +kernel
theorem d_KG_leaf_56 : decode b_KG_leaf 56 = .ok (.pop, 1) := by decide +kernel
theorem d_KG_leaf_57 : decode b_KG_leaf 57 = .ok (.aload_n 3, 1) := by decide +kernel
theorem d_KG_leaf_58 : decode b_KG_leaf 58 = .ok (.getfield 92, 3) := by decide +kernel
theorem d_KG_leaf_61 : decode b_KG_leaf 61 = .ok (.ireturn, 1) := by decide +kernel
theorem d_AL_size_0 : decode b_AL_size 0 = .ok (.aload_n 0, 1) := by decide +kernel
theorem d_AL_size_1 : decode b_AL_size 1 = .ok (.getfield 48, 3) := by decide +kernel
theorem d_AL_size_4 : decode b_AL_size 4 = .ok (.ireturn, 1) := by decide +kernel
theorem d_Key_init_0 : decode b_Key_init 0 = .ok (.aload_n 0, 1) := by decide +kernel
theorem d_Key_init_1 : decode b_Key_init 1 = .ok (.invokespecial 3, 3) := by decide +kernel
theorem d_Key_init_4 : decode b_Key_init 4 = .ok (.aload_n 0, 1) := by decide +kernel
theorem d_Key_init_5 : decode b_Key_init 5 = .ok (.new 9, 3) := by decide +kernel
theorem d_Key_init_8 : decode b_Key_init 8 = .ok (.dup, 1) := by decide +kernel
theorem d_Key_init_9 : decode b_Key_init 9 = .ok (.invokespecial 11, 3) := by decide +kernel
theorem d_Key_init_12 : decode b_Key_init 12 = .ok (.putfield 12, 3) := by decide +kernel
theorem d_Key_init_15 : decode b_Key_init 15 = .ok (.aload_n 0, 1) := by decide +kernel
theorem d_Key_init_16 : decode b_Key_init 16 = .ok (.iconst (-1), 1) := by decide +kernel
theorem d_Key_init_17 : decode b_Key_init 17 = .ok (.putfield 18, 3) := by decide +kernel
theorem d_Key_init_20 : decode b_Key_init 20 = .ok (.aload_n 0, 1) := by decide +kernel
theorem d_Key_init_21 : decode b_Key_init 21 = .ok (.bipush 8, 2) := by decide +kernel
theorem d_Key_init_23 : decode b_Key_init 23 = .ok (.newarray .int, 2) := by decide +kernel
theorem d_Key_init_25 : decode b_Key_init 25 = .ok (.putfield 22, 3) := by decide +kernel
theorem d_Key_init_28 : decode b_Key_init 28 = .ok (.aload_n 0, 1) := by decide +kernel
theorem d_Key_init_29 : decode b_Key_init 29 = .ok (.bipush 8, 2) := by decide +kernel
theorem d_Key_init_31 : decode b_Key_init 31 = .ok (.newarray .int, 2) := by decide +kernel
theorem d_Key_init_33 : decode b_Key_init 33 = .ok (.putfield 26, 3) := by decide +kernel
theorem d_Key_init_36 : decode b_Key_init 36 = .ok (.aload_n 0, 1) := by decide +kernel
theorem d_Key_init_37 : decode b_Key_init 37 = .ok (.iconst (-1), 1) := by decide +kernel
theorem d_Key_init_38 : decode b_Key_init 38 = .ok (.putfield 29, 3) := by decide +kernel
theorem d_Key_init_41 : decode b_Key_init 41 = .ok (.aload_n 0, 1) := by decide +kernel
theorem d_Key_init_42 : decode b_Key_init 42 = .ok (.iload_n 1, 1) := by decide +kernel
theorem d_Key_init_43 : decode b_Key_init 43 = .ok (.putfield 32, 3) := by decide +kernel
theorem d_Key_init_46 : decode b_Key_init 46 = .ok (.aload_n 0, 1) := by decide +kernel
theorem d_Key_init_47 : decode b_Key_init 47 = .ok (.aload_n 2, 1) := by decide +kernel
theorem d_Key_init_48 : decode b_Key_init 48 = .ok (.putfield 35, 3) := by decide +kernel
theorem d_Key_init_51 : decode b_Key_init 51 = .ok (.return_, 1) := by decide +kernel
theorem d_AL_add1_0 : decode b_AL_add1 0 = .ok (.aload_n 0, 1) := by decide +kernel
theorem d_AL_add1_1 : decode b_AL_add1 1 = .ok (.dup, 1) := by decide +kernel
theorem d_AL_add1_2 : decode b_AL_add1 2 = .ok (.getfield 63, 3) := by decide +kernel
theorem d_AL_add1_5 : decode b_AL_add1 5 = .ok (.iconst 1, 1) := by decide +kernel
theorem d_AL_add1_6 : decode b_AL_add1 6 = .ok (.iadd, 1) := by decide +kernel
theorem d_AL_add1_7 : decode b_AL_add1 7 = .ok (.putfield 63, 3) := by decide +kernel
theorem d_AL_add1_10 : decode b_AL_add1 10 = .ok (.aload_n 0, 1) := by decide +kernel
theorem d_AL_add1_11 : decode b_AL_add1 11 = .ok (.aload_n 1, 1) := by decide +kernel
theorem d_AL_add1_12 : decode b_AL_add1 12 = .ok (.aload_n 0, 1) := by decide +kernel
theorem d_AL_add1_13 : decode b_AL_add1 13 = .ok (.getfield 9, 3) := by decide +kernel
theorem d_AL_add1_16 : decode b_AL_add1 16 = .ok (.aload_n 0, 1) := by decide +kernel
theorem d_AL_add1_17 : decode b_AL_add1 17 = .ok (.getfield 48, 3) := by decide +kernel
theorem d_AL_add1_20 : decode b_AL_add1 20 = .ok (.invokevirtual 131, 3) := by decide +kernel
theorem d_AL_add1_23 : decode b_AL_add1 23 = .ok (.iconst 1, 1) := by decide +kernel
theorem d_AL_add1_24 : decode b_AL_add1 24 = .ok (.ireturn, 1) := by decide +kernel
theorem d_AL_add3_0 : decode b_AL_add3 0 = .ok (.iload_n 3, 1) := by decide +kernel
theorem d_AL_add3_1 : decode b_AL_add3 1 = .ok (.aload_n 2, 1) := by decide +kernel
theorem d_AL_add3_2 : decode b_AL_add3 2 = .ok (.arraylength, 1) := by decide +kernel
theorem d_AL_add3_3 : decode b_AL_add3 3 = .ok (.if_icmp .ne 8, 3) := by decide +kernel
theorem d_AL_add3_6 : decode b_AL_add3 6 = .ok (.aload_n 0, 1) := by decide +kernel
theorem d_AL_add3_7 : decode b_AL_add3 7 = .ok (.invokevirtual 129, 3) := by decide +kernel
theorem d_AL_add3_10 : decode b_AL_add3 10 = .ok (.astore_n 2, 1) := by decide +kernel
theorem d_AL_add3_11 : decode b_AL_add3 11 = .ok (.aload_n 2, 1) := by decide +kernel
theorem d_AL_add3_12 : decode b_AL_add3 12 = .ok (.iload_n 3, 1) := by decide +kernel
theorem d_AL_add3_13 : decode b_AL_add3 13 = .ok (.aload_n 1, 1) := by decide +kernel
theorem d_AL_add3_14 : decode b_AL_add3 14 = .ok (.aastore, 1) := by decide +kernel
theorem d_AL_add3_15 : decode b_AL_add3 15 = .ok (.aload_n 0, 1) := by decide +kernel
theorem d_AL_add3_16 : decode b_AL_add3 16 = .ok (.iload_n 3, 1) := by decide +kernel
theorem d_AL_add3_17 : decode b_AL_add3 17 = .ok (.iconst 1, 1) := by decide +kernel
theorem d_AL_add3_18 : decode b_AL_add3 18 = .ok (.iadd, 1) := by decide +kernel
theorem d_AL_add3_19 : decode b_AL_add3 19 = .ok (.putfield 48, 3) := by decide +kernel
theorem d_AL_add3_22 : decode b_AL_add3 22 = .ok (.return_, 1) := by decide +kernel
theorem d_AL_grow0_0 : decode b_AL_grow0 0 = .ok (.aload_n 0, 1) := by decide +kernel
theorem d_AL_grow0_1 : decode b_AL_grow0 1 = .ok (.aload_n 0, 1) := by decide +kernel
theorem d_AL_grow0_2 : decode b_AL_grow0 2 = .ok (.getfield 48, 3) := by decide +kernel
theorem d_AL_grow0_5 : decode b_AL_grow0 5 = .ok (.iconst 1, 1) := by decide +kernel
theorem d_AL_grow0_6 : decode b_AL_grow0 6 = .ok (.iadd, 1) := by decide +kernel
theorem d_AL_grow0_7 : decode b_AL_grow0 7 = .ok (.invokevirtual 69, 3) := by decide +kernel
theorem d_AL_grow0_10 : decode b_AL_grow0 10 = .ok (.areturn, 1) := by decide +kernel
theorem d_AL_grow1_0 : decode b_AL_grow1 0 = .ok (.aload_n 0, 1) := by decide +kernel
theorem d_AL_grow1_1 : decode b_AL_grow1 1 = .ok (.getfield 9, 3) := by decide +kernel
theorem d_AL_grow1_4 : decode b_AL_grow1 4 = .ok (.arraylength, 1) := by decide +kernel
theorem d_AL_grow1_5 : decode b_AL_grow1 5 = .ok (.istore_n 2, 1) := by decide +kernel
theorem d_AL_grow1_6 : decode b_AL_grow1 6 = .ok (.iload_n 2, 1) := by decide +kernel
theorem d_AL_grow1_7 : decode b_AL_grow1 7 = .ok (.ifCond .gt 13, 3) := by decide +kernel
theorem d_AL_grow1_10 : decode b_AL_grow1 10 = .ok (.aload_n 0, 1) := by decide +kernel
theorem d_AL_grow1_11 : decode b_AL_grow1 11 = .ok (.getfield 9, 3) := by decide +kernel
theorem d_AL_grow1_14 : decode b_AL_grow1 14 = .ok (.getstatic 39, 3) := by decide +kernel
theorem d_AL_grow1_17 : decode b_AL_grow1 17 = .ok (.if_acmp .eq 28, 3) := by decide +kernel
theorem d_AL_grow1_20 : decode b_AL_grow1 20 = .ok (.iload_n 2, 1) := by decide +kernel
theorem d_AL_grow1_21 : decode b_AL_grow1 21 = .ok (.iload_n 1, 1) := by decide +kernel
theorem d_AL_grow1_22 : decode b_AL_grow1 22 = .ok (.iload_n 2, 1) := by decide +kernel
theorem d_AL_grow1_23 : decode b_AL_grow1 23 = .ok (.isub, 1) := by decide +kernel
theorem d_AL_grow1_24 : decode b_AL_grow1 24 = .ok (.iload_n 2, 1) := by decide +kernel
theorem d_AL_grow1_25 : decode b_AL_grow1 25 = .ok (.iconst 1, 1) := by decide +kernel
theorem d_AL_grow1_26 : decode b_AL_grow1 26 = .ok (.ishr, 1) := by decide +kernel
theorem d_AL_grow1_27 : decode b_AL_grow1 27 = .ok (.invokestatic 73, 3) := by decide +kernel
theorem d_AL_grow1_30 : decode b_AL_grow1 30 = .ok (.istore_n 3, 1) := by decide +kernel
theorem d_AL_grow1_31 : decode b_AL_grow1 31 = .ok (.aload_n 0, 1) := by decide +kernel
theorem d_AL_grow1_32 : decode b_AL_grow1 32 = .ok (.aload_n 0, 1) := by decide +kernel
theorem d_AL_grow1_33 : decode b_AL_grow1 33 = .ok (.getfield 9, 3) := by decide +kernel
theorem d_AL_grow1_36 : decode b_AL_grow1 36 = .ok (.iload_n 3, 1) := by decide +kernel
theorem d_AL_grow1_37 : decode b_AL_grow1 37 = .ok (.invokestatic 66, 3) := by decide +kernel
theorem d_AL_grow1_40 : decode b_AL_grow1 40 = .ok (.dup_x1, 1) := by decide +kernel
theorem d_AL_grow1_41 : decode b_AL_grow1 41 = .ok (.putfield 9, 3) := by decide +kernel
theorem d_AL_grow1_44 : decode b_AL_grow1 44 = .ok (.areturn, 1) := by decide +kernel
theorem d_AL_grow1_45 : decode b_AL_grow1 45 = .ok (.aload_n 0, 1) := by decide +kernel
theorem d_AL_grow1_46 : decode b_AL_grow1 46 = .ok (.bipush 10, 2) := by decide +kernel
theorem d_AL_grow1_48 : decode b_AL_grow1 48 = .ok (.iload_n 1, 1) := by decide +kernel
theorem d_AL_grow1_49 : decode b_AL_grow1 49 = .ok (.invokestatic 79, 3) := by decide +kernel
theorem d_AL_grow1_52 : decode b_AL_grow1 52 = .ok (.anewarray 7, 3) := by decide +kernel
theorem d_AL_grow1_55 : decode b_AL_grow1 55 = .ok (.dup_x1, 1) := by decide +kernel
theorem d_AL_grow1_56 : decode b_AL_grow1 56 = .ok (.putfield 9, 3) := by decide +kernel
theorem d_AL_grow1_59 : decode b_AL_grow1 59 = .ok (.areturn, 1) := by decide +kernel
theorem d_ASup_newLength_0 : decode b_ASup_newLength 0 = .ok (.iload_n 0, 1) := by decide +kernel
theorem d_ASup_newLength_1 : decode b_ASup_newLength 1 = .ok (.iload_n 1, 1) := by decide +kernel
theorem d_ASup_newLength_2 : decode b_ASup_newLength 2 = .ok (.iload_n 2, 1) := by decide +kernel
theorem d_ASup_newLength_3 : decode b_ASup_newLength 3 = .ok (.invokestatic 194, 3) := by decide +kernel
theorem d_ASup_newLength_6 : decode b_ASup_newLength 6 = .ok (.iadd, 1) := by decide +kernel
theorem d_ASup_newLength_7 : decode b_ASup_newLength 7 = .ok (.istore_n 3, 1) := by decide +kernel
theorem d_ASup_newLength_8 : decode b_ASup_newLength 8 = .ok (.iconst 0, 1) := by decide +kernel
theorem d_ASup_newLength_9 : decode b_ASup_newLength 9 = .ok (.iload_n 3, 1) := by decide +kernel
theorem d_ASup_newLength_10 : decode b_ASup_newLength 10 = .ok (.if_icmp .ge 11, 3) := by decide +kernel
theorem d_ASup_newLength_13 : decode b_ASup_newLength 13 = .ok (.iload_n 3, 1) := by decide +kernel
theorem d_ASup_newLength_14 : decode b_ASup_newLength 14 = .ok (.ldc 200, 2) := by decide +kernel
theorem d_ASup_newLength_16 : decode b_ASup_newLength 16 = .ok (.if_icmp .gt 5, 3) := by decide +kernel
theorem d_ASup_newLength_19 : decode b_ASup_newLength 19 = .ok (.iload_n 3, 1) := by decide +kernel
theorem d_ASup_newLength_20 : decode b_ASup_newLength 20 = .ok (.ireturn, 1) := by decide +kernel
theorem d_ASup_newLength_21 : decode b_ASup_newLength 21 = .ok (.iload_n 0, 1) := by decide +kernel
theorem d_ASup_newLength_22 : decode b_ASup_newLength 22 = .ok (.iload_n 1, 1) := by decide +kernel
theorem d_ASup_newLength_23 : decode b_ASup_newLength 23 = .ok (.invokestatic 201, 3) := by decide +kernel
theorem d_ASup_newLength_26 : decode b_ASup_newLength 26 = .ok (.ireturn, 1) := by decide +kernel
theorem d_Math_max_0 : decode b_Math_max 0 = .ok (.iload_n 0, 1) := by decide +kernel
theorem d_Math_max_1 : decode b_Math_max 1 = .ok (.iload_n 1, 1) := by decide +kernel
theorem d_Math_max_2 : decode b_Math_max 2 = .ok (.if_icmp .lt 7, 3) := by decide +kernel
theorem d_Math_max_5 : decode b_Math_max 5 = .ok (.iload_n 0, 1) := by decide +kernel
theorem d_Math_max_6 : decode b_Math_max 6 = .ok (.goto 4, 3) := by decide +kernel
theorem d_Math_max_9 : decode b_Math_max 9 = .ok (.iload_n 1, 1) := by decide +kernel
theorem d_Math_max_10 : decode b_Math_max 10 = .ok (.ireturn, 1) := by decide +kernel
theorem d_Arrs_copyOf2_0 : decode b_Arrs_copyOf2 0 = .ok (.aload_n 0, 1) := by decide +kernel
theorem d_Arrs_copyOf2_1 : decode b_Arrs_copyOf2 1 = .ok (.iload_n 1, 1) := by decide +kernel
theorem d_Arrs_copyOf2_2 : decode b_Arrs_copyOf2 2 = .ok (.aload_n 0, 1) := by decide +kernel
theorem d_Arrs_copyOf2_3 : decode b_Arrs_copyOf2 3 = .ok (.invokevirtual 86, 3) := by decide +kernel
theorem d_Arrs_copyOf2_6 : decode b_Arrs_copyOf2 6 = .ok (.invokestatic 300, 3) := by decide +kernel
theorem d_Arrs_copyOf2_9 : decode b_Arrs_copyOf2 9 = .ok (.areturn, 1) := by decide +kernel
theorem d_Arrs_copyOf3_0 : decode b_Arrs_copyOf3 0 = .ok (.aload_n 2, 1) := by decide +kernel
theorem d_Arrs_copyOf3_1 : decode b_Arrs_copyOf3 1 = .ok (.ldc 110, 2) := by decide +kernel
theorem d_Arrs_copyOf3_3 : decode b_Arrs_copyOf3 3 = .ok (.if_acmp .ne 10, 3) := by decide +kernel
theorem d_Arrs_copyOf3_6 : decode b_Arrs_copyOf3 6 = .ok (.iload_n 1, 1) := by decide +kernel
theorem d_Arrs_copyOf3_7 : decode b_Arrs_copyOf3 7 = .ok (.anewarray 2, 3) := by decide +kernel
theorem d_Arrs_copyOf3_10 : decode b_Arrs_copyOf3 10 = .ok (.goto 14, 3) := by decide +kernel
theorem d_Arrs_copyOf3_13 : decode b_Arrs_copyOf3 13 = .ok (.aload_n 2, 1) := by decide +kernel
theorem d_Arrs_copyOf3_14 : decode b_Arrs_copyOf3 14 = .ok (.invokevirtual 90, 3) := by decide +kernel
theorem d_Arrs_copyOf3_17 : decode b_Arrs_copyOf3 17 = .ok (.iload_n 1, 1) := by decide +kernel
theorem d_Arrs_copyOf3_18 : decode b_Arrs_copyOf3 18 = .ok (.invokestatic 95, 3) := by decide +kernel
theorem d_Arrs_copyOf3_21 : decode b_Arrs_copyOf3 21 = .ok (.checkcast 110, 3) := by decide +kernel
theorem d_Arrs_copyOf3_24 : decode b_Arrs_copyOf3 24 = .ok (.astore_n 3, 1) := by decide +kernel
theorem d_Arrs_copyOf3_25 : decode b_Arrs_copyOf3 25 = .ok (.aload_n 0, 1) := by decide +kernel
theorem d_Arrs_copyOf3_26 : decode b_Arrs_copyOf3 26 = .ok (.iconst 0, 1) := by decide +kernel
theorem d_Arrs_copyOf3_27 : decode b_Arrs_copyOf3 27 = .ok (.aload_n 3, 1) := by decide +kernel
theorem d_Arrs_copyOf3_28 : decode b_Arrs_copyOf3 28 = .ok (.iconst 0, 1) := by decide +kernel
theorem d_Arrs_copyOf3_29 : decode b_Arrs_copyOf3 29 = .ok (.aload_n 0, 1) := by decide +kernel
theorem d_Arrs_copyOf3_30 : decode b_Arrs_copyOf3 30 = .ok (.arraylength, 1) := by decide +kernel
theorem d_Arrs_copyOf3_31 : decode b_Arrs_copyOf3 31 = .ok (.iload_n 1, 1) := by decide +kernel
theorem d_Arrs_copyOf3_32 : decode b_Arrs_copyOf3 32 = .ok (.invokestatic 304, 3) := by decide +kernel
theorem d_Arrs_copyOf3_35 : decode b_Arrs_copyOf3 35 = .ok (.invokestatic 150, 3) := by decide +kernel
theorem d_Arrs_copyOf3_38 : decode b_Arrs_copyOf3 38 = .ok (.aload_n 3, 1) := by decide +kernel
theorem d_Arrs_copyOf3_39 : decode b_Arrs_copyOf3 39 = .ok (.areturn, 1) := by decide +kernel
theorem d_Math_min_0 : decode b_Math_min 0 = .ok (.iload_n 0, 1) := by decide +kernel
theorem d_Math_min_1 : decode b_Math_min 1 = .ok (.iload_n 1, 1) := by decide +kernel
theorem d_Math_min_2 : decode b_Math_min 2 = .ok (.if_icmp .gt 7, 3) := by decide +kernel
theorem d_Math_min_5 : decode b_Math_min 5 = .ok (.iload_n 0, 1) := by decide +kernel
theorem d_Math_min_6 : decode b_Math_min 6 = .ok (.goto 4, 3) := by decide +kernel
theorem d_Math_min_9 : decode b_Math_min 9 = .ok (.iload_n 1, 1) := by decide +kernel
theorem d_Math_min_10 : decode b_Math_min 10 = .ok (.ireturn, 1) := by decide +kernel
theorem d_KG_key_0 : decode b_KG_key 0 = .ok (.aload_n 0, 1) := by decide +kernel
theorem d_KG_key_1 : decode b_KG_key 1 = .ok (.getfield 32, 3) := by decide +kernel
theorem d_KG_key_4 : decode b_KG_key 4 = .ok (.invokevirtual 50, 3) := by decide +kernel
theorem d_KG_key_7 : decode b_KG_key 7 = .ok (.bipush 40, 2) := by decide +kernel
theorem d_KG_key_9 : decode b_KG_key 9 = .ok (.if_icmp .eq 13, 3) := by decide +kernel
theorem d_KG_key_12 : decode b_KG_key 12 = .ok (.iload_n 1, 1) := by decide +kernel
theorem d_KG_key_13 : decode b_KG_key 13 = .ok (.ifCond .lt 9, 3) := by decide +kernel
theorem d_KG_key_16 : decode b_KG_key 16 = .ok (.iload_n 1, 1) := by decide +kernel
theorem d_KG_key_17 : decode b_KG_key 17 = .ok (.bipush 6, 2) := by decide +kernel
theorem d_KG_key_19 : decode b_KG_key 19 = .ok (.if_icmp .lt 5, 3) := by decide +kernel
theorem d_KG_key_22 : decode b_KG_key 22 = .ok (.iconst (-1), 1) := by decide +kernel
theorem d_KG_key_23 : decode b_KG_key 23 = .ok (.ireturn, 1) := by decide +kernel
theorem d_KG_key_24 : decode b_KG_key 24 = .ok (.aload_n 0, 1) := by decide +kernel
theorem d_KG_key_25 : decode b_KG_key 25 = .ok (.getfield 32, 3) := by decide +kernel
theorem d_KG_key_28 : decode b_KG_key 28 = .ok (.new 62, 3) := by decide +kernel
theorem d_KG_key_31 : decode b_KG_key 31 = .ok (.dup, 1) := by decide +kernel
theorem d_KG_key_32 : decode b_KG_key 32 = .ok (.aload_n 0, 1) := by decide +kernel
theorem d_KG_key_33 : decode b_KG_key 33 = .ok (.getfield 32, 3) := by decide +kernel
theorem d_KG_key_36 : decode b_KG_key 36 = .ok (.invokevirtual 50, 3) := by decide +kernel
theorem d_KG_key_39 : decode b_KG_key 39 = .ok (.iload_n 1, 1) := by decide +kernel
theorem d_KG_key_40 : decode b_KG_key 40 = .ok (.invokestatic 95, 3) := by decide +kernel
theorem d_KG_key_43 : decode b_KG_key 43 = .ok (.invokespecial 78, 3) := by decide +kernel
theorem d_KG_key_46 : decode b_KG_key 46 = .ok (.invokevirtual 88, 3) := by decide +kernel
theorem d_KG_key_49 : decode b_KG_key 49 = .ok (.pop, 1) := by decide +kernel
theorem d_KG_key_50 : decode b_KG_key 50 = .ok (.aload_n 0, 1) := by decide +kernel
theorem d_KG_key_51 : decode b_KG_key 51 = .ok (.getfield 32, 3) := by decide +kernel
theorem d_KG_key_54 : decode b_KG_key 54 = .ok (.invokevirtual 50, 3) := by decide +kernel
theorem d_KG_key_57 : decode b_KG_key 57 = .ok (.iconst 1, 1) := by decide +kernel
theorem d_KG_key_58 : decode b_KG_key 58 = .ok (.isub, 1) := by decide +kernel
theorem d_KG_key_59 : decode b_KG_key 59 = .ok (.ireturn, 1) := by decide +kernel
theorem d_KG_made_0 : decode b_KG_made 0 = .ok (.iload_n 0, 1) := by decide +kernel
theorem d_KG_made_1 : decode b_KG_made 1 = .ok (.tableswitch 77 0 4 #[35, 44, 52, 60, 68], 35) := by decide +kernel
theorem d_KG_made_36 : decode b_KG_made 36 = .ok (.new 1, 3) := by decide +kernel
theorem d_KG_made_39 : decode b_KG_made 39 = .ok (.dup, 1) := by decide +kernel
theorem d_KG_made_40 : decode b_KG_made 40 = .ok (.iconst 0, 1) := by decide +kernel
theorem d_KG_made_41 : decode b_KG_made 41 = .ok (.invokespecial 3, 3) := by decide +kernel
theorem d_KG_made_44 : decode b_KG_made 44 = .ok (.areturn, 1) := by decide +kernel
theorem d_KG_made_45 : decode b_KG_made 45 = .ok (.new 7, 3) := by decide +kernel
theorem d_KG_made_48 : decode b_KG_made 48 = .ok (.dup, 1) := by decide +kernel
theorem d_KG_made_49 : decode b_KG_made 49 = .ok (.invokespecial 9, 3) := by decide +kernel
theorem d_KG_made_52 : decode b_KG_made 52 = .ok (.areturn, 1) := by decide +kernel
theorem d_KG_made_53 : decode b_KG_made 53 = .ok (.new 12, 3) := by decide +kernel
theorem d_KG_made_56 : decode b_KG_made 56 = .ok (.dup, 1) := by decide +kernel
theorem d_KG_made_57 : decode b_KG_made 57 = .ok (.invokespecial 14, 3) := by decide +kernel
theorem d_KG_made_60 : decode b_KG_made 60 = .ok (.areturn, 1) := by decide +kernel
theorem d_KG_made_61 : decode b_KG_made 61 = .ok (.new 15, 3) := by decide +kernel
theorem d_KG_made_64 : decode b_KG_made 64 = .ok (.dup, 1) := by decide +kernel
theorem d_KG_made_65 : decode b_KG_made 65 = .ok (.invokespecial 17, 3) := by decide +kernel
theorem d_KG_made_68 : decode b_KG_made 68 = .ok (.areturn, 1) := by decide +kernel
theorem d_KG_made_69 : decode b_KG_made 69 = .ok (.new 1, 3) := by decide +kernel
theorem d_KG_made_72 : decode b_KG_made 72 = .ok (.dup, 1) := by decide +kernel
theorem d_KG_made_73 : decode b_KG_made 73 = .ok (.iconst 1, 1) := by decide +kernel
theorem d_KG_made_74 : decode b_KG_made 74 = .ok (.invokespecial 3, 3) := by decide +kernel
theorem d_KG_made_77 : decode b_KG_made 77 = .ok (.areturn, 1) := by decide +kernel
theorem d_KG_made_78 : decode b_KG_made 78 = .ok (.new 18, 3) := by decide +kernel
theorem d_KG_made_81 : decode b_KG_made 81 = .ok (.dup, 1) := by decide +kernel
theorem d_KG_made_82 : decode b_KG_made 82 = .ok (.invokespecial 20, 3) := by decide +kernel
theorem d_KG_made_85 : decode b_KG_made 85 = .ok (.areturn, 1) := by decide +kernel
theorem d_Sum_init_0 : decode b_Sum_init 0 = .ok (.aload_n 0, 1) := by decide +kernel
theorem d_Sum_init_1 : decode b_Sum_init 1 = .ok (.invokespecial 1, 3) := by decide +kernel
theorem d_Sum_init_4 : decode b_Sum_init 4 = .ok (.aload_n 0, 1) := by decide +kernel
theorem d_Sum_init_5 : decode b_Sum_init 5 = .ok (.iload_n 1, 1) := by decide +kernel
theorem d_Sum_init_6 : decode b_Sum_init 6 = .ok (.putfield 7, 3) := by decide +kernel
theorem d_Sum_init_9 : decode b_Sum_init 9 = .ok (.return_, 1) := by decide +kernel
theorem d_Fun_init_0 : decode b_Fun_init 0 = .ok (.aload_n 0, 1) := by decide +kernel
theorem d_Fun_init_1 : decode b_Fun_init 1 = .ok (.invokespecial 3, 3) := by decide +kernel
theorem d_Fun_init_4 : decode b_Fun_init 4 = .ok (.return_, 1) := by decide +kernel
theorem d_First_init_0 : decode b_First_init 0 = .ok (.aload_n 0, 1) := by decide +kernel
theorem d_First_init_1 : decode b_First_init 1 = .ok (.invokespecial 1, 3) := by decide +kernel
theorem d_First_init_4 : decode b_First_init 4 = .ok (.return_, 1) := by decide +kernel
theorem d_Choice_init_0 : decode b_Choice_init 0 = .ok (.aload_n 0, 1) := by decide +kernel
theorem d_Choice_init_1 : decode b_Choice_init 1 = .ok (.invokespecial 3, 3) := by decide +kernel
theorem d_Choice_init_4 : decode b_Choice_init 4 = .ok (.return_, 1) := by decide +kernel
theorem d_Quot_init_0 : decode b_Quot_init 0 = .ok (.aload_n 0, 1) := by decide +kernel
theorem d_Quot_init_1 : decode b_Quot_init 1 = .ok (.invokespecial 1, 3) := by decide +kernel
theorem d_Quot_init_4 : decode b_Quot_init 4 = .ok (.return_, 1) := by decide +kernel
theorem d_Great_init_0 : decode b_Great_init 0 = .ok (.aload_n 0, 1) := by decide +kernel
theorem d_Great_init_1 : decode b_Great_init 1 = .ok (.invokespecial 1, 3) := by decide +kernel
theorem d_Great_init_4 : decode b_Great_init 4 = .ok (.return_, 1) := by decide +kernel
theorem d_KG_asks_0 : decode b_KG_asks 0 = .ok (.aload_n 0, 1) := by decide +kernel
theorem d_KG_asks_1 : decode b_KG_asks 1 = .ok (.iload_n 1, 1) := by decide +kernel
theorem d_KG_asks_2 : decode b_KG_asks 2 = .ok (.invokevirtual 109, 3) := by decide +kernel
theorem d_KG_asks_5 : decode b_KG_asks 5 = .ok (.ifCond .eq 11, 3) := by decide +kernel
theorem d_KG_asks_8 : decode b_KG_asks 8 = .ok (.aload_n 0, 1) := by decide +kernel
theorem d_KG_asks_9 : decode b_KG_asks 9 = .ok (.iload_n 2, 1) := by decide +kernel
theorem d_KG_asks_10 : decode b_KG_asks 10 = .ok (.invokevirtual 54, 3) := by decide +kernel
theorem d_KG_asks_13 : decode b_KG_asks 13 = .ok (.ifCond .ne 5, 3) := by decide +kernel
theorem d_KG_asks_16 : decode b_KG_asks 16 = .ok (.iconst (-1), 1) := by decide +kernel
theorem d_KG_asks_17 : decode b_KG_asks 17 = .ok (.ireturn, 1) := by decide +kernel
theorem d_KG_asks_18 : decode b_KG_asks 18 = .ok (.aload_n 0, 1) := by decide +kernel
theorem d_KG_asks_19 : decode b_KG_asks 19 = .ok (.getfield 32, 3) := by decide +kernel
theorem d_KG_asks_22 : decode b_KG_asks 22 = .ok (.iload_n 1, 1) := by decide +kernel
theorem d_KG_asks_23 : decode b_KG_asks 23 = .ok (.invokevirtual 58, 3) := by decide +kernel
theorem d_KG_asks_26 : decode b_KG_asks 26 = .ok (.checkcast 62, 3) := by decide +kernel
theorem d_KG_asks_29 : decode b_KG_asks 29 = .ok (.astore_n 3, 1) := by decide +kernel
theorem d_KG_asks_30 : decode b_KG_asks 30 = .ok (.aload_n 0, 1) := by decide +kernel
theorem d_KG_asks_31 : decode b_KG_asks 31 = .ok (.getfield 32, 3) := by decide +kernel
theorem d_KG_asks_34 : decode b_KG_asks 34 = .ok (.iload_n 2, 1) := by decide +kernel
theorem d_KG_asks_35 : decode b_KG_asks 35 = .ok (.invokevirtual 58, 3) := by decide +kernel
theorem d_KG_asks_38 : decode b_KG_asks 38 = .ok (.checkcast 62, 3) := by decide +kernel
theorem d_KG_asks_41 : decode b_KG_asks 41 = .ok (.astore 4, 2) := by decide +kernel
theorem d_KG_asks_43 : decode b_KG_asks 43 = .ok (.aload_n 3, 1) := by decide +kernel
theorem d_KG_asks_44 : decode b_KG_asks 44 = .ok (.getfield 99, 3) := by decide +kernel
theorem d_KG_asks_47 : decode b_KG_asks 47 = .ok (.invokevirtual 50, 3) := by decide +kernel
theorem d_KG_asks_50 : decode b_KG_asks 50 = .ok (.bipush 8, 2) := by decide +kernel
theorem d_KG_asks_52 : decode b_KG_asks 52 = .ok (.if_icmp .ne 5, 3) := by decide +kernel
theorem d_KG_asks_55 : decode b_KG_asks 55 = .ok (.iconst (-1), 1) := by decide +kernel
theorem d_KG_asks_56 : decode b_KG_asks 56 = .ok (.ireturn, 1) := by decide +kernel
theorem d_KG_asks_57 : decode b_KG_asks 57 = .ok (.aload_n 0, 1) := by decide +kernel
theorem d_KG_asks_58 : decode b_KG_asks 58 = .ok (.aload_n 3, 1) := by decide +kernel
theorem d_KG_asks_59 : decode b_KG_asks 59 = .ok (.invokevirtual 112, 3) := by decide +kernel
theorem d_KG_asks_62 : decode b_KG_asks 62 = .ok (.aload_n 0, 1) := by decide +kernel
theorem d_KG_asks_63 : decode b_KG_asks 63 = .ok (.aload 4, 2) := by decide +kernel
theorem d_KG_asks_65 : decode b_KG_asks 65 = .ok (.invokevirtual 102, 3) := by decide +kernel
theorem d_KG_asks_68 : decode b_KG_asks 68 = .ok (.ifCond .eq 89, 3) := by decide +kernel
theorem d_KG_asks_71 : decode b_KG_asks 71 = .ok (.aload_n 0, 1) := by decide +kernel
theorem d_KG_asks_72 : decode b_KG_asks 72 = .ok (.getfield 43, 3) := by decide +kernel
theorem d_KG_asks_75 : decode b_KG_asks 75 = .ok (.invokevirtual 116, 3) := by decide +kernel
theorem d_KG_asks_78 : decode b_KG_asks 78 = .ok (.aload_n 0, 1) := by decide +kernel
theorem d_KG_asks_79 : decode b_KG_asks 79 = .ok (.getfield 43, 3) := by decide +kernel
theorem d_KG_asks_82 : decode b_KG_asks 82 = .ok (.aload_n 3, 1) := by decide +kernel
theorem d_KG_asks_83 : decode b_KG_asks 83 = .ok (.invokevirtual 88, 3) := by decide +kernel
theorem d_KG_asks_86 : decode b_KG_asks 86 = .ok (.pop, 1) := by decide +kernel
theorem d_KG_asks_87 : decode b_KG_asks 87 = .ok (.aload 4, 2) := by decide +kernel
theorem d_KG_asks_89 : decode b_KG_asks 89 = .ok (.astore 5, 2) := by decide +kernel
theorem d_KG_asks_91 : decode b_KG_asks 91 = .ok (.aload 5, 2) := by decide +kernel
theorem d_KG_asks_93 : decode b_KG_asks 93 = .ok (.aload_n 3, 1) := by decide +kernel
theorem d_KG_asks_94 : decode b_KG_asks 94 = .ok (.if_acmp .eq 60, 3) := by decide +kernel
theorem d_KG_asks_97 : decode b_KG_asks 97 = .ok (.aload_n 0, 1) := by decide +kernel
theorem d_KG_asks_98 : decode b_KG_asks 98 = .ok (.getfield 43, 3) := by decide +kernel
theorem d_KG_asks_101 : decode b_KG_asks 101 = .ok (.aload 5, 2) := by decide +kernel
theorem d_KG_asks_103 : decode b_KG_asks 103 = .ok (.invokevirtual 88, 3) := by decide +kernel
theorem d_KG_asks_106 : decode b_KG_asks 106 = .ok (.pop, 1) := by decide +kernel
theorem d_KG_asks_107 : decode b_KG_asks 107 = .ok (.iconst 0, 1) := by decide +kernel
theorem d_KG_asks_108 : decode b_KG_asks 108 = .ok (.istore 6, 2) := by decide +kernel
theorem d_KG_asks_110 : decode b_KG_asks 110 = .ok (.aload_n 0, 1) := by decide +kernel
theorem d_KG_asks_111 : decode b_KG_asks 111 = .ok (.aload 5, 2) := by decide +kernel
theorem d_KG_asks_113 : decode b_KG_asks 113 = .ok (.getfield 99, 3) := by decide +kernel
theorem d_KG_asks_116 : decode b_KG_asks 116 = .ok (.iload 6, 2) := by decide +kernel
theorem d_KG_asks_118 : decode b_KG_asks 118 = .ok (.invokevirtual 58, 3) := by decide +kernel
theorem d_KG_asks_121 : decode b_KG_asks 121 = .ok (.checkcast 62, 3) := by decide +kernel
theorem d_KG_asks_124 : decode b_KG_asks 124 = .ok (.invokevirtual 102, 3) := by decide +kernel
theorem d_KG_asks_127 : decode b_KG_asks 127 = .ok (.ifCond .ne 9, 3) := by decide +kernel
theorem d_KG_asks_130 : decode b_KG_asks 130 = .ok (.iinc 6 1, 3) := by decide +kernel
theorem d_KG_asks_133 : decode b_KG_asks 133 = .ok (.goto (-23), 3) := by decide +kernel
theorem d_KG_asks_136 : decode b_KG_asks 136 = .ok (.aload 5, 2) := by decide +kernel
theorem d_KG_asks_138 : decode b_KG_asks 138 = .ok (.getfield 99, 3) := by decide +kernel
theorem d_KG_asks_141 : decode b_KG_asks 141 = .ok (.iload 6, 2) := by decide +kernel
theorem d_KG_asks_143 : decode b_KG_asks 143 = .ok (.invokevirtual 58, 3) := by decide +kernel
theorem d_KG_asks_146 : decode b_KG_asks 146 = .ok (.checkcast 62, 3) := by decide +kernel
theorem d_KG_asks_149 : decode b_KG_asks 149 = .ok (.astore 5, 2) := by decide +kernel
theorem d_KG_asks_151 : decode b_KG_asks 151 = .ok (.goto (-60), 3) := by decide +kernel
theorem d_KG_asks_154 : decode b_KG_asks 154 = .ok (.bipush (-2), 2) := by decide +kernel
theorem d_KG_asks_156 : decode b_KG_asks 156 = .ok (.ireturn, 1) := by decide +kernel
theorem d_KG_asks_157 : decode b_KG_asks 157 = .ok (.aload_n 0, 1) := by decide +kernel
theorem d_KG_asks_158 : decode b_KG_asks 158 = .ok (.invokevirtual 119, 3) := by decide +kernel
theorem d_KG_asks_161 : decode b_KG_asks 161 = .ok (.aload_n 3, 1) := by decide +kernel
theorem d_KG_asks_162 : decode b_KG_asks 162 = .ok (.getfield 99, 3) := by decide +kernel
theorem d_KG_asks_165 : decode b_KG_asks 165 = .ok (.aload 4, 2) := by decide +kernel
theorem d_KG_asks_167 : decode b_KG_asks 167 = .ok (.invokevirtual 88, 3) := by decide +kernel
theorem d_KG_asks_170 : decode b_KG_asks 170 = .ok (.pop, 1) := by decide +kernel
theorem d_KG_asks_171 : decode b_KG_asks 171 = .ok (.aload_n 3, 1) := by decide +kernel
theorem d_KG_asks_172 : decode b_KG_asks 172 = .ok (.aload_n 0, 1) := by decide +kernel
theorem d_KG_asks_173 : decode b_KG_asks 173 = .ok (.getfield 75, 3) := by decide +kernel
theorem d_KG_asks_176 : decode b_KG_asks 176 = .ok (.putfield 122, 3) := by decide +kernel
theorem d_KG_asks_179 : decode b_KG_asks 179 = .ok (.iconst 1, 1) := by decide +kernel
theorem d_KG_asks_180 : decode b_KG_asks 180 = .ok (.ireturn, 1) := by decide +kernel
theorem d_KG_isFunction_0 : decode b_KG_isFunction 0 = .ok (.aload_n 0, 1) := by decide +kernel
theorem d_KG_isFunction_1 : decode b_KG_isFunction 1 = .ok (.iload_n 1, 1) := by decide +kernel
theorem d_KG_isFunction_2 : decode b_KG_isFunction 2 = .ok (.invokevirtual 54, 3) := by decide +kernel
theorem d_KG_isFunction_5 : decode b_KG_isFunction 5 = .ok (.ifCond .eq 24, 3) := by decide +kernel
theorem d_KG_isFunction_8 : decode b_KG_isFunction 8 = .ok (.aload_n 0, 1) := by decide +kernel
theorem d_KG_isFunction_9 : decode b_KG_isFunction 9 = .ok (.getfield 32, 3) := by decide +kernel
theorem d_KG_isFunction_12 : decode b_KG_isFunction 12 = .ok (.iload_n 1, 1) := by decide +kernel
theorem d_KG_isFunction_13 : decode b_KG_isFunction 13 = .ok (.invokevirtual 58, 3) := by decide +kernel
theorem d_KG_isFunction_16 : decode b_KG_isFunction 16 = .ok (.checkcast 62, 3) := by decide +kernel
theorem d_KG_isFunction_19 : decode b_KG_isFunction 19 = .ok (.invokevirtual 64, 3) := by decide +kernel
theorem d_KG_isFunction_22 : decode b_KG_isFunction 22 = .ok (.ifCond .ne 7, 3) := by decide +kernel
theorem d_KG_isFunction_25 : decode b_KG_isFunction 25 = .ok (.iconst 1, 1) := by decide +kernel
theorem d_KG_isFunction_26 : decode b_KG_isFunction 26 = .ok (.goto 4, 3) := by decide +kernel
theorem d_KG_isFunction_29 : decode b_KG_isFunction 29 = .ok (.iconst 0, 1) := by decide +kernel
theorem d_KG_isFunction_30 : decode b_KG_isFunction 30 = .ok (.ireturn, 1) := by decide +kernel
theorem d_KG_isKey_0 : decode b_KG_isKey 0 = .ok (.iload_n 1, 1) := by decide +kernel
theorem d_KG_isKey_1 : decode b_KG_isKey 1 = .ok (.ifCond .lt 18, 3) := by decide +kernel
theorem d_KG_isKey_4 : decode b_KG_isKey 4 = .ok (.iload_n 1, 1) := by decide +kernel
theorem d_KG_isKey_5 : decode b_KG_isKey 5 = .ok (.aload_n 0, 1) := by decide +kernel
theorem d_KG_isKey_6 : decode b_KG_isKey 6 = .ok (.getfield 32, 3) := by decide +kernel
theorem d_KG_isKey_9 : decode b_KG_isKey 9 = .ok (.invokevirtual 50, 3) := by decide +kernel
theorem d_KG_isKey_12 : decode b_KG_isKey 12 = .ok (.if_icmp .ge 7, 3) := by decide +kernel
theorem d_KG_isKey_15 : decode b_KG_isKey 15 = .ok (.iconst 1, 1) := by decide +kernel
theorem d_KG_isKey_16 : decode b_KG_isKey 16 = .ok (.goto 4, 3) := by decide +kernel
theorem d_KG_isKey_19 : decode b_KG_isKey 19 = .ok (.iconst 0, 1) := by decide +kernel
theorem d_KG_isKey_20 : decode b_KG_isKey 20 = .ok (.ireturn, 1) := by decide +kernel
theorem d_AL_get_0 : decode b_AL_get 0 = .ok (.iload_n 1, 1) := by decide +kernel
theorem d_AL_get_1 : decode b_AL_get 1 = .ok (.aload_n 0, 1) := by decide +kernel
theorem d_AL_get_2 : decode b_AL_get 2 = .ok (.getfield 48, 3) := by decide +kernel
theorem d_AL_get_5 : decode b_AL_get 5 = .ok (.invokestatic 118, 3) := by decide +kernel
theorem d_AL_get_8 : decode b_AL_get 8 = .ok (.pop, 1) := by decide +kernel
theorem d_AL_get_9 : decode b_AL_get 9 = .ok (.aload_n 0, 1) := by decide +kernel
theorem d_AL_get_10 : decode b_AL_get 10 = .ok (.iload_n 1, 1) := by decide +kernel
theorem d_AL_get_11 : decode b_AL_get 11 = .ok (.invokevirtual 123, 3) := by decide +kernel
theorem d_AL_get_14 : decode b_AL_get 14 = .ok (.areturn, 1) := by decide +kernel
theorem d_Objs_checkIndex_0 : decode b_Objs_checkIndex 0 = .ok (.iload_n 0, 1) := by decide +kernel
theorem d_Objs_checkIndex_1 : decode b_Objs_checkIndex 1 = .ok (.iload_n 1, 1) := by decide +kernel
theorem d_Objs_checkIndex_2 : decode b_Objs_checkIndex 2 = .ok (.aconst_null, 1) := by decide +kernel
theorem d_Objs_checkIndex_3 : decode b_Objs_checkIndex 3 = .ok (.invokestatic 105, 3) := by decide +kernel
theorem d_Objs_checkIndex_6 : decode b_Objs_checkIndex 6 = .ok (.ireturn, 1) := by decide +kernel
theorem d_Prec_checkIndex_0 : decode b_Prec_checkIndex 0 = .ok (.iload_n 0, 1) := by decide +kernel
theorem d_Prec_checkIndex_1 : decode b_Prec_checkIndex 1 = .ok (.ifCond .lt 8, 3) := by decide +kernel
theorem d_Prec_checkIndex_4 : decode b_Prec_checkIndex 4 = .ok (.iload_n 0, 1) := by decide +kernel
theorem d_Prec_checkIndex_5 : decode b_Prec_checkIndex 5 = .ok (.iload_n 1, 1) := by decide +kernel
theorem d_Prec_checkIndex_6 : decode b_Prec_checkIndex 6 = .ok (.if_icmp .lt 10, 3) := by decide +kernel
theorem d_Prec_checkIndex_9 : decode b_Prec_checkIndex 9 = .ok (.aload_n 2, 1) := by decide +kernel
theorem d_Prec_checkIndex_10 : decode b_Prec_checkIndex 10 = .ok (.iload_n 0, 1) := by decide +kernel
theorem d_Prec_checkIndex_11 : decode b_Prec_checkIndex 11 = .ok (.iload_n 1, 1) := by decide +kernel
theorem d_Prec_checkIndex_12 : decode b_Prec_checkIndex 12 = .ok (.invokestatic 95, 3) := by decide +kernel
theorem d_Prec_checkIndex_15 : decode b_Prec_checkIndex 15 = .ok (.athrow, 1) := by decide +kernel
theorem d_Prec_checkIndex_16 : decode b_Prec_checkIndex 16 = .ok (.iload_n 0, 1) := by decide +kernel
theorem d_Prec_checkIndex_17 : decode b_Prec_checkIndex 17 = .ok (.ireturn, 1) := by decide +kernel
theorem d_AL_elementData_0 : decode b_AL_elementData 0 = .ok (.aload_n 0, 1) := by decide +kernel
theorem d_AL_elementData_1 : decode b_AL_elementData 1 = .ok (.getfield 9, 3) := by decide +kernel
theorem d_AL_elementData_4 : decode b_AL_elementData 4 = .ok (.iload_n 1, 1) := by decide +kernel
theorem d_AL_elementData_5 : decode b_AL_elementData 5 = .ok (.aaload, 1) := by decide +kernel
theorem d_AL_elementData_6 : decode b_AL_elementData 6 = .ok (.areturn, 1) := by decide +kernel
theorem d_Key_isLeaf_0 : decode b_Key_isLeaf 0 = .ok (.aload_n 0, 1) := by decide +kernel
theorem d_Key_isLeaf_1 : decode b_Key_isLeaf 1 = .ok (.getfield 35, 3) := by decide +kernel
theorem d_Key_isLeaf_4 : decode b_Key_isLeaf 4 = .ok (.ifnonnull 7, 3) := by decide +kernel
theorem d_Key_isLeaf_7 : decode b_Key_isLeaf 7 = .ok (.iconst 1, 1) := by decide +kernel
theorem d_Key_isLeaf_8 : decode b_Key_isLeaf 8 = .ok (.goto 4, 3) := by decide +kernel
theorem d_Key_isLeaf_11 : decode b_Key_isLeaf 11 = .ok (.iconst 0, 1) := by decide +kernel
theorem d_Key_isLeaf_12 : decode b_Key_isLeaf 12 = .ok (.ireturn, 1) := by decide +kernel
theorem d_KG_leadTo_0 : decode b_KG_leadTo 0 = .ok (.iconst 0, 1) := by decide +kernel
theorem d_KG_leadTo_1 : decode b_KG_leadTo 1 = .ok (.istore_n 2, 1) := by decide +kernel
theorem d_KG_leadTo_2 : decode b_KG_leadTo 2 = .ok (.iload_n 2, 1) := by decide +kernel
theorem d_KG_leadTo_3 : decode b_KG_leadTo 3 = .ok (.bipush 40, 2) := by decide +kernel
theorem d_KG_leadTo_5 : decode b_KG_leadTo 5 = .ok (.if_icmp .ge 28, 3) := by decide +kernel
theorem d_KG_leadTo_8 : decode b_KG_leadTo 8 = .ok (.aload_n 0, 1) := by decide +kernel
theorem d_KG_leadTo_9 : decode b_KG_leadTo 9 = .ok (.getfield 46, 3) := by decide +kernel
theorem d_KG_leadTo_12 : decode b_KG_leadTo 12 = .ok (.iload_n 2, 1) := by decide +kernel
theorem d_KG_leadTo_13 : decode b_KG_leadTo 13 = .ok (.iload_n 2, 1) := by decide +kernel
theorem d_KG_leadTo_14 : decode b_KG_leadTo 14 = .ok (.aload_n 1, 1) := by decide +kernel
theorem d_KG_leadTo_15 : decode b_KG_leadTo 15 = .ok (.getfield 92, 3) := by decide +kernel
theorem d_KG_leadTo_18 : decode b_KG_leadTo 18 = .ok (.if_icmp .ne 7, 3) := by decide +kernel
theorem d_KG_leadTo_21 : decode b_KG_leadTo 21 = .ok (.iconst 1, 1) := by decide +kernel
theorem d_KG_leadTo_22 : decode b_KG_leadTo 22 = .ok (.goto 4, 3) := by decide +kernel
theorem d_KG_leadTo_25 : decode b_KG_leadTo 25 = .ok (.iconst 0, 1) := by decide +kernel
theorem d_KG_leadTo_26 : decode b_KG_leadTo 26 = .ok (.bastore, 1) := by decide +kernel
theorem d_KG_leadTo_27 : decode b_KG_leadTo 27 = .ok (.iinc 2 1, 3) := by decide +kernel
theorem d_KG_leadTo_30 : decode b_KG_leadTo 30 = .ok (.goto (-28), 3) := by decide +kernel
theorem d_KG_leadTo_33 : decode b_KG_leadTo 33 = .ok (.iconst 1, 1) := by decide +kernel
theorem d_KG_leadTo_34 : decode b_KG_leadTo 34 = .ok (.istore_n 2, 1) := by decide +kernel
theorem d_KG_leadTo_35 : decode b_KG_leadTo 35 = .ok (.iload_n 2, 1) := by decide +kernel
theorem d_KG_leadTo_36 : decode b_KG_leadTo 36 = .ok (.ifCond .eq 66, 3) := by decide +kernel
theorem d_KG_leadTo_39 : decode b_KG_leadTo 39 = .ok (.iconst 0, 1) := by decide +kernel
theorem d_KG_leadTo_40 : decode b_KG_leadTo 40 = .ok (.istore_n 2, 1) := by decide +kernel
theorem d_KG_leadTo_41 : decode b_KG_leadTo 41 = .ok (.iconst 0, 1) := by decide +kernel
theorem d_KG_leadTo_42 : decode b_KG_leadTo 42 = .ok (.istore_n 3, 1) := by decide +kernel
theorem d_KG_leadTo_43 : decode b_KG_leadTo 43 = .ok (.iload_n 3, 1) := by decide +kernel
theorem d_KG_leadTo_44 : decode b_KG_leadTo 44 = .ok (.aload_n 0, 1) := by decide +kernel
theorem d_KG_leadTo_45 : decode b_KG_leadTo 45 = .ok (.getfield 32, 3) := by decide +kernel
theorem d_KG_leadTo_48 : decode b_KG_leadTo 48 = .ok (.invokevirtual 50, 3) := by decide +kernel
theorem d_KG_leadTo_51 : decode b_KG_leadTo 51 = .ok (.if_icmp .ge 48, 3) := by decide +kernel
theorem d_KG_leadTo_54 : decode b_KG_leadTo 54 = .ok (.aload_n 0, 1) := by decide +kernel
theorem d_KG_leadTo_55 : decode b_KG_leadTo 55 = .ok (.getfield 46, 3) := by decide +kernel
theorem d_KG_leadTo_58 : decode b_KG_leadTo 58 = .ok (.iload_n 3, 1) := by decide +kernel
theorem d_KG_leadTo_59 : decode b_KG_leadTo 59 = .ok (.baload, 1) := by decide +kernel
theorem d_KG_leadTo_60 : decode b_KG_leadTo 60 = .ok (.ifCond .ne 33, 3) := by decide +kernel
theorem d_KG_leadTo_63 : decode b_KG_leadTo 63 = .ok (.aload_n 0, 1) := by decide +kernel
theorem d_KG_leadTo_64 : decode b_KG_leadTo 64 = .ok (.aload_n 0, 1) := by decide +kernel
theorem d_KG_leadTo_65 : decode b_KG_leadTo 65 = .ok (.getfield 32, 3) := by decide +kernel
theorem d_KG_leadTo_68 : decode b_KG_leadTo 68 = .ok (.iload_n 3, 1) := by decide +kernel
theorem d_KG_leadTo_69 : decode b_KG_leadTo 69 = .ok (.invokevirtual 58, 3) := by decide +kernel
theorem d_KG_leadTo_72 : decode b_KG_leadTo 72 = .ok (.checkcast 62, 3) := by decide +kernel
theorem d_KG_leadTo_75 : decode b_KG_leadTo 75 = .ok (.invokevirtual 106, 3) := by decide +kernel
theorem d_KG_leadTo_78 : decode b_KG_leadTo 78 = .ok (.ifCond .ne 6, 3) := by decide +kernel
theorem d_KG_leadTo_81 : decode b_KG_leadTo 81 = .ok (.goto 12, 3) := by decide +kernel
theorem d_KG_leadTo_84 : decode b_KG_leadTo 84 = .ok (.aload_n 0, 1) := by decide +kernel
theorem d_KG_leadTo_85 : decode b_KG_leadTo 85 = .ok (.getfield 46, 3) := by decide +kernel
theorem d_KG_leadTo_88 : decode b_KG_leadTo 88 = .ok (.iload_n 3, 1) := by decide +kernel
theorem d_KG_leadTo_89 : decode b_KG_leadTo 89 = .ok (.iconst 1, 1) := by decide +kernel
theorem d_KG_leadTo_90 : decode b_KG_leadTo 90 = .ok (.bastore, 1) := by decide +kernel
theorem d_KG_leadTo_91 : decode b_KG_leadTo 91 = .ok (.iconst 1, 1) := by decide +kernel
theorem d_KG_leadTo_92 : decode b_KG_leadTo 92 = .ok (.istore_n 2, 1) := by decide +kernel
theorem d_KG_leadTo_93 : decode b_KG_leadTo 93 = .ok (.iinc 3 1, 3) := by decide +kernel
theorem d_KG_leadTo_96 : decode b_KG_leadTo 96 = .ok (.goto (-53), 3) := by decide +kernel
theorem d_KG_leadTo_99 : decode b_KG_leadTo 99 = .ok (.goto (-64), 3) := by decide +kernel
theorem d_KG_leadTo_102 : decode b_KG_leadTo 102 = .ok (.return_, 1) := by decide +kernel
theorem d_KG_asksOne_0 : decode b_KG_asksOne 0 = .ok (.iconst 0, 1) := by decide +kernel
theorem d_KG_asksOne_1 : decode b_KG_asksOne 1 = .ok (.istore_n 2, 1) := by decide +kernel
theorem d_KG_asksOne_2 : decode b_KG_asksOne 2 = .ok (.iconst 0, 1) := by decide +kernel
theorem d_KG_asksOne_3 : decode b_KG_asksOne 3 = .ok (.istore_n 3, 1) := by decide +kernel
theorem d_KG_asksOne_4 : decode b_KG_asksOne 4 = .ok (.iload_n 3, 1) := by decide +kernel
theorem d_KG_asksOne_5 : decode b_KG_asksOne 5 = .ok (.aload_n 1, 1) := by decide +kernel
theorem d_KG_asksOne_6 : decode b_KG_asksOne 6 = .ok (.getfield 99, 3) := by decide +kernel
theorem d_KG_asksOne_9 : decode b_KG_asksOne 9 = .ok (.invokevirtual 50, 3) := by decide +kernel
theorem d_KG_asksOne_12 : decode b_KG_asksOne 12 = .ok (.if_icmp .ge 29, 3) := by decide +kernel
theorem d_KG_asksOne_15 : decode b_KG_asksOne 15 = .ok (.iload_n 2, 1) := by decide +kernel
theorem d_KG_asksOne_16 : decode b_KG_asksOne 16 = .ok (.ifCond .ne 25, 3) := by decide +kernel
theorem d_KG_asksOne_19 : decode b_KG_asksOne 19 = .ok (.aload_n 0, 1) := by decide +kernel
theorem d_KG_asksOne_20 : decode b_KG_asksOne 20 = .ok (.aload_n 1, 1) := by decide +kernel
theorem d_KG_asksOne_21 : decode b_KG_asksOne 21 = .ok (.getfield 99, 3) := by decide +kernel
theorem d_KG_asksOne_24 : decode b_KG_asksOne 24 = .ok (.iload_n 3, 1) := by decide +kernel
theorem d_KG_asksOne_25 : decode b_KG_asksOne 25 = .ok (.invokevirtual 58, 3) := by decide +kernel
theorem d_KG_asksOne_28 : decode b_KG_asksOne 28 = .ok (.checkcast 62, 3) := by decide +kernel
theorem d_KG_asksOne_31 : decode b_KG_asksOne 31 = .ok (.invokevirtual 102, 3) := by decide +kernel
theorem d_KG_asksOne_34 : decode b_KG_asksOne 34 = .ok (.istore_n 2, 1) := by decide +kernel
theorem d_KG_asksOne_35 : decode b_KG_asksOne 35 = .ok (.iinc 3 1, 3) := by decide +kernel
theorem d_KG_asksOne_38 : decode b_KG_asksOne 38 = .ok (.goto (-34), 3) := by decide +kernel
theorem d_KG_asksOne_41 : decode b_KG_asksOne 41 = .ok (.iload_n 2, 1) := by decide +kernel
theorem d_KG_asksOne_42 : decode b_KG_asksOne 42 = .ok (.ireturn, 1) := by decide +kernel
theorem d_KG_isLeading_0 : decode b_KG_isLeading 0 = .ok (.aload_n 0, 1) := by decide +kernel
theorem d_KG_isLeading_1 : decode b_KG_isLeading 1 = .ok (.getfield 46, 3) := by decide +kernel
theorem d_KG_isLeading_4 : decode b_KG_isLeading 4 = .ok (.aload_n 1, 1) := by decide +kernel
theorem d_KG_isLeading_5 : decode b_KG_isLeading 5 = .ok (.getfield 92, 3) := by decide +kernel
theorem d_KG_isLeading_8 : decode b_KG_isLeading 8 = .ok (.baload, 1) := by decide +kernel
theorem d_KG_isLeading_9 : decode b_KG_isLeading 9 = .ok (.ireturn, 1) := by decide +kernel
theorem d_AL_clear_0 : decode b_AL_clear 0 = .ok (.aload_n 0, 1) := by decide +kernel
theorem d_AL_clear_1 : decode b_AL_clear 1 = .ok (.dup, 1) := by decide +kernel
theorem d_AL_clear_2 : decode b_AL_clear 2 = .ok (.getfield 63, 3) := by decide +kernel
theorem d_AL_clear_5 : decode b_AL_clear 5 = .ok (.iconst 1, 1) := by decide +kernel
theorem d_AL_clear_6 : decode b_AL_clear 6 = .ok (.iadd, 1) := by decide +kernel
theorem d_AL_clear_7 : decode b_AL_clear 7 = .ok (.putfield 63, 3) := by decide +kernel
theorem d_AL_clear_10 : decode b_AL_clear 10 = .ok (.aload_n 0, 1) := by decide +kernel
theorem d_AL_clear_11 : decode b_AL_clear 11 = .ok (.getfield 9, 3) := by decide +kernel
theorem d_AL_clear_14 : decode b_AL_clear 14 = .ok (.astore_n 1, 1) := by decide +kernel
theorem d_AL_clear_15 : decode b_AL_clear 15 = .ok (.aload_n 0, 1) := by decide +kernel
theorem d_AL_clear_16 : decode b_AL_clear 16 = .ok (.getfield 48, 3) := by decide +kernel
theorem d_AL_clear_19 : decode b_AL_clear 19 = .ok (.istore_n 2, 1) := by decide +kernel
theorem d_AL_clear_20 : decode b_AL_clear 20 = .ok (.aload_n 0, 1) := by decide +kernel
theorem d_AL_clear_21 : decode b_AL_clear 21 = .ok (.iconst 0, 1) := by decide +kernel
theorem d_AL_clear_22 : decode b_AL_clear 22 = .ok (.dup_x1, 1) := by decide +kernel
theorem d_AL_clear_23 : decode b_AL_clear 23 = .ok (.putfield 48, 3) := by decide +kernel
theorem d_AL_clear_26 : decode b_AL_clear 26 = .ok (.istore_n 3, 1) := by decide +kernel
theorem d_AL_clear_27 : decode b_AL_clear 27 = .ok (.iload_n 3, 1) := by decide +kernel
theorem d_AL_clear_28 : decode b_AL_clear 28 = .ok (.iload_n 2, 1) := by decide +kernel
theorem d_AL_clear_29 : decode b_AL_clear 29 = .ok (.if_icmp .ge 13, 3) := by decide +kernel
theorem d_AL_clear_32 : decode b_AL_clear 32 = .ok (.aload_n 1, 1) := by decide +kernel
theorem d_AL_clear_33 : decode b_AL_clear 33 = .ok (.iload_n 3, 1) := by decide +kernel
theorem d_AL_clear_34 : decode b_AL_clear 34 = .ok (.aconst_null, 1) := by decide +kernel
theorem d_AL_clear_35 : decode b_AL_clear 35 = .ok (.aastore, 1) := by decide +kernel
theorem d_AL_clear_36 : decode b_AL_clear 36 = .ok (.iinc 3 1, 3) := by decide +kernel
theorem d_AL_clear_39 : decode b_AL_clear 39 = .ok (.goto (-12), 3) := by decide +kernel
theorem d_AL_clear_42 : decode b_AL_clear 42 = .ok (.return_, 1) := by decide +kernel
theorem d_KG_raise_0 : decode b_KG_raise 0 = .ok (.aload_n 0, 1) := by decide +kernel
theorem d_KG_raise_1 : decode b_KG_raise 1 = .ok (.invokevirtual 125, 3) := by decide +kernel
theorem d_KG_raise_4 : decode b_KG_raise 4 = .ok (.pop, 1) := by decide +kernel
theorem d_KG_raise_5 : decode b_KG_raise 5 = .ok (.aload_n 0, 1) := by decide +kernel
theorem d_KG_raise_6 : decode b_KG_raise 6 = .ok (.dup, 1) := by decide +kernel
theorem d_KG_raise_7 : decode b_KG_raise 7 = .ok (.getfield 75, 3) := by decide +kernel
theorem d_KG_raise_10 : decode b_KG_raise 10 = .ok (.iconst 1, 1) := by decide +kernel
theorem d_KG_raise_11 : decode b_KG_raise 11 = .ok (.iadd, 1) := by decide +kernel
theorem d_KG_raise_12 : decode b_KG_raise 12 = .ok (.putfield 75, 3) := by decide +kernel
theorem d_KG_raise_15 : decode b_KG_raise 15 = .ok (.return_, 1) := by decide +kernel
theorem d_KG_cancel_0 : decode b_KG_cancel 0 = .ok (.iconst 0, 1) := by decide +kernel
theorem d_KG_cancel_1 : decode b_KG_cancel 1 = .ok (.istore_n 1, 1) := by decide +kernel
theorem d_KG_cancel_2 : decode b_KG_cancel 2 = .ok (.iconst 0, 1) := by decide +kernel
theorem d_KG_cancel_3 : decode b_KG_cancel 3 = .ok (.istore_n 2, 1) := by decide +kernel
theorem d_KG_cancel_4 : decode b_KG_cancel 4 = .ok (.iload_n 2, 1) := by decide +kernel
theorem d_KG_cancel_5 : decode b_KG_cancel 5 = .ok (.iconst 4, 1) := by decide +kernel
theorem d_KG_cancel_6 : decode b_KG_cancel 6 = .ok (.if_icmp .gt 47, 3) := by decide +kernel
theorem d_KG_cancel_9 : decode b_KG_cancel 9 = .ok (.aload_n 0, 1) := by decide +kernel
theorem d_KG_cancel_10 : decode b_KG_cancel 10 = .ok (.getfield 40, 3) := by decide +kernel
theorem d_KG_cancel_13 : decode b_KG_cancel 13 = .ok (.iload_n 2, 1) := by decide +kernel
theorem d_KG_cancel_14 : decode b_KG_cancel 14 = .ok (.aaload, 1) := by decide +kernel
theorem d_KG_cancel_15 : decode b_KG_cancel 15 = .ok (.astore_n 3, 1) := by decide +kernel
theorem d_KG_cancel_16 : decode b_KG_cancel 16 = .ok (.aload_n 3, 1) := by decide +kernel
theorem d_KG_cancel_17 : decode b_KG_cancel 17 = .ok (.getfield 135, 3) := by decide +kernel
theorem d_KG_cancel_20 : decode b_KG_cancel 20 = .ok (.ifCond .le 27, 3) := by decide +kernel
theorem d_KG_cancel_23 : decode b_KG_cancel 23 = .ok (.aload_n 3, 1) := by decide +kernel
theorem d_KG_cancel_24 : decode b_KG_cancel 24 = .ok (.invokevirtual 169, 3) := by decide +kernel
theorem d_KG_cancel_27 : decode b_KG_cancel 27 = .ok (.iconst (-1), 1) := by decide +kernel
theorem d_KG_cancel_28 : decode b_KG_cancel 28 = .ok (.putfield 137, 3) := by decide +kernel
theorem d_KG_cancel_31 : decode b_KG_cancel 31 = .ok (.iinc 1 1, 3) := by decide +kernel
theorem d_KG_cancel_34 : decode b_KG_cancel 34 = .ok (.aload_n 3, 1) := by decide +kernel
theorem d_KG_cancel_35 : decode b_KG_cancel 35 = .ok (.dup, 1) := by decide +kernel
theorem d_KG_cancel_36 : decode b_KG_cancel 36 = .ok (.getfield 135, 3) := by decide +kernel
theorem d_KG_cancel_39 : decode b_KG_cancel 39 = .ok (.iconst 1, 1) := by decide +kernel
theorem d_KG_cancel_40 : decode b_KG_cancel 40 = .ok (.isub, 1) := by decide +kernel
theorem d_KG_cancel_41 : decode b_KG_cancel 41 = .ok (.putfield 135, 3) := by decide +kernel
theorem d_KG_cancel_44 : decode b_KG_cancel 44 = .ok (.goto (-28), 3) := by decide +kernel
theorem d_KG_cancel_47 : decode b_KG_cancel 47 = .ok (.iinc 2 1, 3) := by decide +kernel
theorem d_KG_cancel_50 : decode b_KG_cancel 50 = .ok (.goto (-46), 3) := by decide +kernel
theorem d_KG_cancel_53 : decode b_KG_cancel 53 = .ok (.iload_n 1, 1) := by decide +kernel
theorem d_KG_cancel_54 : decode b_KG_cancel 54 = .ok (.ireturn, 1) := by decide +kernel
theorem d_Pile_top_0 : decode b_Pile_top 0 = .ok (.aload_n 0, 1) := by decide +kernel
theorem d_Pile_top_1 : decode b_Pile_top 1 = .ok (.getfield 11, 3) := by decide +kernel
theorem d_Pile_top_4 : decode b_Pile_top 4 = .ok (.aload_n 0, 1) := by decide +kernel
theorem d_Pile_top_5 : decode b_Pile_top 5 = .ok (.getfield 17, 3) := by decide +kernel
theorem d_Pile_top_8 : decode b_Pile_top 8 = .ok (.iconst 1, 1) := by decide +kernel
theorem d_Pile_top_9 : decode b_Pile_top 9 = .ok (.isub, 1) := by decide +kernel
theorem d_Pile_top_10 : decode b_Pile_top 10 = .ok (.aaload, 1) := by decide +kernel
theorem d_Pile_top_11 : decode b_Pile_top 11 = .ok (.areturn, 1) := by decide +kernel
theorem d_KG_ring_0 : decode b_KG_ring 0 = .ok (.iload_n 1, 1) := by decide +kernel
theorem d_KG_ring_1 : decode b_KG_ring 1 = .ok (.ifCond .lt 14, 3) := by decide +kernel
theorem d_KG_ring_4 : decode b_KG_ring 4 = .ok (.iload_n 1, 1) := by decide +kernel
theorem d_KG_ring_5 : decode b_KG_ring 5 = .ok (.aload_n 0, 1) := by decide +kernel
theorem d_KG_ring_6 : decode b_KG_ring 6 = .ok (.getfield 43, 3) := by decide +kernel
theorem d_KG_ring_9 : decode b_KG_ring 9 = .ok (.invokevirtual 50, 3) := by decide +kernel
theorem d_KG_ring_12 : decode b_KG_ring 12 = .ok (.if_icmp .lt 7, 3) := by decide +kernel
theorem d_KG_ring_15 : decode b_KG_ring 15 = .ok (.iconst (-1), 1) := by decide +kernel
theorem d_KG_ring_16 : decode b_KG_ring 16 = .ok (.goto 17, 3) := by decide +kernel
theorem d_KG_ring_19 : decode b_KG_ring 19 = .ok (.aload_n 0, 1) := by decide +kernel
theorem d_KG_ring_20 : decode b_KG_ring 20 = .ok (.getfield 43, 3) := by decide +kernel
theorem d_KG_ring_23 : decode b_KG_ring 23 = .ok (.iload_n 1, 1) := by decide +kernel
theorem d_KG_ring_24 : decode b_KG_ring 24 = .ok (.invokevirtual 58, 3) := by decide +kernel
theorem d_KG_ring_27 : decode b_KG_ring 27 = .ok (.checkcast 62, 3) := by decide +kernel
theorem d_KG_ring_30 : decode b_KG_ring 30 = .ok (.getfield 92, 3) := by decide +kernel
theorem d_KG_ring_33 : decode b_KG_ring 33 = .ok (.ireturn, 1) := by decide +kernel
theorem d_KG_change_0 : decode b_KG_change 0 = .ok (.aload_n 0, 1) := by decide +kernel
theorem d_KG_change_1 : decode b_KG_change 1 = .ok (.iload_n 1, 1) := by decide +kernel
theorem d_KG_change_2 : decode b_KG_change 2 = .ok (.invokevirtual 54, 3) := by decide +kernel
theorem d_KG_change_5 : decode b_KG_change 5 = .ok (.ifCond .eq 20, 3) := by decide +kernel
theorem d_KG_change_8 : decode b_KG_change 8 = .ok (.aload_n 0, 1) := by decide +kernel
theorem d_KG_change_9 : decode b_KG_change 9 = .ok (.getfield 32, 3) := by decide +kernel
theorem d_KG_change_12 : decode b_KG_change 12 = .ok (.iload_n 1, 1) := by decide +kernel
theorem d_KG_change_13 : decode b_KG_change 13 = .ok (.invokevirtual 58, 3) := by decide +kernel
theorem d_KG_change_16 : decode b_KG_change 16 = .ok (.checkcast 62, 3) := by decide +kernel
theorem d_KG_change_19 : decode b_KG_change 19 = .ok (.invokevirtual 64, 3) := by decide +kernel
theorem d_KG_change_22 : decode b_KG_change 22 = .ok (.ifCond .ne 5, 3) := by decide +kernel
theorem d_KG_change_25 : decode b_KG_change 25 = .ok (.iconst (-1), 1) := by decide +kernel
theorem d_KG_change_26 : decode b_KG_change 26 = .ok (.ireturn, 1) := by decide +kernel
theorem d_KG_change_27 : decode b_KG_change 27 = .ok (.aload_n 0, 1) := by decide +kernel
theorem d_KG_change_28 : decode b_KG_change 28 = .ok (.getfield 32, 3) := by decide +kernel
theorem d_KG_change_31 : decode b_KG_change 31 = .ok (.iload_n 1, 1) := by decide +kernel
theorem d_KG_change_32 : decode b_KG_change 32 = .ok (.invokevirtual 58, 3) := by decide +kernel
theorem d_KG_change_35 : decode b_KG_change 35 = .ok (.checkcast 62, 3) := by decide +kernel
theorem d_KG_change_38 : decode b_KG_change 38 = .ok (.astore 4, 2) := by decide +kernel
theorem d_KG_change_40 : decode b_KG_change 40 = .ok (.aload 4, 2) := by decide +kernel
theorem d_KG_change_42 : decode b_KG_change 42 = .ok (.getfield 81, 3) := by decide +kernel
theorem d_KG_change_45 : decode b_KG_change 45 = .ok (.lload_n 2, 1) := by decide +kernel
theorem d_KG_change_46 : decode b_KG_change 46 = .ok (.lcmp, 1) := by decide +kernel
theorem d_KG_change_47 : decode b_KG_change 47 = .ok (.ifCond .ne 8, 3) := by decide +kernel
theorem d_KG_change_50 : decode b_KG_change 50 = .ok (.aload_n 0, 1) := by decide +kernel
theorem d_KG_change_51 : decode b_KG_change 51 = .ok (.getfield 75, 3) := by decide +kernel
theorem d_KG_change_54 : decode b_KG_change 54 = .ok (.ireturn, 1) := by decide +kernel
theorem d_KG_change_55 : decode b_KG_change 55 = .ok (.aload_n 0, 1) := by decide +kernel
theorem d_KG_change_56 : decode b_KG_change 56 = .ok (.invokevirtual 119, 3) := by decide +kernel
theorem d_KG_change_59 : decode b_KG_change 59 = .ok (.aload 4, 2) := by decide +kernel
theorem d_KG_change_61 : decode b_KG_change 61 = .ok (.lload_n 2, 1) := by decide +kernel
theorem d_KG_change_62 : decode b_KG_change 62 = .ok (.putfield 81, 3) := by decide +kernel
theorem d_KG_change_65 : decode b_KG_change 65 = .ok (.aload 4, 2) := by decide +kernel
theorem d_KG_change_67 : decode b_KG_change 67 = .ok (.aload_n 0, 1) := by decide +kernel
theorem d_KG_change_68 : decode b_KG_change 68 = .ok (.getfield 75, 3) := by decide +kernel
theorem d_KG_change_71 : decode b_KG_change 71 = .ok (.putfield 85, 3) := by decide +kernel
theorem d_KG_change_74 : decode b_KG_change 74 = .ok (.aload_n 0, 1) := by decide +kernel
theorem d_KG_change_75 : decode b_KG_change 75 = .ok (.getfield 75, 3) := by decide +kernel
theorem d_KG_change_78 : decode b_KG_change 78 = .ok (.ireturn, 1) := by decide +kernel
theorem d_KG_spoil_0 : decode b_KG_spoil 0 = .ok (.aload_n 0, 1) := by decide +kernel
theorem d_KG_spoil_1 : decode b_KG_spoil 1 = .ok (.iload_n 1, 1) := by decide +kernel
theorem d_KG_spoil_2 : decode b_KG_spoil 2 = .ok (.invokevirtual 109, 3) := by decide +kernel
theorem d_KG_spoil_5 : decode b_KG_spoil 5 = .ok (.ifCond .ne 5, 3) := by decide +kernel
theorem d_KG_spoil_8 : decode b_KG_spoil 8 = .ok (.iconst (-1), 1) := by decide +kernel
theorem d_KG_spoil_9 : decode b_KG_spoil 9 = .ok (.ireturn, 1) := by decide +kernel
theorem d_KG_spoil_10 : decode b_KG_spoil 10 = .ok (.aload_n 0, 1) := by decide +kernel
theorem d_KG_spoil_11 : decode b_KG_spoil 11 = .ok (.getfield 32, 3) := by decide +kernel
theorem d_KG_spoil_14 : decode b_KG_spoil 14 = .ok (.iload_n 1, 1) := by decide +kernel
theorem d_KG_spoil_15 : decode b_KG_spoil 15 = .ok (.invokevirtual 58, 3) := by decide +kernel
theorem d_KG_spoil_18 : decode b_KG_spoil 18 = .ok (.checkcast 62, 3) := by decide +kernel
theorem d_KG_spoil_21 : decode b_KG_spoil 21 = .ok (.astore_n 3, 1) := by decide +kernel
theorem d_KG_spoil_22 : decode b_KG_spoil 22 = .ok (.aload_n 3, 1) := by decide +kernel
theorem d_KG_spoil_23 : decode b_KG_spoil 23 = .ok (.getfield 128, 3) := by decide +kernel
theorem d_KG_spoil_26 : decode b_KG_spoil 26 = .ok (.iload_n 2, 1) := by decide +kernel
theorem d_KG_spoil_27 : decode b_KG_spoil 27 = .ok (.if_icmp .ne 8, 3) := by decide +kernel
theorem d_KG_spoil_30 : decode b_KG_spoil 30 = .ok (.aload_n 0, 1) := by decide +kernel
theorem d_KG_spoil_31 : decode b_KG_spoil 31 = .ok (.getfield 75, 3) := by decide +kernel
theorem d_KG_spoil_34 : decode b_KG_spoil 34 = .ok (.ireturn, 1) := by decide +kernel
theorem d_KG_spoil_35 : decode b_KG_spoil 35 = .ok (.aload_n 0, 1) := by decide +kernel
theorem d_KG_spoil_36 : decode b_KG_spoil 36 = .ok (.invokevirtual 119, 3) := by decide +kernel
theorem d_KG_spoil_39 : decode b_KG_spoil 39 = .ok (.aload_n 3, 1) := by decide +kernel
theorem d_KG_spoil_40 : decode b_KG_spoil 40 = .ok (.iload_n 2, 1) := by decide +kernel
theorem d_KG_spoil_41 : decode b_KG_spoil 41 = .ok (.putfield 128, 3) := by decide +kernel
theorem d_KG_spoil_44 : decode b_KG_spoil 44 = .ok (.aload_n 3, 1) := by decide +kernel
theorem d_KG_spoil_45 : decode b_KG_spoil 45 = .ok (.aload_n 0, 1) := by decide +kernel
theorem d_KG_spoil_46 : decode b_KG_spoil 46 = .ok (.getfield 75, 3) := by decide +kernel
theorem d_KG_spoil_49 : decode b_KG_spoil 49 = .ok (.putfield 122, 3) := by decide +kernel
theorem d_KG_spoil_52 : decode b_KG_spoil 52 = .ok (.aload_n 0, 1) := by decide +kernel
theorem d_KG_spoil_53 : decode b_KG_spoil 53 = .ok (.getfield 75, 3) := by decide +kernel
theorem d_KG_spoil_56 : decode b_KG_spoil 56 = .ok (.ireturn, 1) := by decide +kernel
theorem d_KG_version_0 : decode b_KG_version 0 = .ok (.aload_n 0, 1) := by decide +kernel
theorem d_KG_version_1 : decode b_KG_version 1 = .ok (.getfield 75, 3) := by decide +kernel
theorem d_KG_version_4 : decode b_KG_version 4 = .ok (.ireturn, 1) := by decide +kernel
theorem d_KG_begin_0 : decode b_KG_begin 0 = .ok (.iload_n 1, 1) := by decide +kernel
theorem d_KG_begin_1 : decode b_KG_begin 1 = .ok (.invokestatic 159, 3) := by decide +kernel
theorem d_KG_begin_4 : decode b_KG_begin 4 = .ok (.ifCond .eq 23, 3) := by decide +kernel
theorem d_KG_begin_7 : decode b_KG_begin 7 = .ok (.aload_n 0, 1) := by decide +kernel
theorem d_KG_begin_8 : decode b_KG_begin 8 = .ok (.iload_n 2, 1) := by decide +kernel
theorem d_KG_begin_9 : decode b_KG_begin 9 = .ok (.invokevirtual 54, 3) := by decide +kernel
theorem d_KG_begin_12 : decode b_KG_begin 12 = .ok (.ifCond .eq 15, 3) := by decide +kernel
theorem d_KG_begin_15 : decode b_KG_begin 15 = .ok (.aload_n 0, 1) := by decide +kernel
theorem d_KG_begin_16 : decode b_KG_begin 16 = .ok (.getfield 40, 3) := by decide +kernel
theorem d_KG_begin_19 : decode b_KG_begin 19 = .ok (.iload_n 1, 1) := by decide +kernel
theorem d_KG_begin_20 : decode b_KG_begin 20 = .ok (.aaload, 1) := by decide +kernel
theorem d_KG_begin_21 : decode b_KG_begin 21 = .ok (.getfield 135, 3) := by decide +kernel
theorem d_KG_begin_24 : decode b_KG_begin 24 = .ok (.ifCond .le 5, 3) := by decide +kernel
theorem d_KG_begin_27 : decode b_KG_begin 27 = .ok (.iconst (-1), 1) := by decide +kernel
theorem d_KG_begin_28 : decode b_KG_begin 28 = .ok (.ireturn, 1) := by decide +kernel
theorem d_KG_begin_29 : decode b_KG_begin 29 = .ok (.aload_n 0, 1) := by decide +kernel
theorem d_KG_begin_30 : decode b_KG_begin 30 = .ok (.getfield 32, 3) := by decide +kernel
theorem d_KG_begin_33 : decode b_KG_begin 33 = .ok (.iload_n 2, 1) := by decide +kernel
theorem d_KG_begin_34 : decode b_KG_begin 34 = .ok (.invokevirtual 58, 3) := by decide +kernel
theorem d_KG_begin_37 : decode b_KG_begin 37 = .ok (.checkcast 62, 3) := by decide +kernel
theorem d_KG_begin_40 : decode b_KG_begin 40 = .ok (.astore_n 3, 1) := by decide +kernel
theorem d_KG_begin_41 : decode b_KG_begin 41 = .ok (.aload_n 0, 1) := by decide +kernel
theorem d_KG_begin_42 : decode b_KG_begin 42 = .ok (.aload_n 3, 1) := by decide +kernel
theorem d_KG_begin_43 : decode b_KG_begin 43 = .ok (.invokevirtual 162, 3) := by decide +kernel
theorem d_KG_begin_46 : decode b_KG_begin 46 = .ok (.ifCond .eq 5, 3) := by decide +kernel
theorem d_KG_begin_49 : decode b_KG_begin 49 = .ok (.iconst 0, 1) := by decide +kernel
theorem d_KG_begin_50 : decode b_KG_begin 50 = .ok (.ireturn, 1) := by decide +kernel
theorem d_KG_begin_51 : decode b_KG_begin 51 = .ok (.aload_n 3, 1) := by decide +kernel
theorem d_KG_begin_52 : decode b_KG_begin 52 = .ok (.getfield 137, 3) := by decide +kernel
theorem d_KG_begin_55 : decode b_KG_begin 55 = .ok (.ifCond .lt 6, 3) := by decide +kernel
theorem d_KG_begin_58 : decode b_KG_begin 58 = .ok (.bipush (-2), 2) := by decide +kernel
theorem d_KG_begin_60 : decode b_KG_begin 60 = .ok (.ireturn, 1) := by decide +kernel
theorem d_KG_begin_61 : decode b_KG_begin 61 = .ok (.aload_n 0, 1) := by decide +kernel
theorem d_KG_begin_62 : decode b_KG_begin 62 = .ok (.iload_n 1, 1) := by decide +kernel
theorem d_KG_begin_63 : decode b_KG_begin 63 = .ok (.aload_n 3, 1) := by decide +kernel
theorem d_KG_begin_64 : decode b_KG_begin 64 = .ok (.invokevirtual 165, 3) := by decide +kernel
theorem d_KG_begin_67 : decode b_KG_begin 67 = .ok (.iconst 1, 1) := by decide +kernel
theorem d_KG_begin_68 : decode b_KG_begin 68 = .ok (.ireturn, 1) := by decide +kernel
theorem d_KG_isWorker_0 : decode b_KG_isWorker 0 = .ok (.iload_n 0, 1) := by decide +kernel
theorem d_KG_isWorker_1 : decode b_KG_isWorker 1 = .ok (.ifCond .lt 12, 3) := by decide +kernel
theorem d_KG_isWorker_4 : decode b_KG_isWorker 4 = .ok (.iload_n 0, 1) := by decide +kernel
theorem d_KG_isWorker_5 : decode b_KG_isWorker 5 = .ok (.iconst 4, 1) := by decide +kernel
theorem d_KG_isWorker_6 : decode b_KG_isWorker 6 = .ok (.if_icmp .ge 7, 3) := by decide +kernel
theorem d_KG_isWorker_9 : decode b_KG_isWorker 9 = .ok (.iconst 1, 1) := by decide +kernel
theorem d_KG_isWorker_10 : decode b_KG_isWorker 10 = .ok (.goto 4, 3) := by decide +kernel
theorem d_KG_isWorker_13 : decode b_KG_isWorker 13 = .ok (.iconst 0, 1) := by decide +kernel
theorem d_KG_isWorker_14 : decode b_KG_isWorker 14 = .ok (.ireturn, 1) := by decide +kernel
theorem d_KG_isSure_0 : decode b_KG_isSure 0 = .ok (.aload_n 1, 1) := by decide +kernel
theorem d_KG_isSure_1 : decode b_KG_isSure 1 = .ok (.invokevirtual 64, 3) := by decide +kernel
theorem d_KG_isSure_4 : decode b_KG_isSure 4 = .ok (.ifCond .ne 21, 3) := by decide +kernel
theorem d_KG_isSure_7 : decode b_KG_isSure 7 = .ok (.aload_n 1, 1) := by decide +kernel
theorem d_KG_isSure_8 : decode b_KG_isSure 8 = .ok (.getfield 68, 3) := by decide +kernel
theorem d_KG_isSure_11 : decode b_KG_isSure 11 = .ok (.ifCond .le 18, 3) := by decide +kernel
theorem d_KG_isSure_14 : decode b_KG_isSure 14 = .ok (.aload_n 1, 1) := by decide +kernel
theorem d_KG_isSure_15 : decode b_KG_isSure 15 = .ok (.getfield 72, 3) := by decide +kernel
theorem d_KG_isSure_18 : decode b_KG_isSure 18 = .ok (.aload_n 0, 1) := by decide +kernel
theorem d_KG_isSure_19 : decode b_KG_isSure 19 = .ok (.getfield 75, 3) := by decide +kernel
theorem d_KG_isSure_22 : decode b_KG_isSure 22 = .ok (.if_icmp .ne 7, 3) := by decide +kernel
theorem d_KG_isSure_25 : decode b_KG_isSure 25 = .ok (.iconst 1, 1) := by decide +kernel
theorem d_KG_isSure_26 : decode b_KG_isSure 26 = .ok (.goto 4, 3) := by decide +kernel
theorem d_KG_isSure_29 : decode b_KG_isSure 29 = .ok (.iconst 0, 1) := by decide +kernel
theorem d_KG_isSure_30 : decode b_KG_isSure 30 = .ok (.ireturn, 1) := by decide +kernel
theorem d_KG_put_0 : decode b_KG_put 0 = .ok (.aload_n 0, 1) := by decide +kernel
theorem d_KG_put_1 : decode b_KG_put 1 = .ok (.getfield 40, 3) := by decide +kernel
theorem d_KG_put_4 : decode b_KG_put 4 = .ok (.iload_n 1, 1) := by decide +kernel
theorem d_KG_put_5 : decode b_KG_put 5 = .ok (.aaload, 1) := by decide +kernel
theorem d_KG_put_6 : decode b_KG_put 6 = .ok (.astore_n 3, 1) := by decide +kernel
theorem d_KG_put_7 : decode b_KG_put 7 = .ok (.aload_n 3, 1) := by decide +kernel
theorem d_KG_put_8 : decode b_KG_put 8 = .ok (.getfield 132, 3) := by decide +kernel
theorem d_KG_put_11 : decode b_KG_put 11 = .ok (.aload_n 3, 1) := by decide +kernel
theorem d_KG_put_12 : decode b_KG_put 12 = .ok (.getfield 135, 3) := by decide +kernel
theorem d_KG_put_15 : decode b_KG_put 15 = .ok (.aload_n 2, 1) := by decide +kernel
theorem d_KG_put_16 : decode b_KG_put 16 = .ok (.aastore, 1) := by decide +kernel
theorem d_KG_put_17 : decode b_KG_put 17 = .ok (.aload_n 3, 1) := by decide +kernel
theorem d_KG_put_18 : decode b_KG_put 18 = .ok (.dup, 1) := by decide +kernel
theorem d_KG_put_19 : decode b_KG_put 19 = .ok (.getfield 135, 3) := by decide +kernel
theorem d_KG_put_22 : decode b_KG_put 22 = .ok (.iconst 1, 1) := by decide +kernel
theorem d_KG_put_23 : decode b_KG_put 23 = .ok (.iadd, 1) := by decide +kernel
theorem d_KG_put_24 : decode b_KG_put 24 = .ok (.putfield 135, 3) := by decide +kernel
theorem d_KG_put_27 : decode b_KG_put 27 = .ok (.aload_n 2, 1) := by decide +kernel
theorem d_KG_put_28 : decode b_KG_put 28 = .ok (.iload_n 1, 1) := by decide +kernel
theorem d_KG_put_29 : decode b_KG_put 29 = .ok (.putfield 137, 3) := by decide +kernel
theorem d_KG_put_32 : decode b_KG_put 32 = .ok (.aload_n 2, 1) := by decide +kernel
theorem d_KG_put_33 : decode b_KG_put 33 = .ok (.iconst 0, 1) := by decide +kernel
theorem d_KG_put_34 : decode b_KG_put 34 = .ok (.putfield 140, 3) := by decide +kernel
theorem d_KG_put_37 : decode b_KG_put 37 = .ok (.aload_n 2, 1) := by decide +kernel
theorem d_KG_put_38 : decode b_KG_put 38 = .ok (.aload_n 2, 1) := by decide +kernel
theorem d_KG_put_39 : decode b_KG_put 39 = .ok (.getfield 68, 3) := by decide +kernel
theorem d_KG_put_42 : decode b_KG_put 42 = .ok (.ifCond .le 18, 3) := by decide +kernel
theorem d_KG_put_45 : decode b_KG_put 45 = .ok (.aload_n 2, 1) := by decide +kernel
theorem d_KG_put_46 : decode b_KG_put 46 = .ok (.getfield 122, 3) := by decide +kernel
theorem d_KG_put_49 : decode b_KG_put 49 = .ok (.aload_n 2, 1) := by decide +kernel
theorem d_KG_put_50 : decode b_KG_put 50 = .ok (.getfield 72, 3) := by decide +kernel
theorem d_KG_put_53 : decode b_KG_put 53 = .ok (.if_icmp .gt 7, 3) := by decide +kernel
theorem d_KG_put_56 : decode b_KG_put 56 = .ok (.iconst 1, 1) := by decide +kernel
theorem d_KG_put_57 : decode b_KG_put 57 = .ok (.goto 4, 3) := by decide +kernel
theorem d_KG_put_60 : decode b_KG_put 60 = .ok (.iconst 0, 1) := by decide +kernel
theorem d_KG_put_61 : decode b_KG_put 61 = .ok (.putfield 143, 3) := by decide +kernel
theorem d_KG_put_64 : decode b_KG_put 64 = .ok (.aload_n 2, 1) := by decide +kernel
theorem d_KG_put_65 : decode b_KG_put 65 = .ok (.iconst 0, 1) := by decide +kernel
theorem d_KG_put_66 : decode b_KG_put 66 = .ok (.putfield 146, 3) := by decide +kernel
theorem d_KG_put_69 : decode b_KG_put 69 = .ok (.aload_n 2, 1) := by decide +kernel
theorem d_KG_put_70 : decode b_KG_put 70 = .ok (.getfield 149, 3) := by decide +kernel
theorem d_KG_put_73 : decode b_KG_put 73 = .ok (.aload_n 2, 1) := by decide +kernel
theorem d_KG_put_74 : decode b_KG_put 74 = .ok (.getfield 99, 3) := by decide +kernel
theorem d_KG_put_77 : decode b_KG_put 77 = .ok (.invokevirtual 50, 3) := by decide +kernel
theorem d_KG_put_80 : decode b_KG_put 80 = .ok (.invokevirtual 153, 3) := by decide +kernel
theorem d_KG_put_83 : decode b_KG_put 83 = .ok (.return_, 1) := by decide +kernel
theorem d_Choice_begin_0 : decode b_Choice_begin 0 = .ok (.aload_n 0, 1) := by decide +kernel
theorem d_Choice_begin_1 : decode b_Choice_begin 1 = .ok (.iload_n 1, 1) := by decide +kernel
theorem d_Choice_begin_2 : decode b_Choice_begin 2 = .ok (.invokespecial 9, 3) := by decide +kernel
theorem d_Choice_begin_5 : decode b_Choice_begin 5 = .ok (.aload_n 0, 1) := by decide +kernel
theorem d_Choice_begin_6 : decode b_Choice_begin 6 = .ok (.iconst 0, 1) := by decide +kernel
theorem d_Choice_begin_7 : decode b_Choice_begin 7 = .ok (.putfield 13, 3) := by decide +kernel
theorem d_Choice_begin_10 : decode b_Choice_begin 10 = .ok (.return_, 1) := by decide +kernel
theorem d_Great_begin_0 : decode b_Great_begin 0 = .ok (.aload_n 0, 1) := by decide +kernel
theorem d_Great_begin_1 : decode b_Great_begin 1 = .ok (.iload_n 1, 1) := by decide +kernel
theorem d_Great_begin_2 : decode b_Great_begin 2 = .ok (.invokespecial 7, 3) := by decide +kernel
theorem d_Great_begin_5 : decode b_Great_begin 5 = .ok (.aload_n 0, 1) := by decide +kernel
theorem d_Great_begin_6 : decode b_Great_begin 6 = .ok (.iload_n 1, 1) := by decide +kernel
theorem d_Great_begin_7 : decode b_Great_begin 7 = .ok (.ifCond .ne 7, 3) := by decide +kernel
theorem d_Great_begin_10 : decode b_Great_begin 10 = .ok (.iconst 1, 1) := by decide +kernel
theorem d_Great_begin_11 : decode b_Great_begin 11 = .ok (.goto 4, 3) := by decide +kernel
theorem d_Great_begin_14 : decode b_Great_begin 14 = .ok (.iconst 0, 1) := by decide +kernel
theorem d_Great_begin_15 : decode b_Great_begin 15 = .ok (.putfield 11, 3) := by decide +kernel
theorem d_Great_begin_18 : decode b_Great_begin 18 = .ok (.return_, 1) := by decide +kernel
theorem d_Fun_begin_0 : decode b_Fun_begin 0 = .ok (.aload_n 0, 1) := by decide +kernel
theorem d_Fun_begin_1 : decode b_Fun_begin 1 = .ok (.iload_n 1, 1) := by decide +kernel
theorem d_Fun_begin_2 : decode b_Fun_begin 2 = .ok (.putfield 9, 3) := by decide +kernel
theorem d_Fun_begin_5 : decode b_Fun_begin 5 = .ok (.aload_n 0, 1) := by decide +kernel
theorem d_Fun_begin_6 : decode b_Fun_begin 6 = .ok (.iconst 0, 1) := by decide +kernel
theorem d_Fun_begin_7 : decode b_Fun_begin 7 = .ok (.putfield 15, 3) := by decide +kernel
theorem d_Fun_begin_10 : decode b_Fun_begin 10 = .ok (.aload_n 0, 1) := by decide +kernel
theorem d_Fun_begin_11 : decode b_Fun_begin 11 = .ok (.lconst 0, 1) := by decide +kernel
theorem d_Fun_begin_12 : decode b_Fun_begin 12 = .ok (.putfield 18, 3) := by decide +kernel
theorem d_Fun_begin_15 : decode b_Fun_begin 15 = .ok (.aload_n 0, 1) := by decide +kernel
theorem d_Fun_begin_16 : decode b_Fun_begin 16 = .ok (.iconst 0, 1) := by decide +kernel
theorem d_Fun_begin_17 : decode b_Fun_begin 17 = .ok (.putfield 22, 3) := by decide +kernel
theorem d_Fun_begin_20 : decode b_Fun_begin 20 = .ok (.return_, 1) := by decide +kernel
theorem d_KG_step_0 : decode b_KG_step 0 = .ok (.iload_n 1, 1) := by decide +kernel
theorem d_KG_step_1 : decode b_KG_step 1 = .ok (.invokestatic 159, 3) := by decide +kernel
theorem d_KG_step_4 : decode b_KG_step 4 = .ok (.ifCond .eq 11, 3) := by decide +kernel
theorem d_KG_step_7 : decode b_KG_step 7 = .ok (.aload_n 0, 1) := by decide +kernel
theorem d_KG_step_8 : decode b_KG_step 8 = .ok (.iload_n 1, 1) := by decide +kernel
theorem d_KG_step_9 : decode b_KG_step 9 = .ok (.invokevirtual 219, 3) := by decide +kernel
theorem d_KG_step_12 : decode b_KG_step 12 = .ok (.goto 4, 3) := by decide +kernel
theorem d_KG_step_15 : decode b_KG_step 15 = .ok (.iconst (-1), 1) := by decide +kernel
theorem d_KG_step_16 : decode b_KG_step 16 = .ok (.ireturn, 1) := by decide +kernel
theorem d_KG_stepOf_0 : decode b_KG_stepOf 0 = .ok (.aload_n 0, 1) := by decide +kernel
theorem d_KG_stepOf_1 : decode b_KG_stepOf 1 = .ok (.getfield 40, 3) := by decide +kernel
theorem d_KG_stepOf_4 : decode b_KG_stepOf 4 = .ok (.iload_n 1, 1) := by decide +kernel
theorem d_KG_stepOf_5 : decode b_KG_stepOf 5 = .ok (.aaload, 1) := by decide +kernel
theorem d_KG_stepOf_6 : decode b_KG_stepOf 6 = .ok (.astore_n 2, 1) := by decide +kernel
theorem d_KG_stepOf_7 : decode b_KG_stepOf 7 = .ok (.aload_n 2, 1) := by decide +kernel
theorem d_KG_stepOf_8 : decode b_KG_stepOf 8 = .ok (.getfield 135, 3) := by decide +kernel
theorem d_KG_stepOf_11 : decode b_KG_stepOf 11 = .ok (.ifCond .ne 5, 3) := by decide +kernel
theorem d_KG_stepOf_14 : decode b_KG_stepOf 14 = .ok (.iconst 0, 1) := by decide +kernel
theorem d_KG_stepOf_15 : decode b_KG_stepOf 15 = .ok (.ireturn, 1) := by decide +kernel
theorem d_KG_stepOf_16 : decode b_KG_stepOf 16 = .ok (.aload_n 2, 1) := by decide +kernel
theorem d_KG_stepOf_17 : decode b_KG_stepOf 17 = .ok (.invokevirtual 169, 3) := by decide +kernel
theorem d_KG_stepOf_20 : decode b_KG_stepOf 20 = .ok (.astore_n 3, 1) := by decide +kernel
theorem d_KG_stepOf_21 : decode b_KG_stepOf 21 = .ok (.aload_n 3, 1) := by decide +kernel
theorem d_KG_stepOf_22 : decode b_KG_stepOf 22 = .ok (.getfield 143, 3) := by decide +kernel
theorem d_KG_stepOf_25 : decode b_KG_stepOf 25 = .ok (.ifCond .eq 11, 3) := by decide +kernel
theorem d_KG_stepOf_28 : decode b_KG_stepOf 28 = .ok (.aload_n 0, 1) := by decide +kernel
theorem d_KG_stepOf_29 : decode b_KG_stepOf 29 = .ok (.iload_n 1, 1) := by decide +kernel
theorem d_KG_stepOf_30 : decode b_KG_stepOf 30 = .ok (.aload_n 2, 1) := by decide +kernel
theorem d_KG_stepOf_31 : decode b_KG_stepOf 31 = .ok (.aload_n 3, 1) := by decide +kernel
theorem d_KG_stepOf_32 : decode b_KG_stepOf 32 = .ok (.invokevirtual 190, 3) := by decide +kernel
theorem d_KG_stepOf_35 : decode b_KG_stepOf 35 = .ok (.ireturn, 1) := by decide +kernel
theorem d_KG_stepOf_36 : decode b_KG_stepOf 36 = .ok (.aload_n 3, 1) := by decide +kernel
theorem d_KG_stepOf_37 : decode b_KG_stepOf 37 = .ok (.getfield 128, 3) := by decide +kernel
theorem d_KG_stepOf_40 : decode b_KG_stepOf 40 = .ok (.ifCond .eq 11, 3) := by decide +kernel
theorem d_KG_stepOf_43 : decode b_KG_stepOf 43 = .ok (.aload_n 0, 1) := by decide +kernel
theorem d_KG_stepOf_44 : decode b_KG_stepOf 44 = .ok (.aload_n 2, 1) := by decide +kernel
theorem d_KG_stepOf_45 : decode b_KG_stepOf 45 = .ok (.iconst 2, 1) := by decide +kernel
theorem d_KG_stepOf_46 : decode b_KG_stepOf 46 = .ok (.lconst 0, 1) := by decide +kernel
theorem d_KG_stepOf_47 : decode b_KG_stepOf 47 = .ok (.invokevirtual 194, 3) := by decide +kernel
theorem d_KG_stepOf_50 : decode b_KG_stepOf 50 = .ok (.ireturn, 1) := by decide +kernel
theorem d_KG_stepOf_51 : decode b_KG_stepOf 51 = .ok (.aload_n 3, 1) := by decide +kernel
theorem d_KG_stepOf_52 : decode b_KG_stepOf 52 = .ok (.getfield 149, 3) := by decide +kernel
theorem d_KG_stepOf_55 : decode b_KG_stepOf 55 = .ok (.invokevirtual 198, 3) := by decide +kernel
theorem d_KG_stepOf_58 : decode b_KG_stepOf 58 = .ok (.ifCond .eq 11, 3) := by decide +kernel
theorem d_KG_stepOf_61 : decode b_KG_stepOf 61 = .ok (.aload_n 0, 1) := by decide +kernel
theorem d_KG_stepOf_62 : decode b_KG_stepOf 62 = .ok (.aload_n 2, 1) := by decide +kernel
theorem d_KG_stepOf_63 : decode b_KG_stepOf 63 = .ok (.iconst 2, 1) := by decide +kernel
theorem d_KG_stepOf_64 : decode b_KG_stepOf 64 = .ok (.lconst 0, 1) := by decide +kernel
theorem d_KG_stepOf_65 : decode b_KG_stepOf 65 = .ok (.invokevirtual 194, 3) := by decide +kernel
theorem d_KG_stepOf_68 : decode b_KG_stepOf 68 = .ok (.ireturn, 1) := by decide +kernel
theorem d_KG_stepOf_69 : decode b_KG_stepOf 69 = .ok (.aload_n 3, 1) := by decide +kernel
theorem d_KG_stepOf_70 : decode b_KG_stepOf 70 = .ok (.getfield 149, 3) := by decide +kernel
theorem d_KG_stepOf_73 : decode b_KG_stepOf 73 = .ok (.invokevirtual 201, 3) := by decide +kernel
theorem d_KG_stepOf_76 : decode b_KG_stepOf 76 = .ok (.istore 4, 2) := by decide +kernel
theorem d_KG_stepOf_78 : decode b_KG_stepOf 78 = .ok (.iload 4, 2) := by decide +kernel
theorem d_KG_stepOf_80 : decode b_KG_stepOf 80 = .ok (.ifCond .ge 17, 3) := by decide +kernel
theorem d_KG_stepOf_83 : decode b_KG_stepOf 83 = .ok (.aload_n 0, 1) := by decide +kernel
theorem d_KG_stepOf_84 : decode b_KG_stepOf 84 = .ok (.aload_n 2, 1) := by decide +kernel
theorem d_KG_stepOf_85 : decode b_KG_stepOf 85 = .ok (.iconst 1, 1) := by decide +kernel
theorem d_KG_stepOf_86 : decode b_KG_stepOf 86 = .ok (.aload_n 3, 1) := by decide +kernel
theorem d_KG_stepOf_87 : decode b_KG_stepOf 87 = .ok (.getfield 149, 3) := by decide +kernel
theorem d_KG_stepOf_90 : decode b_KG_stepOf 90 = .ok (.invokevirtual 204, 3) := by decide +kernel
theorem d_KG_stepOf_93 : decode b_KG_stepOf 93 = .ok (.invokevirtual 194, 3) := by decide +kernel
theorem d_KG_stepOf_96 : decode b_KG_stepOf 96 = .ok (.ireturn, 1) := by decide +kernel
theorem d_KG_stepOf_97 : decode b_KG_stepOf 97 = .ok (.aload_n 3, 1) := by decide +kernel
theorem d_KG_stepOf_98 : decode b_KG_stepOf 98 = .ok (.getfield 99, 3) := by decide +kernel
theorem d_KG_stepOf_101 : decode b_KG_stepOf 101 = .ok (.iload 4, 2) := by decide +kernel
theorem d_KG_stepOf_103 : decode b_KG_stepOf 103 = .ok (.invokevirtual 58, 3) := by decide +kernel
theorem d_KG_stepOf_106 : decode b_KG_stepOf 106 = .ok (.checkcast 62, 3) := by decide +kernel
theorem d_KG_stepOf_109 : decode b_KG_stepOf 109 = .ok (.astore 5, 2) := by decide +kernel
theorem d_KG_stepOf_111 : decode b_KG_stepOf 111 = .ok (.aload_n 0, 1) := by decide +kernel
theorem d_KG_stepOf_112 : decode b_KG_stepOf 112 = .ok (.aload 5, 2) := by decide +kernel
theorem d_KG_stepOf_114 : decode b_KG_stepOf 114 = .ok (.invokevirtual 162, 3) := by decide +kernel
theorem d_KG_stepOf_117 : decode b_KG_stepOf 117 = .ok (.ifCond .ne 11, 3) := by decide +kernel
theorem d_KG_stepOf_120 : decode b_KG_stepOf 120 = .ok (.aload_n 0, 1) := by decide +kernel
theorem d_KG_stepOf_121 : decode b_KG_stepOf 121 = .ok (.iload_n 1, 1) := by decide +kernel
theorem d_KG_stepOf_122 : decode b_KG_stepOf 122 = .ok (.aload 5, 2) := by decide +kernel
theorem d_KG_stepOf_124 : decode b_KG_stepOf 124 = .ok (.invokevirtual 208, 3) := by decide +kernel
theorem d_KG_stepOf_127 : decode b_KG_stepOf 127 = .ok (.ireturn, 1) := by decide +kernel
theorem d_KG_stepOf_128 : decode b_KG_stepOf 128 = .ok (.aload_n 3, 1) := by decide +kernel
theorem d_KG_stepOf_129 : decode b_KG_stepOf 129 = .ok (.getfield 177, 3) := by decide +kernel
theorem d_KG_stepOf_132 : decode b_KG_stepOf 132 = .ok (.aload_n 3, 1) := by decide +kernel
theorem d_KG_stepOf_133 : decode b_KG_stepOf 133 = .ok (.getfield 146, 3) := by decide +kernel
theorem d_KG_stepOf_136 : decode b_KG_stepOf 136 = .ok (.iload 4, 2) := by decide +kernel
theorem d_KG_stepOf_138 : decode b_KG_stepOf 138 = .ok (.iastore, 1) := by decide +kernel
theorem d_KG_stepOf_139 : decode b_KG_stepOf 139 = .ok (.aload_n 3, 1) := by decide +kernel
theorem d_KG_stepOf_140 : decode b_KG_stepOf 140 = .ok (.dup, 1) := by decide +kernel
theorem d_KG_stepOf_141 : decode b_KG_stepOf 141 = .ok (.getfield 146, 3) := by decide +kernel
theorem d_KG_stepOf_144 : decode b_KG_stepOf 144 = .ok (.iconst 1, 1) := by decide +kernel
theorem d_KG_stepOf_145 : decode b_KG_stepOf 145 = .ok (.iadd, 1) := by decide +kernel
theorem d_KG_stepOf_146 : decode b_KG_stepOf 146 = .ok (.putfield 146, 3) := by decide +kernel
theorem d_KG_stepOf_149 : decode b_KG_stepOf 149 = .ok (.aload 5, 2) := by decide +kernel
theorem d_KG_stepOf_151 : decode b_KG_stepOf 151 = .ok (.getfield 68, 3) := by decide +kernel
theorem d_KG_stepOf_154 : decode b_KG_stepOf 154 = .ok (.iconst 1, 1) := by decide +kernel
theorem d_KG_stepOf_155 : decode b_KG_stepOf 155 = .ok (.if_icmp .eq 11, 3) := by decide +kernel
theorem d_KG_stepOf_158 : decode b_KG_stepOf 158 = .ok (.aload_n 0, 1) := by decide +kernel
theorem d_KG_stepOf_159 : decode b_KG_stepOf 159 = .ok (.aload_n 2, 1) := by decide +kernel
theorem d_KG_stepOf_160 : decode b_KG_stepOf 160 = .ok (.iconst 3, 1) := by decide +kernel
theorem d_KG_stepOf_161 : decode b_KG_stepOf 161 = .ok (.lconst 0, 1) := by decide +kernel
theorem d_KG_stepOf_162 : decode b_KG_stepOf 162 = .ok (.invokevirtual 194, 3) := by decide +kernel
theorem d_KG_stepOf_165 : decode b_KG_stepOf 165 = .ok (.ireturn, 1) := by decide +kernel
theorem d_KG_stepOf_166 : decode b_KG_stepOf 166 = .ok (.aload_n 3, 1) := by decide +kernel
theorem d_KG_stepOf_167 : decode b_KG_stepOf 167 = .ok (.getfield 149, 3) := by decide +kernel
theorem d_KG_stepOf_170 : decode b_KG_stepOf 170 = .ok (.aload 5, 2) := by decide +kernel
theorem d_KG_stepOf_172 : decode b_KG_stepOf 172 = .ok (.getfield 81, 3) := by decide +kernel
theorem d_KG_stepOf_175 : decode b_KG_stepOf 175 = .ok (.invokevirtual 212, 3) := by decide +kernel
theorem d_KG_stepOf_178 : decode b_KG_stepOf 178 = .ok (.bipush 6, 2) := by decide +kernel
theorem d_KG_stepOf_180 : decode b_KG_stepOf 180 = .ok (.ireturn, 1) := by decide +kernel
theorem d_KG_check_0 : decode b_KG_check 0 = .ok (.aload_n 3, 1) := by decide +kernel
theorem d_KG_check_1 : decode b_KG_check 1 = .ok (.getfield 140, 3) := by decide +kernel
theorem d_KG_check_4 : decode b_KG_check 4 = .ok (.aload_n 3, 1) := by decide +kernel
theorem d_KG_check_5 : decode b_KG_check 5 = .ok (.getfield 180, 3) := by decide +kernel
theorem d_KG_check_8 : decode b_KG_check 8 = .ok (.if_icmp .ne 19, 3) := by decide +kernel
theorem d_KG_check_11 : decode b_KG_check 11 = .ok (.aload_n 3, 1) := by decide +kernel
theorem d_KG_check_12 : decode b_KG_check 12 = .ok (.dup, 1) := by decide +kernel
theorem d_KG_check_13 : decode b_KG_check 13 = .ok (.getfield 216, 3) := by decide +kernel
theorem d_KG_check_16 : decode b_KG_check 16 = .ok (.iconst 1, 1) := by decide +kernel
theorem d_KG_check_17 : decode b_KG_check 17 = .ok (.iadd, 1) := by decide +kernel
theorem d_KG_check_18 : decode b_KG_check 18 = .ok (.putfield 216, 3) := by decide +kernel
theorem d_KG_check_21 : decode b_KG_check 21 = .ok (.aload_n 0, 1) := by decide +kernel
theorem d_KG_check_22 : decode b_KG_check 22 = .ok (.aload_n 2, 1) := by decide +kernel
theorem d_KG_check_23 : decode b_KG_check 23 = .ok (.invokevirtual 186, 3) := by decide +kernel
theorem d_KG_check_26 : decode b_KG_check 26 = .ok (.ireturn, 1) := by decide +kernel
theorem d_KG_check_27 : decode b_KG_check 27 = .ok (.aload_n 3, 1) := by decide +kernel
theorem d_KG_check_28 : decode b_KG_check 28 = .ok (.getfield 99, 3) := by decide +kernel
theorem d_KG_check_31 : decode b_KG_check 31 = .ok (.aload_n 3, 1) := by decide +kernel
theorem d_KG_check_32 : decode b_KG_check 32 = .ok (.getfield 173, 3) := by decide +kernel
theorem d_KG_check_35 : decode b_KG_check 35 = .ok (.aload_n 3, 1) := by decide +kernel
theorem d_KG_check_36 : decode b_KG_check 36 = .ok (.getfield 140, 3) := by decide +kernel
theorem d_KG_check_39 : decode b_KG_check 39 = .ok (.iaload, 1) := by decide +kernel
theorem d_KG_check_40 : decode b_KG_check 40 = .ok (.invokevirtual 58, 3) := by decide +kernel
theorem d_KG_check_43 : decode b_KG_check 43 = .ok (.checkcast 62, 3) := by decide +kernel
theorem d_KG_check_46 : decode b_KG_check 46 = .ok (.astore 4, 2) := by decide +kernel
theorem d_KG_check_48 : decode b_KG_check 48 = .ok (.aload_n 0, 1) := by decide +kernel
theorem d_KG_check_49 : decode b_KG_check 49 = .ok (.aload 4, 2) := by decide +kernel
theorem d_KG_check_51 : decode b_KG_check 51 = .ok (.invokevirtual 162, 3) := by decide +kernel
theorem d_KG_check_54 : decode b_KG_check 54 = .ok (.ifCond .ne 11, 3) := by decide +kernel
theorem d_KG_check_57 : decode b_KG_check 57 = .ok (.aload_n 0, 1) := by decide +kernel
theorem d_KG_check_58 : decode b_KG_check 58 = .ok (.iload_n 1, 1) := by decide +kernel
theorem d_KG_check_59 : decode b_KG_check 59 = .ok (.aload 4, 2) := by decide +kernel
theorem d_KG_check_61 : decode b_KG_check 61 = .ok (.invokevirtual 208, 3) := by decide +kernel
theorem d_KG_check_64 : decode b_KG_check 64 = .ok (.ireturn, 1) := by decide +kernel
theorem d_KG_check_65 : decode b_KG_check 65 = .ok (.aload 4, 2) := by decide +kernel
theorem d_KG_check_67 : decode b_KG_check 67 = .ok (.getfield 85, 3) := by decide +kernel
theorem d_KG_check_70 : decode b_KG_check 70 = .ok (.aload_n 3, 1) := by decide +kernel
theorem d_KG_check_71 : decode b_KG_check 71 = .ok (.getfield 72, 3) := by decide +kernel
theorem d_KG_check_74 : decode b_KG_check 74 = .ok (.if_icmp .le 10, 3) := by decide +kernel
theorem d_KG_check_77 : decode b_KG_check 77 = .ok (.aload_n 3, 1) := by decide +kernel
theorem d_KG_check_78 : decode b_KG_check 78 = .ok (.iconst 0, 1) := by decide +kernel
theorem d_KG_check_79 : decode b_KG_check 79 = .ok (.putfield 143, 3) := by decide +kernel
theorem d_KG_check_82 : decode b_KG_check 82 = .ok (.iconst 5, 1) := by decide +kernel
theorem d_KG_check_83 : decode b_KG_check 83 = .ok (.ireturn, 1) := by decide +kernel
theorem d_KG_check_84 : decode b_KG_check 84 = .ok (.aload_n 3, 1) := by decide +kernel
theorem d_KG_check_85 : decode b_KG_check 85 = .ok (.dup, 1) := by decide +kernel
theorem d_KG_check_86 : decode b_KG_check 86 = .ok (.getfield 140, 3) := by decide +kernel
theorem d_KG_check_89 : decode b_KG_check 89 = .ok (.iconst 1, 1) := by decide +kernel
theorem d_KG_check_90 : decode b_KG_check 90 = .ok (.iadd, 1) := by decide +kernel
theorem d_KG_check_91 : decode b_KG_check 91 = .ok (.putfield 140, 3) := by decide +kernel
theorem d_KG_check_94 : decode b_KG_check 94 = .ok (.iconst 4, 1) := by decide +kernel
theorem d_KG_check_95 : decode b_KG_check 95 = .ok (.ireturn, 1) := by decide +kernel
theorem d_KG_found_0 : decode b_KG_found 0 = .ok (.aload_n 1, 1) := by decide +kernel
theorem d_KG_found_1 : decode b_KG_found 1 = .ok (.invokevirtual 169, 3) := by decide +kernel
theorem d_KG_found_4 : decode b_KG_found 4 = .ok (.astore_n 2, 1) := by decide +kernel
theorem d_KG_found_5 : decode b_KG_found 5 = .ok (.aload_n 2, 1) := by decide +kernel
theorem d_KG_found_6 : decode b_KG_found 6 = .ok (.aload_n 0, 1) := by decide +kernel
theorem d_KG_found_7 : decode b_KG_found 7 = .ok (.getfield 75, 3) := by decide +kernel
theorem d_KG_found_10 : decode b_KG_found 10 = .ok (.putfield 72, 3) := by decide +kernel
theorem d_KG_found_13 : decode b_KG_found 13 = .ok (.aload_n 2, 1) := by decide +kernel
theorem d_KG_found_14 : decode b_KG_found 14 = .ok (.iconst (-1), 1) := by decide +kernel
theorem d_KG_found_15 : decode b_KG_found 15 = .ok (.putfield 137, 3) := by decide +kernel
theorem d_KG_found_18 : decode b_KG_found 18 = .ok (.aload_n 1, 1) := by decide +kernel
theorem d_KG_found_19 : decode b_KG_found 19 = .ok (.dup, 1) := by decide +kernel
theorem d_KG_found_20 : decode b_KG_found 20 = .ok (.getfield 135, 3) := by decide +kernel
theorem d_KG_found_23 : decode b_KG_found 23 = .ok (.iconst 1, 1) := by decide +kernel
theorem d_KG_found_24 : decode b_KG_found 24 = .ok (.isub, 1) := by decide +kernel
theorem d_KG_found_25 : decode b_KG_found 25 = .ok (.putfield 135, 3) := by decide +kernel
theorem d_KG_found_28 : decode b_KG_found 28 = .ok (.iconst 2, 1) := by decide +kernel
theorem d_KG_found_29 : decode b_KG_found 29 = .ok (.ireturn, 1) := by decide +kernel
theorem d_KG_goesDown_0 : decode b_KG_goesDown 0 = .ok (.aload_n 2, 1) := by decide +kernel
theorem d_KG_goesDown_1 : decode b_KG_goesDown 1 = .ok (.getfield 137, 3) := by decide +kernel
theorem d_KG_goesDown_4 : decode b_KG_goesDown 4 = .ok (.ifCond .lt 5, 3) := by decide +kernel
theorem d_KG_goesDown_7 : decode b_KG_goesDown 7 = .ok (.iconst 3, 1) := by decide +kernel
theorem d_KG_goesDown_8 : decode b_KG_goesDown 8 = .ok (.ireturn, 1) := by decide +kernel
theorem d_KG_goesDown_9 : decode b_KG_goesDown 9 = .ok (.aload_n 0, 1) := by decide +kernel
theorem d_KG_goesDown_10 : decode b_KG_goesDown 10 = .ok (.iload_n 1, 1) := by decide +kernel
theorem d_KG_goesDown_11 : decode b_KG_goesDown 11 = .ok (.aload_n 2, 1) := by decide +kernel
theorem d_KG_goesDown_12 : decode b_KG_goesDown 12 = .ok (.invokevirtual 165, 3) := by decide +kernel
theorem d_KG_goesDown_15 : decode b_KG_goesDown 15 = .ok (.iconst 1, 1) := by decide +kernel
theorem d_KG_goesDown_16 : decode b_KG_goesDown 16 = .ok (.ireturn, 1) := by decide +kernel
theorem d_KG_ends_0 : decode b_KG_ends 0 = .ok (.aload_n 1, 1) := by decide +kernel
theorem d_KG_ends_1 : decode b_KG_ends 1 = .ok (.invokevirtual 169, 3) := by decide +kernel
theorem d_KG_ends_4 : decode b_KG_ends 4 = .ok (.astore 5, 2) := by decide +kernel
theorem d_KG_ends_6 : decode b_KG_ends 6 = .ok (.aload 5, 2) := by decide +kernel
theorem d_KG_ends_8 : decode b_KG_ends 8 = .ok (.getfield 68, 3) := by decide +kernel
theorem d_KG_ends_11 : decode b_KG_ends 11 = .ok (.iload_n 2, 1) := by decide +kernel
theorem d_KG_ends_12 : decode b_KG_ends 12 = .ok (.if_icmp .ne 13, 3) := by decide +kernel
theorem d_KG_ends_15 : decode b_KG_ends 15 = .ok (.aload 5, 2) := by decide +kernel
theorem d_KG_ends_17 : decode b_KG_ends 17 = .ok (.getfield 81, 3) := by decide +kernel
theorem d_KG_ends_20 : decode b_KG_ends 20 = .ok (.lload_n 3, 1) := by decide +kernel
theorem d_KG_ends_21 : decode b_KG_ends 21 = .ok (.lcmp, 1) := by decide +kernel
theorem d_KG_ends_22 : decode b_KG_ends 22 = .ok (.ifCond .eq 12, 3) := by decide +kernel
theorem d_KG_ends_25 : decode b_KG_ends 25 = .ok (.aload 5, 2) := by decide +kernel
theorem d_KG_ends_27 : decode b_KG_ends 27 = .ok (.aload_n 0, 1) := by decide +kernel
theorem d_KG_ends_28 : decode b_KG_ends 28 = .ok (.getfield 75, 3) := by decide +kernel
theorem d_KG_ends_31 : decode b_KG_ends 31 = .ok (.putfield 85, 3) := by decide +kernel
theorem d_KG_ends_34 : decode b_KG_ends 34 = .ok (.aload 5, 2) := by decide +kernel
theorem d_KG_ends_36 : decode b_KG_ends 36 = .ok (.iload_n 2, 1) := by decide +kernel
theorem d_KG_ends_37 : decode b_KG_ends 37 = .ok (.putfield 68, 3) := by decide +kernel
theorem d_KG_ends_40 : decode b_KG_ends 40 = .ok (.aload 5, 2) := by decide +kernel
theorem d_KG_ends_42 : decode b_KG_ends 42 = .ok (.lload_n 3, 1) := by decide +kernel
theorem d_KG_ends_43 : decode b_KG_ends 43 = .ok (.putfield 81, 3) := by decide +kernel
theorem d_KG_ends_46 : decode b_KG_ends 46 = .ok (.aload 5, 2) := by decide +kernel
theorem d_KG_ends_48 : decode b_KG_ends 48 = .ok (.getfield 173, 3) := by decide +kernel
theorem d_KG_ends_51 : decode b_KG_ends 51 = .ok (.astore 6, 2) := by decide +kernel
theorem d_KG_ends_53 : decode b_KG_ends 53 = .ok (.aload 5, 2) := by decide +kernel
theorem d_KG_ends_55 : decode b_KG_ends 55 = .ok (.aload 5, 2) := by decide +kernel
theorem d_KG_ends_57 : decode b_KG_ends 57 = .ok (.getfield 177, 3) := by decide +kernel
theorem d_KG_ends_60 : decode b_KG_ends 60 = .ok (.putfield 173, 3) := by decide +kernel
theorem d_KG_ends_63 : decode b_KG_ends 63 = .ok (.aload 5, 2) := by decide +kernel
theorem d_KG_ends_65 : decode b_KG_ends 65 = .ok (.aload 6, 2) := by decide +kernel
theorem d_KG_ends_67 : decode b_KG_ends 67 = .ok (.putfield 177, 3) := by decide +kernel
theorem d_KG_ends_70 : decode b_KG_ends 70 = .ok (.aload 5, 2) := by decide +kernel
theorem d_KG_ends_72 : decode b_KG_ends 72 = .ok (.aload 5, 2) := by decide +kernel
theorem d_KG_ends_74 : decode b_KG_ends 74 = .ok (.getfield 146, 3) := by decide +kernel
theorem d_KG_ends_77 : decode b_KG_ends 77 = .ok (.putfield 180, 3) := by decide +kernel
theorem d_KG_ends_80 : decode b_KG_ends 80 = .ok (.aload 5, 2) := by decide +kernel
theorem d_KG_ends_82 : decode b_KG_ends 82 = .ok (.dup, 1) := by decide +kernel
theorem d_KG_ends_83 : decode b_KG_ends 83 = .ok (.getfield 183, 3) := by decide +kernel
theorem d_KG_ends_86 : decode b_KG_ends 86 = .ok (.iconst 1, 1) := by decide +kernel
theorem d_KG_ends_87 : decode b_KG_ends 87 = .ok (.iadd, 1) := by decide +kernel
theorem d_KG_ends_88 : decode b_KG_ends 88 = .ok (.putfield 183, 3) := by decide +kernel
theorem d_KG_ends_91 : decode b_KG_ends 91 = .ok (.aload_n 0, 1) := by decide +kernel
theorem d_KG_ends_92 : decode b_KG_ends 92 = .ok (.aload_n 1, 1) := by decide +kernel
theorem d_KG_ends_93 : decode b_KG_ends 93 = .ok (.invokevirtual 186, 3) := by decide +kernel
theorem d_KG_ends_96 : decode b_KG_ends 96 = .ok (.ireturn, 1) := by decide +kernel
theorem d_Fun_fails_0 : decode b_Fun_fails 0 = .ok (.aload_n 0, 1) := by decide +kernel
theorem d_Fun_fails_1 : decode b_Fun_fails 1 = .ok (.getfield 22, 3) := by decide +kernel
theorem d_Fun_fails_4 : decode b_Fun_fails 4 = .ok (.ireturn, 1) := by decide +kernel
theorem d_Choice_next_0 : decode b_Choice_next 0 = .ok (.aload_n 0, 1) := by decide +kernel
theorem d_Choice_next_1 : decode b_Choice_next 1 = .ok (.getfield 13, 3) := by decide +kernel
theorem d_Choice_next_4 : decode b_Choice_next 4 = .ok (.ifCond .eq 10, 3) := by decide +kernel
theorem d_Choice_next_7 : decode b_Choice_next 7 = .ok (.aload_n 0, 1) := by decide +kernel
theorem d_Choice_next_8 : decode b_Choice_next 8 = .ok (.getfield 19, 3) := by decide +kernel
theorem d_Choice_next_11 : decode b_Choice_next 11 = .ok (.goto 15, 3) := by decide +kernel
theorem d_Choice_next_14 : decode b_Choice_next 14 = .ok (.aload_n 0, 1) := by decide +kernel
theorem d_Choice_next_15 : decode b_Choice_next 15 = .ok (.getfield 23, 3) := by decide +kernel
theorem d_Choice_next_18 : decode b_Choice_next 18 = .ok (.ifCond .le 7, 3) := by decide +kernel
theorem d_Choice_next_21 : decode b_Choice_next 21 = .ok (.iconst 0, 1) := by decide +kernel
theorem d_Choice_next_22 : decode b_Choice_next 22 = .ok (.goto 4, 3) := by decide +kernel
theorem d_Choice_next_25 : decode b_Choice_next 25 = .ok (.iconst (-1), 1) := by decide +kernel
theorem d_Choice_next_26 : decode b_Choice_next 26 = .ok (.ireturn, 1) := by decide +kernel
theorem d_Fun_next_0 : decode b_Fun_next 0 = .ok (.aload_n 0, 1) := by decide +kernel
theorem d_Fun_next_1 : decode b_Fun_next 1 = .ok (.getfield 15, 3) := by decide +kernel
theorem d_Fun_next_4 : decode b_Fun_next 4 = .ok (.aload_n 0, 1) := by decide +kernel
theorem d_Fun_next_5 : decode b_Fun_next 5 = .ok (.getfield 9, 3) := by decide +kernel
theorem d_Fun_next_8 : decode b_Fun_next 8 = .ok (.if_icmp .ge 10, 3) := by decide +kernel
theorem d_Fun_next_11 : decode b_Fun_next 11 = .ok (.aload_n 0, 1) := by decide +kernel
theorem d_Fun_next_12 : decode b_Fun_next 12 = .ok (.getfield 15, 3) := by decide +kernel
theorem d_Fun_next_15 : decode b_Fun_next 15 = .ok (.goto 4, 3) := by decide +kernel
theorem d_Fun_next_18 : decode b_Fun_next 18 = .ok (.iconst (-1), 1) := by decide +kernel
theorem d_Fun_next_19 : decode b_Fun_next 19 = .ok (.ireturn, 1) := by decide +kernel
theorem d_Sum_result_0 : decode b_Sum_result 0 = .ok (.aload_n 0, 1) := by decide +kernel
theorem d_Sum_result_1 : decode b_Sum_result 1 = .ok (.getfield 7, 3) := by decide +kernel
theorem d_Sum_result_4 : decode b_Sum_result 4 = .ok (.ifCond .eq 12, 3) := by decide +kernel
theorem d_Sum_result_7 : decode b_Sum_result 7 = .ok (.aload_n 0, 1) := by decide +kernel
theorem d_Sum_result_8 : decode b_Sum_result 8 = .ok (.getfield 13, 3) := by decide +kernel
theorem d_Sum_result_11 : decode b_Sum_result 11 = .ok (.lconst 1, 1) := by decide +kernel
theorem d_Sum_result_12 : decode b_Sum_result 12 = .ok (.land, 1) := by decide +kernel
theorem d_Sum_result_13 : decode b_Sum_result 13 = .ok (.goto 7, 3) := by decide +kernel
theorem d_Sum_result_16 : decode b_Sum_result 16 = .ok (.aload_n 0, 1) := by decide +kernel
theorem d_Sum_result_17 : decode b_Sum_result 17 = .ok (.getfield 13, 3) := by decide +kernel
theorem d_Sum_result_20 : decode b_Sum_result 20 = .ok (.lreturn, 1) := by decide +kernel
theorem d_Fun_result_0 : decode b_Fun_result 0 = .ok (.aload_n 0, 1) := by decide +kernel
theorem d_Fun_result_1 : decode b_Fun_result 1 = .ok (.getfield 18, 3) := by decide +kernel
theorem d_Fun_result_4 : decode b_Fun_result 4 = .ok (.lreturn, 1) := by decide +kernel
theorem d_Choice_take_0 : decode b_Choice_take 0 = .ok (.aload_n 0, 1) := by decide +kernel
theorem d_Choice_take_1 : decode b_Choice_take 1 = .ok (.lload_n 1, 1) := by decide +kernel
theorem d_Choice_take_2 : decode b_Choice_take 2 = .ok (.invokevirtual 26, 3) := by decide +kernel
theorem d_Choice_take_5 : decode b_Choice_take 5 = .ok (.aload_n 0, 1) := by decide +kernel
theorem d_Choice_take_6 : decode b_Choice_take 6 = .ok (.getfield 13, 3) := by decide +kernel
theorem d_Choice_take_9 : decode b_Choice_take 9 = .ok (.ifCond .ne 11, 3) := by decide +kernel
theorem d_Choice_take_12 : decode b_Choice_take 12 = .ok (.aload_n 0, 1) := by decide +kernel
theorem d_Choice_take_13 : decode b_Choice_take 13 = .ok (.getfield 23, 3) := by decide +kernel
theorem d_Choice_take_16 : decode b_Choice_take 16 = .ok (.iconst 1, 1) := by decide +kernel
theorem d_Choice_take_17 : decode b_Choice_take 17 = .ok (.if_icmp .ne 14, 3) := by decide +kernel
theorem d_Choice_take_20 : decode b_Choice_take 20 = .ok (.aload_n 0, 1) := by decide +kernel
theorem d_Choice_take_21 : decode b_Choice_take 21 = .ok (.iconst 1, 1) := by decide +kernel
theorem d_Choice_take_22 : decode b_Choice_take 22 = .ok (.putfield 13, 3) := by decide +kernel
theorem d_Choice_take_25 : decode b_Choice_take 25 = .ok (.aload_n 0, 1) := by decide +kernel
theorem d_Choice_take_26 : decode b_Choice_take 26 = .ok (.iconst (-1), 1) := by decide +kernel
theorem d_Choice_take_27 : decode b_Choice_take 27 = .ok (.putfield 19, 3) := by decide +kernel
theorem d_Choice_take_30 : decode b_Choice_take 30 = .ok (.return_, 1) := by decide +kernel
theorem d_Choice_take_31 : decode b_Choice_take 31 = .ok (.aload_n 0, 1) := by decide +kernel
theorem d_Choice_take_32 : decode b_Choice_take 32 = .ok (.iconst 1, 1) := by decide +kernel
theorem d_Choice_take_33 : decode b_Choice_take 33 = .ok (.putfield 13, 3) := by decide +kernel
theorem d_Choice_take_36 : decode b_Choice_take 36 = .ok (.lload_n 1, 1) := by decide +kernel
theorem d_Choice_take_37 : decode b_Choice_take 37 = .ok (.aload_n 0, 1) := by decide +kernel
theorem d_Choice_take_38 : decode b_Choice_take 38 = .ok (.getfield 23, 3) := by decide +kernel
theorem d_Choice_take_41 : decode b_Choice_take 41 = .ok (.iconst 1, 1) := by decide +kernel
theorem d_Choice_take_42 : decode b_Choice_take 42 = .ok (.isub, 1) := by decide +kernel
theorem d_Choice_take_43 : decode b_Choice_take 43 = .ok (.i2l, 1) := by decide +kernel
theorem d_Choice_take_44 : decode b_Choice_take 44 = .ok (.lrem, 1) := by decide +kernel
theorem d_Choice_take_45 : decode b_Choice_take 45 = .ok (.lstore_n 3, 1) := by decide +kernel
theorem d_Choice_take_46 : decode b_Choice_take 46 = .ok (.aload_n 0, 1) := by decide +kernel
theorem d_Choice_take_47 : decode b_Choice_take 47 = .ok (.iconst 1, 1) := by decide +kernel
theorem d_Choice_take_48 : decode b_Choice_take 48 = .ok (.lload_n 3, 1) := by decide +kernel
theorem d_Choice_take_49 : decode b_Choice_take 49 = .ok (.lconst 0, 1) := by decide +kernel
theorem d_Choice_take_50 : decode b_Choice_take 50 = .ok (.lcmp, 1) := by decide +kernel
theorem d_Choice_take_51 : decode b_Choice_take 51 = .ok (.ifCond .ge 15, 3) := by decide +kernel
theorem d_Choice_take_54 : decode b_Choice_take 54 = .ok (.lload_n 3, 1) := by decide +kernel
theorem d_Choice_take_55 : decode b_Choice_take 55 = .ok (.aload_n 0, 1) := by decide +kernel
theorem d_Choice_take_56 : decode b_Choice_take 56 = .ok (.getfield 23, 3) := by decide +kernel
theorem d_Choice_take_59 : decode b_Choice_take 59 = .ok (.i2l, 1) := by decide +kernel
theorem d_Choice_take_60 : decode b_Choice_take 60 = .ok (.ladd, 1) := by decide +kernel
theorem d_Choice_take_61 : decode b_Choice_take 61 = .ok (.lconst 1, 1) := by decide +kernel
theorem d_Choice_take_62 : decode b_Choice_take 62 = .ok (.lsub, 1) := by decide +kernel
theorem d_Choice_take_63 : decode b_Choice_take 63 = .ok (.goto 4, 3) := by decide +kernel
theorem d_Choice_take_66 : decode b_Choice_take 66 = .ok (.lload_n 3, 1) := by decide +kernel
theorem d_Choice_take_67 : decode b_Choice_take 67 = .ok (.l2i, 1) := by decide +kernel
theorem d_Choice_take_68 : decode b_Choice_take 68 = .ok (.iadd, 1) := by decide +kernel
theorem d_Choice_take_69 : decode b_Choice_take 69 = .ok (.putfield 19, 3) := by decide +kernel
theorem d_Choice_take_72 : decode b_Choice_take 72 = .ok (.return_, 1) := by decide +kernel
theorem d_Choice_with_0 : decode b_Choice_with 0 = .ok (.aload_n 0, 1) := by decide +kernel
theorem d_Choice_with_1 : decode b_Choice_with 1 = .ok (.lload_n 1, 1) := by decide +kernel
theorem d_Choice_with_2 : decode b_Choice_with 2 = .ok (.putfield 30, 3) := by decide +kernel
theorem d_Choice_with_5 : decode b_Choice_with 5 = .ok (.return_, 1) := by decide +kernel
theorem d_Fun_take_0 : decode b_Fun_take 0 = .ok (.aload_n 0, 1) := by decide +kernel
theorem d_Fun_take_1 : decode b_Fun_take 1 = .ok (.lload_n 1, 1) := by decide +kernel
theorem d_Fun_take_2 : decode b_Fun_take 2 = .ok (.invokevirtual 26, 3) := by decide +kernel
theorem d_Fun_take_5 : decode b_Fun_take 5 = .ok (.aload_n 0, 1) := by decide +kernel
theorem d_Fun_take_6 : decode b_Fun_take 6 = .ok (.dup, 1) := by decide +kernel
theorem d_Fun_take_7 : decode b_Fun_take 7 = .ok (.getfield 15, 3) := by decide +kernel
theorem d_Fun_take_10 : decode b_Fun_take 10 = .ok (.iconst 1, 1) := by decide +kernel
theorem d_Fun_take_11 : decode b_Fun_take 11 = .ok (.iadd, 1) := by decide +kernel
theorem d_Fun_take_12 : decode b_Fun_take 12 = .ok (.putfield 15, 3) := by decide +kernel
theorem d_Fun_take_15 : decode b_Fun_take 15 = .ok (.return_, 1) := by decide +kernel
theorem d_First_with_0 : decode b_First_with 0 = .ok (.aload_n 0, 1) := by decide +kernel
theorem d_First_with_1 : decode b_First_with 1 = .ok (.lload_n 1, 1) := by decide +kernel
theorem d_First_with_2 : decode b_First_with 2 = .ok (.putfield 7, 3) := by decide +kernel
theorem d_First_with_5 : decode b_First_with 5 = .ok (.lload_n 1, 1) := by decide +kernel
theorem d_First_with_6 : decode b_First_with 6 = .ok (.lconst 0, 1) := by decide +kernel
theorem d_First_with_7 : decode b_First_with 7 = .ok (.lcmp, 1) := by decide +kernel
theorem d_First_with_8 : decode b_First_with 8 = .ok (.ifCond .eq 11, 3) := by decide +kernel
theorem d_First_with_11 : decode b_First_with 11 = .ok (.aload_n 0, 1) := by decide +kernel
theorem d_First_with_12 : decode b_First_with 12 = .ok (.aload_n 0, 1) := by decide +kernel
theorem d_First_with_13 : decode b_First_with 13 = .ok (.getfield 13, 3) := by decide +kernel
theorem d_First_with_16 : decode b_First_with 16 = .ok (.putfield 17, 3) := by decide +kernel
theorem d_First_with_19 : decode b_First_with 19 = .ok (.return_, 1) := by decide +kernel
theorem d_Great_with_0 : decode b_Great_with 0 = .ok (.aload_n 0, 1) := by decide +kernel
theorem d_Great_with_1 : decode b_Great_with 1 = .ok (.aload_n 0, 1) := by decide +kernel
theorem d_Great_with_2 : decode b_Great_with 2 = .ok (.getfield 17, 3) := by decide +kernel
theorem d_Great_with_5 : decode b_Great_with 5 = .ok (.ifCond .eq 12, 3) := by decide +kernel
theorem d_Great_with_8 : decode b_Great_with 8 = .ok (.lload_n 1, 1) := by decide +kernel
theorem d_Great_with_9 : decode b_Great_with 9 = .ok (.aload_n 0, 1) := by decide +kernel
theorem d_Great_with_10 : decode b_Great_with 10 = .ok (.getfield 21, 3) := by decide +kernel
theorem d_Great_with_13 : decode b_Great_with 13 = .ok (.lcmp, 1) := by decide +kernel
theorem d_Great_with_14 : decode b_Great_with 14 = .ok (.ifCond .le 7, 3) := by decide +kernel
theorem d_Great_with_17 : decode b_Great_with 17 = .ok (.lload_n 1, 1) := by decide +kernel
theorem d_Great_with_18 : decode b_Great_with 18 = .ok (.goto 7, 3) := by decide +kernel
theorem d_Great_with_21 : decode b_Great_with 21 = .ok (.aload_n 0, 1) := by decide +kernel
theorem d_Great_with_22 : decode b_Great_with 22 = .ok (.getfield 21, 3) := by decide +kernel
theorem d_Great_with_25 : decode b_Great_with 25 = .ok (.putfield 21, 3) := by decide +kernel
theorem d_Great_with_28 : decode b_Great_with 28 = .ok (.return_, 1) := by decide +kernel
theorem d_Quot_with_0 : decode b_Quot_with 0 = .ok (.aload_n 0, 1) := by decide +kernel
theorem d_Quot_with_1 : decode b_Quot_with 1 = .ok (.getfield 7, 3) := by decide +kernel
theorem d_Quot_with_4 : decode b_Quot_with 4 = .ok (.ifCond .ne 9, 3) := by decide +kernel
theorem d_Quot_with_7 : decode b_Quot_with 7 = .ok (.aload_n 0, 1) := by decide +kernel
theorem d_Quot_with_8 : decode b_Quot_with 8 = .ok (.lload_n 1, 1) := by decide +kernel
theorem d_Quot_with_9 : decode b_Quot_with 9 = .ok (.putfield 13, 3) := by decide +kernel
theorem d_Quot_with_12 : decode b_Quot_with 12 = .ok (.return_, 1) := by decide +kernel
theorem d_Quot_with_13 : decode b_Quot_with 13 = .ok (.aload_n 0, 1) := by decide +kernel
theorem d_Quot_with_14 : decode b_Quot_with 14 = .ok (.lload_n 1, 1) := by decide +kernel
theorem d_Quot_with_15 : decode b_Quot_with 15 = .ok (.lconst 0, 1) := by decide +kernel
theorem d_Quot_with_16 : decode b_Quot_with 16 = .ok (.lcmp, 1) := by decide +kernel
theorem d_Quot_with_17 : decode b_Quot_with 17 = .ok (.ifCond .ne 7, 3) := by decide +kernel
theorem d_Quot_with_20 : decode b_Quot_with 20 = .ok (.iconst 1, 1) := by decide +kernel
theorem d_Quot_with_21 : decode b_Quot_with 21 = .ok (.goto 4, 3) := by decide +kernel
theorem d_Quot_with_24 : decode b_Quot_with 24 = .ok (.iconst 0, 1) := by decide +kernel
theorem d_Quot_with_25 : decode b_Quot_with 25 = .ok (.putfield 17, 3) := by decide +kernel
theorem d_Quot_with_28 : decode b_Quot_with 28 = .ok (.aload_n 0, 1) := by decide +kernel
theorem d_Quot_with_29 : decode b_Quot_with 29 = .ok (.aload_n 0, 1) := by decide +kernel
theorem d_Quot_with_30 : decode b_Quot_with 30 = .ok (.getfield 17, 3) := by decide +kernel
theorem d_Quot_with_33 : decode b_Quot_with 33 = .ok (.ifCond .eq 7, 3) := by decide +kernel
theorem d_Quot_with_36 : decode b_Quot_with 36 = .ok (.lconst 0, 1) := by decide +kernel
theorem d_Quot_with_37 : decode b_Quot_with 37 = .ok (.goto 25, 3) := by decide +kernel
theorem d_Quot_with_40 : decode b_Quot_with 40 = .ok (.lload_n 1, 1) := by decide +kernel
theorem d_Quot_with_41 : decode b_Quot_with 41 = .ok (.ldc2_w 21, 3) := by decide +kernel
theorem d_Quot_with_44 : decode b_Quot_with 44 = .ok (.lcmp, 1) := by decide +kernel
theorem d_Quot_with_45 : decode b_Quot_with 45 = .ok (.ifCond .ne 11, 3) := by decide +kernel
theorem d_Quot_with_48 : decode b_Quot_with 48 = .ok (.aload_n 0, 1) := by decide +kernel
theorem d_Quot_with_49 : decode b_Quot_with 49 = .ok (.getfield 13, 3) := by decide +kernel
theorem d_Quot_with_52 : decode b_Quot_with 52 = .ok (.lneg, 1) := by decide +kernel
theorem d_Quot_with_53 : decode b_Quot_with 53 = .ok (.goto 9, 3) := by decide +kernel
theorem d_Quot_with_56 : decode b_Quot_with 56 = .ok (.aload_n 0, 1) := by decide +kernel
theorem d_Quot_with_57 : decode b_Quot_with 57 = .ok (.getfield 13, 3) := by decide +kernel
theorem d_Quot_with_60 : decode b_Quot_with 60 = .ok (.lload_n 1, 1) := by decide +kernel
theorem d_Quot_with_61 : decode b_Quot_with 61 = .ok (.ldiv, 1) := by decide +kernel
theorem d_Quot_with_62 : decode b_Quot_with 62 = .ok (.putfield 13, 3) := by decide +kernel
theorem d_Quot_with_65 : decode b_Quot_with 65 = .ok (.return_, 1) := by decide +kernel
theorem d_Sum_with_0 : decode b_Sum_with 0 = .ok (.aload_n 0, 1) := by decide +kernel
theorem d_Sum_with_1 : decode b_Sum_with 1 = .ok (.dup, 1) := by decide +kernel
theorem d_Sum_with_2 : decode b_Sum_with 2 = .ok (.getfield 13, 3) := by decide +kernel
theorem d_Sum_with_5 : decode b_Sum_with 5 = .ok (.lload_n 1, 1) := by decide +kernel
theorem d_Sum_with_6 : decode b_Sum_with 6 = .ok (.ladd, 1) := by decide +kernel
theorem d_Sum_with_7 : decode b_Sum_with 7 = .ok (.putfield 13, 3) := by decide +kernel
theorem d_Sum_with_10 : decode b_Sum_with 10 = .ok (.return_, 1) := by decide +kernel
theorem d_KG_run_0 : decode b_KG_run 0 = .ok (.aload_n 0, 1) := by decide +kernel
theorem d_KG_run_1 : decode b_KG_run 1 = .ok (.iload_n 1, 1) := by decide +kernel
theorem d_KG_run_2 : decode b_KG_run 2 = .ok (.invokevirtual 54, 3) := by decide +kernel
theorem d_KG_run_5 : decode b_KG_run 5 = .ok (.ifCond .ne 5, 3) := by decide +kernel
theorem d_KG_run_8 : decode b_KG_run 8 = .ok (.iconst (-1), 1) := by decide +kernel
theorem d_KG_run_9 : decode b_KG_run 9 = .ok (.ireturn, 1) := by decide +kernel
theorem d_KG_run_10 : decode b_KG_run 10 = .ok (.aload_n 0, 1) := by decide +kernel
theorem d_KG_run_11 : decode b_KG_run 11 = .ok (.getfield 32, 3) := by decide +kernel
theorem d_KG_run_14 : decode b_KG_run 14 = .ok (.iload_n 1, 1) := by decide +kernel
theorem d_KG_run_15 : decode b_KG_run 15 = .ok (.invokevirtual 58, 3) := by decide +kernel
theorem d_KG_run_18 : decode b_KG_run 18 = .ok (.checkcast 62, 3) := by decide +kernel
theorem d_KG_run_21 : decode b_KG_run 21 = .ok (.astore_n 2, 1) := by decide +kernel
theorem d_KG_run_22 : decode b_KG_run 22 = .ok (.aload_n 0, 1) := by decide +kernel
theorem d_KG_run_23 : decode b_KG_run 23 = .ok (.aload_n 2, 1) := by decide +kernel
theorem d_KG_run_24 : decode b_KG_run 24 = .ok (.invokevirtual 162, 3) := by decide +kernel
theorem d_KG_run_27 : decode b_KG_run 27 = .ok (.ifCond .ne 86, 3) := by decide +kernel
theorem d_KG_run_30 : decode b_KG_run 30 = .ok (.aload_n 2, 1) := by decide +kernel
theorem d_KG_run_31 : decode b_KG_run 31 = .ok (.getfield 137, 3) := by decide +kernel
theorem d_KG_run_34 : decode b_KG_run 34 = .ok (.ifCond .lt 6, 3) := by decide +kernel
theorem d_KG_run_37 : decode b_KG_run 37 = .ok (.bipush (-2), 2) := by decide +kernel
theorem d_KG_run_39 : decode b_KG_run 39 = .ok (.ireturn, 1) := by decide +kernel
theorem d_KG_run_40 : decode b_KG_run 40 = .ok (.aload_n 0, 1) := by decide +kernel
theorem d_KG_run_41 : decode b_KG_run 41 = .ok (.iconst 4, 1) := by decide +kernel
theorem d_KG_run_42 : decode b_KG_run 42 = .ok (.aload_n 2, 1) := by decide +kernel
theorem d_KG_run_43 : decode b_KG_run 43 = .ok (.invokevirtual 165, 3) := by decide +kernel
theorem d_KG_run_46 : decode b_KG_run 46 = .ok (.iconst 1, 1) := by decide +kernel
theorem d_KG_run_47 : decode b_KG_run 47 = .ok (.istore_n 3, 1) := by decide +kernel
theorem d_KG_run_48 : decode b_KG_run 48 = .ok (.iload_n 3, 1) := by decide +kernel
theorem d_KG_run_49 : decode b_KG_run 49 = .ok (.ifCond .eq 17, 3) := by decide +kernel
theorem d_KG_run_52 : decode b_KG_run 52 = .ok (.iload_n 3, 1) := by decide +kernel
theorem d_KG_run_53 : decode b_KG_run 53 = .ok (.iconst 3, 1) := by decide +kernel
theorem d_KG_run_54 : decode b_KG_run 54 = .ok (.if_icmp .eq 12, 3) := by decide +kernel
theorem d_KG_run_57 : decode b_KG_run 57 = .ok (.aload_n 0, 1) := by decide +kernel
theorem d_KG_run_58 : decode b_KG_run 58 = .ok (.iconst 4, 1) := by decide +kernel
theorem d_KG_run_59 : decode b_KG_run 59 = .ok (.invokevirtual 219, 3) := by decide +kernel
theorem d_KG_run_62 : decode b_KG_run 62 = .ok (.istore_n 3, 1) := by decide +kernel
theorem d_KG_run_63 : decode b_KG_run 63 = .ok (.goto (-15), 3) := by decide +kernel
theorem d_KG_run_66 : decode b_KG_run 66 = .ok (.iload_n 3, 1) := by decide +kernel
theorem d_KG_run_67 : decode b_KG_run 67 = .ok (.iconst 3, 1) := by decide +kernel
theorem d_KG_run_68 : decode b_KG_run 68 = .ok (.if_icmp .ne 45, 3) := by decide +kernel
theorem d_KG_run_71 : decode b_KG_run 71 = .ok (.aload_n 0, 1) := by decide +kernel
theorem d_KG_run_72 : decode b_KG_run 72 = .ok (.getfield 40, 3) := by decide +kernel
theorem d_KG_run_75 : decode b_KG_run 75 = .ok (.iconst 4, 1) := by decide +kernel
theorem d_KG_run_76 : decode b_KG_run 76 = .ok (.aaload, 1) := by decide +kernel
theorem d_KG_run_77 : decode b_KG_run 77 = .ok (.astore 4, 2) := by decide +kernel
theorem d_KG_run_79 : decode b_KG_run 79 = .ok (.aload 4, 2) := by decide +kernel
theorem d_KG_run_81 : decode b_KG_run 81 = .ok (.getfield 135, 3) := by decide +kernel
theorem d_KG_run_84 : decode b_KG_run 84 = .ok (.ifCond .le 26, 3) := by decide +kernel
theorem d_KG_run_87 : decode b_KG_run 87 = .ok (.aload 4, 2) := by decide +kernel
theorem d_KG_run_89 : decode b_KG_run 89 = .ok (.invokevirtual 169, 3) := by decide +kernel
theorem d_KG_run_92 : decode b_KG_run 92 = .ok (.iconst (-1), 1) := by decide +kernel
theorem d_KG_run_93 : decode b_KG_run 93 = .ok (.putfield 137, 3) := by decide +kernel
theorem d_KG_run_96 : decode b_KG_run 96 = .ok (.aload 4, 2) := by decide +kernel
theorem d_KG_run_98 : decode b_KG_run 98 = .ok (.dup, 1) := by decide +kernel
theorem d_KG_run_99 : decode b_KG_run 99 = .ok (.getfield 135, 3) := by decide +kernel
theorem d_KG_run_102 : decode b_KG_run 102 = .ok (.iconst 1, 1) := by decide +kernel
theorem d_KG_run_103 : decode b_KG_run 103 = .ok (.isub, 1) := by decide +kernel
theorem d_KG_run_104 : decode b_KG_run 104 = .ok (.putfield 135, 3) := by decide +kernel
theorem d_KG_run_107 : decode b_KG_run 107 = .ok (.goto (-28), 3) := by decide +kernel
theorem d_KG_run_110 : decode b_KG_run 110 = .ok (.bipush (-2), 2) := by decide +kernel
theorem d_KG_run_112 : decode b_KG_run 112 = .ok (.ireturn, 1) := by decide +kernel
theorem d_KG_run_113 : decode b_KG_run 113 = .ok (.aload_n 2, 1) := by decide +kernel
theorem d_KG_run_114 : decode b_KG_run 114 = .ok (.getfield 68, 3) := by decide +kernel
theorem d_KG_run_117 : decode b_KG_run 117 = .ok (.ireturn, 1) := by decide +kernel
theorem d_KG_state_0 : decode b_KG_state 0 = .ok (.aload_n 0, 1) := by decide +kernel
theorem d_KG_state_1 : decode b_KG_state 1 = .ok (.iload_n 1, 1) := by decide +kernel
theorem d_KG_state_2 : decode b_KG_state 2 = .ok (.invokevirtual 54, 3) := by decide +kernel
theorem d_KG_state_5 : decode b_KG_state 5 = .ok (.ifCond .eq 38, 3) := by decide +kernel
theorem d_KG_state_8 : decode b_KG_state 8 = .ok (.aload_n 0, 1) := by decide +kernel
theorem d_KG_state_9 : decode b_KG_state 9 = .ok (.aload_n 0, 1) := by decide +kernel
theorem d_KG_state_10 : decode b_KG_state 10 = .ok (.getfield 32, 3) := by decide +kernel
theorem d_KG_state_13 : decode b_KG_state 13 = .ok (.iload_n 1, 1) := by decide +kernel
theorem d_KG_state_14 : decode b_KG_state 14 = .ok (.invokevirtual 58, 3) := by decide +kernel
theorem d_KG_state_17 : decode b_KG_state 17 = .ok (.checkcast 62, 3) := by decide +kernel
theorem d_KG_state_20 : decode b_KG_state 20 = .ok (.invokevirtual 162, 3) := by decide +kernel
theorem d_KG_state_23 : decode b_KG_state 23 = .ok (.ifCond .eq 20, 3) := by decide +kernel
theorem d_KG_state_26 : decode b_KG_state 26 = .ok (.aload_n 0, 1) := by decide +kernel
theorem d_KG_state_27 : decode b_KG_state 27 = .ok (.getfield 32, 3) := by decide +kernel
theorem d_KG_state_30 : decode b_KG_state 30 = .ok (.iload_n 1, 1) := by decide +kernel
theorem d_KG_state_31 : decode b_KG_state 31 = .ok (.invokevirtual 58, 3) := by decide +kernel
theorem d_KG_state_34 : decode b_KG_state 34 = .ok (.checkcast 62, 3) := by decide +kernel
theorem d_KG_state_37 : decode b_KG_state 37 = .ok (.getfield 68, 3) := by decide +kernel
theorem d_KG_state_40 : decode b_KG_state 40 = .ok (.goto 4, 3) := by decide +kernel
theorem d_KG_state_43 : decode b_KG_state 43 = .ok (.iconst 0, 1) := by decide +kernel
theorem d_KG_state_44 : decode b_KG_state 44 = .ok (.ireturn, 1) := by decide +kernel
theorem d_KG_worked_0 : decode b_KG_worked 0 = .ok (.aload_n 0, 1) := by decide +kernel
theorem d_KG_worked_1 : decode b_KG_worked 1 = .ok (.iload_n 1, 1) := by decide +kernel
theorem d_KG_worked_2 : decode b_KG_worked 2 = .ok (.invokevirtual 54, 3) := by decide +kernel
theorem d_KG_worked_5 : decode b_KG_worked 5 = .ok (.ifCond .eq 20, 3) := by decide +kernel
theorem d_KG_worked_8 : decode b_KG_worked 8 = .ok (.aload_n 0, 1) := by decide +kernel
theorem d_KG_worked_9 : decode b_KG_worked 9 = .ok (.getfield 32, 3) := by decide +kernel
theorem d_KG_worked_12 : decode b_KG_worked 12 = .ok (.iload_n 1, 1) := by decide +kernel
theorem d_KG_worked_13 : decode b_KG_worked 13 = .ok (.invokevirtual 58, 3) := by decide +kernel
theorem d_KG_worked_16 : decode b_KG_worked 16 = .ok (.checkcast 62, 3) := by decide +kernel
theorem d_KG_worked_19 : decode b_KG_worked 19 = .ok (.getfield 183, 3) := by decide +kernel
theorem d_KG_worked_22 : decode b_KG_worked 22 = .ok (.goto 4, 3) := by decide +kernel
theorem d_KG_worked_25 : decode b_KG_worked 25 = .ok (.iconst 0, 1) := by decide +kernel
theorem d_KG_worked_26 : decode b_KG_worked 26 = .ok (.ireturn, 1) := by decide +kernel
theorem d_KG_kept_0 : decode b_KG_kept 0 = .ok (.aload_n 0, 1) := by decide +kernel
theorem d_KG_kept_1 : decode b_KG_kept 1 = .ok (.iload_n 1, 1) := by decide +kernel
theorem d_KG_kept_2 : decode b_KG_kept 2 = .ok (.invokevirtual 54, 3) := by decide +kernel
theorem d_KG_kept_5 : decode b_KG_kept 5 = .ok (.ifCond .eq 20, 3) := by decide +kernel
theorem d_KG_kept_8 : decode b_KG_kept 8 = .ok (.aload_n 0, 1) := by decide +kernel
theorem d_KG_kept_9 : decode b_KG_kept 9 = .ok (.getfield 32, 3) := by decide +kernel
theorem d_KG_kept_12 : decode b_KG_kept 12 = .ok (.iload_n 1, 1) := by decide +kernel
theorem d_KG_kept_13 : decode b_KG_kept 13 = .ok (.invokevirtual 58, 3) := by decide +kernel
theorem d_KG_kept_16 : decode b_KG_kept 16 = .ok (.checkcast 62, 3) := by decide +kernel
theorem d_KG_kept_19 : decode b_KG_kept 19 = .ok (.getfield 216, 3) := by decide +kernel
theorem d_KG_kept_22 : decode b_KG_kept 22 = .ok (.goto 4, 3) := by decide +kernel
theorem d_KG_kept_25 : decode b_KG_kept 25 = .ok (.iconst 0, 1) := by decide +kernel
theorem d_KG_kept_26 : decode b_KG_kept 26 = .ok (.ireturn, 1) := by decide +kernel
theorem d_KG_changed_0 : decode b_KG_changed 0 = .ok (.aload_n 0, 1) := by decide +kernel
theorem d_KG_changed_1 : decode b_KG_changed 1 = .ok (.iload_n 1, 1) := by decide +kernel
theorem d_KG_changed_2 : decode b_KG_changed 2 = .ok (.invokevirtual 54, 3) := by decide +kernel
theorem d_KG_changed_5 : decode b_KG_changed 5 = .ok (.ifCond .eq 37, 3) := by decide +kernel
theorem d_KG_changed_8 : decode b_KG_changed 8 = .ok (.aload_n 0, 1) := by decide +kernel
theorem d_KG_changed_9 : decode b_KG_changed 9 = .ok (.getfield 32, 3) := by decide +kernel
theorem d_KG_changed_12 : decode b_KG_changed 12 = .ok (.iload_n 1, 1) := by decide +kernel
theorem d_KG_changed_13 : decode b_KG_changed 13 = .ok (.invokevirtual 58, 3) := by decide +kernel
theorem d_KG_changed_16 : decode b_KG_changed 16 = .ok (.checkcast 62, 3) := by decide +kernel
theorem d_KG_changed_19 : decode b_KG_changed 19 = .ok (.getfield 68, 3) := by decide +kernel
theorem d_KG_changed_22 : decode b_KG_changed 22 = .ok (.ifCond .le 20, 3) := by decide +kernel
theorem d_KG_changed_25 : decode b_KG_changed 25 = .ok (.aload_n 0, 1) := by decide +kernel
theorem d_KG_changed_26 : decode b_KG_changed 26 = .ok (.getfield 32, 3) := by decide +kernel
theorem d_KG_changed_29 : decode b_KG_changed 29 = .ok (.iload_n 1, 1) := by decide +kernel
theorem d_KG_changed_30 : decode b_KG_changed 30 = .ok (.invokevirtual 58, 3) := by decide +kernel
theorem d_KG_changed_33 : decode b_KG_changed 33 = .ok (.checkcast 62, 3) := by decide +kernel
theorem d_KG_changed_36 : decode b_KG_changed 36 = .ok (.getfield 85, 3) := by decide +kernel
theorem d_KG_changed_39 : decode b_KG_changed 39 = .ok (.goto 4, 3) := by decide +kernel
theorem d_KG_changed_42 : decode b_KG_changed 42 = .ok (.iconst (-1), 1) := by decide +kernel
theorem d_KG_changed_43 : decode b_KG_changed 43 = .ok (.ireturn, 1) := by decide +kernel
theorem d_KG_asked_0 : decode b_KG_asked 0 = .ok (.aload_n 0, 1) := by decide +kernel
theorem d_KG_asked_1 : decode b_KG_asked 1 = .ok (.iload_n 1, 1) := by decide +kernel
theorem d_KG_asked_2 : decode b_KG_asked 2 = .ok (.invokevirtual 109, 3) := by decide +kernel
theorem d_KG_asked_5 : decode b_KG_asked 5 = .ok (.ifCond .eq 42, 3) := by decide +kernel
theorem d_KG_asked_8 : decode b_KG_asked 8 = .ok (.aload_n 0, 1) := by decide +kernel
theorem d_KG_asked_9 : decode b_KG_asked 9 = .ok (.getfield 32, 3) := by decide +kernel
theorem d_KG_asked_12 : decode b_KG_asked 12 = .ok (.iload_n 1, 1) := by decide +kernel
theorem d_KG_asked_13 : decode b_KG_asked 13 = .ok (.invokevirtual 58, 3) := by decide +kernel
theorem d_KG_asked_16 : decode b_KG_asked 16 = .ok (.checkcast 62, 3) := by decide +kernel
theorem d_KG_asked_19 : decode b_KG_asked 19 = .ok (.getfield 68, 3) := by decide +kernel
theorem d_KG_asked_22 : decode b_KG_asked 22 = .ok (.ifCond .eq 25, 3) := by decide +kernel
theorem d_KG_asked_25 : decode b_KG_asked 25 = .ok (.iload_n 2, 1) := by decide +kernel
theorem d_KG_asked_26 : decode b_KG_asked 26 = .ok (.ifCond .lt 21, 3) := by decide +kernel
theorem d_KG_asked_29 : decode b_KG_asked 29 = .ok (.iload_n 2, 1) := by decide +kernel
theorem d_KG_asked_30 : decode b_KG_asked 30 = .ok (.aload_n 0, 1) := by decide +kernel
theorem d_KG_asked_31 : decode b_KG_asked 31 = .ok (.getfield 32, 3) := by decide +kernel
theorem d_KG_asked_34 : decode b_KG_asked 34 = .ok (.iload_n 1, 1) := by decide +kernel
theorem d_KG_asked_35 : decode b_KG_asked 35 = .ok (.invokevirtual 58, 3) := by decide +kernel
theorem d_KG_asked_38 : decode b_KG_asked 38 = .ok (.checkcast 62, 3) := by decide +kernel
theorem d_KG_asked_41 : decode b_KG_asked 41 = .ok (.getfield 180, 3) := by decide +kernel
theorem d_KG_asked_44 : decode b_KG_asked 44 = .ok (.if_icmp .lt 7, 3) := by decide +kernel
theorem d_KG_asked_47 : decode b_KG_asked 47 = .ok (.iconst (-1), 1) := by decide +kernel
theorem d_KG_asked_48 : decode b_KG_asked 48 = .ok (.goto 19, 3) := by decide +kernel
theorem d_KG_asked_51 : decode b_KG_asked 51 = .ok (.aload_n 0, 1) := by decide +kernel
theorem d_KG_asked_52 : decode b_KG_asked 52 = .ok (.getfield 32, 3) := by decide +kernel
theorem d_KG_asked_55 : decode b_KG_asked 55 = .ok (.iload_n 1, 1) := by decide +kernel
theorem d_KG_asked_56 : decode b_KG_asked 56 = .ok (.invokevirtual 58, 3) := by decide +kernel
theorem d_KG_asked_59 : decode b_KG_asked 59 = .ok (.checkcast 62, 3) := by decide +kernel
theorem d_KG_asked_62 : decode b_KG_asked 62 = .ok (.getfield 173, 3) := by decide +kernel
theorem d_KG_asked_65 : decode b_KG_asked 65 = .ok (.iload_n 2, 1) := by decide +kernel
theorem d_KG_asked_66 : decode b_KG_asked 66 = .ok (.iaload, 1) := by decide +kernel
theorem d_KG_asked_67 : decode b_KG_asked 67 = .ok (.ireturn, 1) := by decide +kernel
theorem d_KG_drop_0 : decode b_KG_drop 0 = .ok (.aload_n 0, 1) := by decide +kernel
theorem d_KG_drop_1 : decode b_KG_drop 1 = .ok (.iload_n 1, 1) := by decide +kernel
theorem d_KG_drop_2 : decode b_KG_drop 2 = .ok (.invokevirtual 109, 3) := by decide +kernel
theorem d_KG_drop_5 : decode b_KG_drop 5 = .ok (.ifCond .eq 20, 3) := by decide +kernel
theorem d_KG_drop_8 : decode b_KG_drop 8 = .ok (.aload_n 0, 1) := by decide +kernel
theorem d_KG_drop_9 : decode b_KG_drop 9 = .ok (.getfield 32, 3) := by decide +kernel
theorem d_KG_drop_12 : decode b_KG_drop 12 = .ok (.iload_n 1, 1) := by decide +kernel
theorem d_KG_drop_13 : decode b_KG_drop 13 = .ok (.invokevirtual 58, 3) := by decide +kernel
theorem d_KG_drop_16 : decode b_KG_drop 16 = .ok (.checkcast 62, 3) := by decide +kernel
theorem d_KG_drop_19 : decode b_KG_drop 19 = .ok (.getfield 68, 3) := by decide +kernel
theorem d_KG_drop_22 : decode b_KG_drop 22 = .ok (.ifCond .ne 5, 3) := by decide +kernel
theorem d_KG_drop_25 : decode b_KG_drop 25 = .ok (.iconst 0, 1) := by decide +kernel
theorem d_KG_drop_26 : decode b_KG_drop 26 = .ok (.ireturn, 1) := by decide +kernel
theorem d_KG_drop_27 : decode b_KG_drop 27 = .ok (.aload_n 0, 1) := by decide +kernel
theorem d_KG_drop_28 : decode b_KG_drop 28 = .ok (.invokevirtual 125, 3) := by decide +kernel
theorem d_KG_drop_31 : decode b_KG_drop 31 = .ok (.pop, 1) := by decide +kernel
theorem d_KG_drop_32 : decode b_KG_drop 32 = .ok (.aload_n 0, 1) := by decide +kernel
theorem d_KG_drop_33 : decode b_KG_drop 33 = .ok (.getfield 32, 3) := by decide +kernel
theorem d_KG_drop_36 : decode b_KG_drop 36 = .ok (.iload_n 1, 1) := by decide +kernel
theorem d_KG_drop_37 : decode b_KG_drop 37 = .ok (.invokevirtual 58, 3) := by decide +kernel
theorem d_KG_drop_40 : decode b_KG_drop 40 = .ok (.checkcast 62, 3) := by decide +kernel
theorem d_KG_drop_43 : decode b_KG_drop 43 = .ok (.iconst 0, 1) := by decide +kernel
theorem d_KG_drop_44 : decode b_KG_drop 44 = .ok (.putfield 68, 3) := by decide +kernel
theorem d_KG_drop_47 : decode b_KG_drop 47 = .ok (.iconst 1, 1) := by decide +kernel
theorem d_KG_drop_48 : decode b_KG_drop 48 = .ok (.ireturn, 1) := by decide +kernel
theorem d_Law_value_0 : decode b_Law_value 0 = .ok (.aload_n 2, 1) := by decide +kernel
theorem d_Law_value_1 : decode b_Law_value 1 = .ok (.iconst 0, 1) := by decide +kernel
theorem d_Law_value_2 : decode b_Law_value 2 = .ok (.aload_n 0, 1) := by decide +kernel
theorem d_Law_value_3 : decode b_Law_value 3 = .ok (.iload_n 1, 1) := by decide +kernel
theorem d_Law_value_4 : decode b_Law_value 4 = .ok (.invokevirtual 7, 3) := by decide +kernel
theorem d_Law_value_7 : decode b_Law_value 7 = .ok (.lastore, 1) := by decide +kernel
theorem d_Law_value_8 : decode b_Law_value 8 = .ok (.goto 9, 3) := by decide +kernel
theorem d_Law_value_11 : decode b_Law_value 11 = .ok (.astore_n 3, 1) := by decide +kernel
theorem d_Law_value_12 : decode b_Law_value 12 = .ok (.iconst 1, 1) := by decide +kernel
theorem d_Law_value_13 : decode b_Law_value 13 = .ok (.ireturn, 1) := by decide +kernel
theorem d_Law_value_14 : decode b_Law_value 14 = .ok (.astore_n 3, 1) := by decide +kernel
theorem d_Law_value_15 : decode b_Law_value 15 = .ok (.iconst 2, 1) := by decide +kernel
theorem d_Law_value_16 : decode b_Law_value 16 = .ok (.ireturn, 1) := by decide +kernel
theorem d_Law_value_17 : decode b_Law_value 17 = .ok (.iconst 0, 1) := by decide +kernel
theorem d_Law_value_18 : decode b_Law_value 18 = .ok (.ireturn, 1) := by decide +kernel
theorem d_KG_value_0 : decode b_KG_value 0 = .ok (.aload_n 0, 1) := by decide +kernel
theorem d_KG_value_1 : decode b_KG_value 1 = .ok (.iload_n 1, 1) := by decide +kernel
theorem d_KG_value_2 : decode b_KG_value 2 = .ok (.invokevirtual 54, 3) := by decide +kernel
theorem d_KG_value_5 : decode b_KG_value 5 = .ok (.ifCond .ne 11, 3) := by decide +kernel
theorem d_KG_value_8 : decode b_KG_value 8 = .ok (.new 223, 3) := by decide +kernel
theorem d_KG_value_11 : decode b_KG_value 11 = .ok (.dup, 1) := by decide +kernel
theorem d_KG_value_12 : decode b_KG_value 12 = .ok (.invokespecial 225, 3) := by decide +kernel
theorem d_KG_value_15 : decode b_KG_value 15 = .ok (.athrow, 1) := by decide +kernel
theorem d_KG_value_16 : decode b_KG_value 16 = .ok (.aload_n 0, 1) := by decide +kernel
theorem d_KG_value_17 : decode b_KG_value 17 = .ok (.iload_n 1, 1) := by decide +kernel
theorem d_KG_value_18 : decode b_KG_value 18 = .ok (.invokevirtual 226, 3) := by decide +kernel
theorem d_KG_value_21 : decode b_KG_value 21 = .ok (.iconst 1, 1) := by decide +kernel
theorem d_KG_value_22 : decode b_KG_value 22 = .ok (.if_icmp .eq 11, 3) := by decide +kernel
theorem d_KG_value_25 : decode b_KG_value 25 = .ok (.new 228, 3) := by decide +kernel
theorem d_KG_value_28 : decode b_KG_value 28 = .ok (.dup, 1) := by decide +kernel
theorem d_KG_value_29 : decode b_KG_value 29 = .ok (.invokespecial 230, 3) := by decide +kernel
theorem d_KG_value_32 : decode b_KG_value 32 = .ok (.athrow, 1) := by decide +kernel
theorem d_KG_value_33 : decode b_KG_value 33 = .ok (.aload_n 0, 1) := by decide +kernel
theorem d_KG_value_34 : decode b_KG_value 34 = .ok (.getfield 32, 3) := by decide +kernel
theorem d_KG_value_37 : decode b_KG_value 37 = .ok (.iload_n 1, 1) := by decide +kernel
theorem d_KG_value_38 : decode b_KG_value 38 = .ok (.invokevirtual 58, 3) := by decide +kernel
theorem d_KG_value_41 : decode b_KG_value 41 = .ok (.checkcast 62, 3) := by decide +kernel
theorem d_KG_value_44 : decode b_KG_value 44 = .ok (.getfield 81, 3) := by decide +kernel
theorem d_KG_value_47 : decode b_KG_value 47 = .ok (.lreturn, 1) := by decide +kernel
theorem d_Thr_init_0 : decode b_Thr_init 0 = .ok (.aload_n 0, 1) := by decide +kernel
theorem d_Thr_init_1 : decode b_Thr_init 1 = .ok (.invokespecial 1, 3) := by decide +kernel
theorem d_Thr_init_4 : decode b_Thr_init 4 = .ok (.aload_n 0, 1) := by decide +kernel
theorem d_Thr_init_5 : decode b_Thr_init 5 = .ok (.aload_n 0, 1) := by decide +kernel
theorem d_Thr_init_6 : decode b_Thr_init 6 = .ok (.putfield 7, 3) := by decide +kernel
theorem d_Thr_init_9 : decode b_Thr_init 9 = .ok (.aload_n 0, 1) := by decide +kernel
theorem d_Thr_init_10 : decode b_Thr_init 10 = .ok (.getstatic 13, 3) := by decide +kernel
theorem d_Thr_init_13 : decode b_Thr_init 13 = .ok (.putfield 17, 3) := by decide +kernel
theorem d_Thr_init_16 : decode b_Thr_init 16 = .ok (.aload_n 0, 1) := by decide +kernel
theorem d_Thr_init_17 : decode b_Thr_init 17 = .ok (.getstatic 20, 3) := by decide +kernel
theorem d_Thr_init_20 : decode b_Thr_init 20 = .ok (.putfield 24, 3) := by decide +kernel
theorem d_Thr_init_23 : decode b_Thr_init 23 = .ok (.aload_n 0, 1) := by decide +kernel
theorem d_Thr_init_24 : decode b_Thr_init 24 = .ok (.invokevirtual 27, 3) := by decide +kernel
theorem d_Thr_init_27 : decode b_Thr_init 27 = .ok (.pop, 1) := by decide +kernel
theorem d_Thr_init_28 : decode b_Thr_init 28 = .ok (.return_, 1) := by decide +kernel
theorem d_Thr_fillInStackTrace_0 : decode b_Thr_fillInStackTrace 0 = .ok (.aload_n 0, 1) := by decide +kernel
theorem d_Thr_fillInStackTrace_1 : decode b_Thr_fillInStackTrace 1 = .ok (.getfield 17, 3) := by decide +kernel
theorem d_Thr_fillInStackTrace_4 : decode b_Thr_fillInStackTrace 4 = .ok (.ifnonnull 10, 3) := by decide +kernel
theorem d_Thr_fillInStackTrace_7 : decode b_Thr_fillInStackTrace 7 = .ok (.aload_n 0, 1) := by decide +kernel
theorem d_Thr_fillInStackTrace_8 : decode b_Thr_fillInStackTrace 8 = .ok (.getfield 198, 3) := by decide +kernel
theorem d_Thr_fillInStackTrace_11 : decode b_Thr_fillInStackTrace 11 = .ok (.ifnull 16, 3) := by decide +kernel
theorem d_Thr_fillInStackTrace_14 : decode b_Thr_fillInStackTrace 14 = .ok (.aload_n 0, 1) := by decide +kernel
theorem d_Thr_fillInStackTrace_15 : decode b_Thr_fillInStackTrace 15 = .ok (.iconst 0, 1) := by decide +kernel
theorem d_Thr_fillInStackTrace_16 : decode b_Thr_fillInStackTrace 16 = .ok (.invokevirtual 202, 3) := by decide +kernel
theorem d_Thr_fillInStackTrace_19 : decode b_Thr_fillInStackTrace 19 = .ok (.pop, 1) := by decide +kernel
theorem d_Thr_fillInStackTrace_20 : decode b_Thr_fillInStackTrace 20 = .ok (.aload_n 0, 1) := by decide +kernel
theorem d_Thr_fillInStackTrace_21 : decode b_Thr_fillInStackTrace 21 = .ok (.getstatic 13, 3) := by decide +kernel
theorem d_Thr_fillInStackTrace_24 : decode b_Thr_fillInStackTrace 24 = .ok (.putfield 17, 3) := by decide +kernel
theorem d_Thr_fillInStackTrace_27 : decode b_Thr_fillInStackTrace 27 = .ok (.aload_n 0, 1) := by decide +kernel
theorem d_Thr_fillInStackTrace_28 : decode b_Thr_fillInStackTrace 28 = .ok (.areturn, 1) := by decide +kernel
theorem d_IAE_init_0 : decode b_IAE_init 0 = .ok (.aload_n 0, 1) := by decide +kernel
theorem d_IAE_init_1 : decode b_IAE_init 1 = .ok (.invokespecial 1, 3) := by decide +kernel
theorem d_IAE_init_4 : decode b_IAE_init 4 = .ok (.return_, 1) := by decide +kernel
theorem d_RTE_init_0 : decode b_RTE_init 0 = .ok (.aload_n 0, 1) := by decide +kernel
theorem d_RTE_init_1 : decode b_RTE_init 1 = .ok (.invokespecial 1, 3) := by decide +kernel
theorem d_RTE_init_4 : decode b_RTE_init 4 = .ok (.return_, 1) := by decide +kernel
theorem d_Exc_init_0 : decode b_Exc_init 0 = .ok (.aload_n 0, 1) := by decide +kernel
theorem d_Exc_init_1 : decode b_Exc_init 1 = .ok (.invokespecial 1, 3) := by decide +kernel
theorem d_Exc_init_4 : decode b_Exc_init 4 = .ok (.return_, 1) := by decide +kernel
theorem d_ISE_init_0 : decode b_ISE_init 0 = .ok (.aload_n 0, 1) := by decide +kernel
theorem d_ISE_init_1 : decode b_ISE_init 1 = .ok (.invokespecial 1, 3) := by decide +kernel
theorem d_ISE_init_4 : decode b_ISE_init 4 = .ok (.return_, 1) := by decide +kernel
