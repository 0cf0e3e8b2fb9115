theorem d_Mod_init_0 : decode b_Mod_init 0 = .ok (.aload_n 0, 1) := by decide +kernel
theorem d_Mod_init_1 : decode b_Mod_init 1 = .ok (.invokespecial 1, 3) := by decide +kernel
theorem d_Mod_init_4 : decode b_Mod_init 4 = .ok (.aload_n 0, 1) := by decide +kernel
theorem d_Mod_init_5 : decode b_Mod_init 5 = .ok (.bipush 40, 2) := by decide +kernel
theorem d_Mod_init_7 : decode b_Mod_init 7 = .ok (.newarray .int, 2) := by decide +kernel
theorem d_Mod_init_9 : decode b_Mod_init 9 = .ok (.putfield 7, 3) := by decide +kernel
theorem d_Mod_init_12 : decode b_Mod_init 12 = .ok (.aload_n 0, 1) := by decide +kernel
theorem d_Mod_init_13 : decode b_Mod_init 13 = .ok (.bipush 40, 2) := by decide +kernel
theorem d_Mod_init_15 : decode b_Mod_init 15 = .ok (.newarray .int, 2) := by decide +kernel
theorem d_Mod_init_17 : decode b_Mod_init 17 = .ok (.putfield 13, 3) := by decide +kernel
theorem d_Mod_init_20 : decode b_Mod_init 20 = .ok (.aload_n 0, 1) := by decide +kernel
theorem d_Mod_init_21 : decode b_Mod_init 21 = .ok (.sipush 320, 3) := by decide +kernel
theorem d_Mod_init_24 : decode b_Mod_init 24 = .ok (.newarray .int, 2) := by decide +kernel
theorem d_Mod_init_26 : decode b_Mod_init 26 = .ok (.putfield 16, 3) := by decide +kernel
theorem d_Mod_init_29 : decode b_Mod_init 29 = .ok (.aload_n 0, 1) := by decide +kernel
theorem d_Mod_init_30 : decode b_Mod_init 30 = .ok (.bipush 40, 2) := by decide +kernel
theorem d_Mod_init_32 : decode b_Mod_init 32 = .ok (.newarray .int, 2) := by decide +kernel
theorem d_Mod_init_34 : decode b_Mod_init 34 = .ok (.putfield 19, 3) := by decide +kernel
theorem d_Mod_init_37 : decode b_Mod_init 37 = .ok (.aload_n 0, 1) := by decide +kernel
theorem d_Mod_init_38 : decode b_Mod_init 38 = .ok (.bipush 40, 2) := by decide +kernel
theorem d_Mod_init_40 : decode b_Mod_init 40 = .ok (.newarray .int, 2) := by decide +kernel
theorem d_Mod_init_42 : decode b_Mod_init 42 = .ok (.putfield 22, 3) := by decide +kernel
theorem d_Mod_init_45 : decode b_Mod_init 45 = .ok (.aload_n 0, 1) := by decide +kernel
theorem d_Mod_init_46 : decode b_Mod_init 46 = .ok (.bipush 40, 2) := by decide +kernel
theorem d_Mod_init_48 : decode b_Mod_init 48 = .ok (.newarray .int, 2) := by decide +kernel
theorem d_Mod_init_50 : decode b_Mod_init 50 = .ok (.putfield 25, 3) := by decide +kernel
theorem d_Mod_init_53 : decode b_Mod_init 53 = .ok (.aload_n 0, 1) := by decide +kernel
theorem d_Mod_init_54 : decode b_Mod_init 54 = .ok (.bipush 40, 2) := by decide +kernel
theorem d_Mod_init_56 : decode b_Mod_init 56 = .ok (.newarray .int, 2) := by decide +kernel
theorem d_Mod_init_58 : decode b_Mod_init 58 = .ok (.putfield 28, 3) := by decide +kernel
theorem d_Mod_init_61 : decode b_Mod_init 61 = .ok (.aload_n 0, 1) := by decide +kernel
theorem d_Mod_init_62 : decode b_Mod_init 62 = .ok (.bipush 40, 2) := by decide +kernel
theorem d_Mod_init_64 : decode b_Mod_init 64 = .ok (.newarray .int, 2) := by decide +kernel
theorem d_Mod_init_66 : decode b_Mod_init 66 = .ok (.putfield 31, 3) := by decide +kernel
theorem d_Mod_init_69 : decode b_Mod_init 69 = .ok (.aload_n 0, 1) := by decide +kernel
theorem d_Mod_init_70 : decode b_Mod_init 70 = .ok (.sipush 320, 3) := by decide +kernel
theorem d_Mod_init_73 : decode b_Mod_init 73 = .ok (.newarray .int, 2) := by decide +kernel
theorem d_Mod_init_75 : decode b_Mod_init 75 = .ok (.putfield 34, 3) := by decide +kernel
theorem d_Mod_init_78 : decode b_Mod_init 78 = .ok (.aload_n 0, 1) := by decide +kernel
theorem d_Mod_init_79 : decode b_Mod_init 79 = .ok (.bipush 40, 2) := by decide +kernel
theorem d_Mod_init_81 : decode b_Mod_init 81 = .ok (.newarray .int, 2) := by decide +kernel
theorem d_Mod_init_83 : decode b_Mod_init 83 = .ok (.putfield 37, 3) := by decide +kernel
theorem d_Mod_init_86 : decode b_Mod_init 86 = .ok (.aload_n 0, 1) := by decide +kernel
theorem d_Mod_init_87 : decode b_Mod_init 87 = .ok (.bipush 40, 2) := by decide +kernel
theorem d_Mod_init_89 : decode b_Mod_init 89 = .ok (.newarray .int, 2) := by decide +kernel
theorem d_Mod_init_91 : decode b_Mod_init 91 = .ok (.putfield 40, 3) := by decide +kernel
theorem d_Mod_init_94 : decode b_Mod_init 94 = .ok (.aload_n 0, 1) := by decide +kernel
theorem d_Mod_init_95 : decode b_Mod_init 95 = .ok (.bipush 40, 2) := by decide +kernel
theorem d_Mod_init_97 : decode b_Mod_init 97 = .ok (.newarray .long, 2) := by decide +kernel
theorem d_Mod_init_99 : decode b_Mod_init 99 = .ok (.putfield 43, 3) := by decide +kernel
theorem d_Mod_init_102 : decode b_Mod_init 102 = .ok (.aload_n 0, 1) := by decide +kernel
theorem d_Mod_init_103 : decode b_Mod_init 103 = .ok (.bipush 40, 2) := by decide +kernel
theorem d_Mod_init_105 : decode b_Mod_init 105 = .ok (.newarray .boolean, 2) := by decide +kernel
theorem d_Mod_init_107 : decode b_Mod_init 107 = .ok (.putfield 47, 3) := by decide +kernel
theorem d_Mod_init_110 : decode b_Mod_init 110 = .ok (.aload_n 0, 1) := by decide +kernel
theorem d_Mod_init_111 : decode b_Mod_init 111 = .ok (.bipush 40, 2) := by decide +kernel
theorem d_Mod_init_113 : decode b_Mod_init 113 = .ok (.newarray .boolean, 2) := by decide +kernel
theorem d_Mod_init_115 : decode b_Mod_init 115 = .ok (.putfield 51, 3) := by decide +kernel
theorem d_Mod_init_118 : decode b_Mod_init 118 = .ok (.aload_n 0, 1) := by decide +kernel
theorem d_Mod_init_119 : decode b_Mod_init 119 = .ok (.iconst 5, 1) := by decide +kernel
theorem d_Mod_init_120 : decode b_Mod_init 120 = .ok (.newarray .int, 2) := by decide +kernel
theorem d_Mod_init_122 : decode b_Mod_init 122 = .ok (.putfield 54, 3) := by decide +kernel
theorem d_Mod_init_125 : decode b_Mod_init 125 = .ok (.aload_n 0, 1) := by decide +kernel
theorem d_Mod_init_126 : decode b_Mod_init 126 = .ok (.sipush 200, 3) := by decide +kernel
theorem d_Mod_init_129 : decode b_Mod_init 129 = .ok (.newarray .int, 2) := by decide +kernel
theorem d_Mod_init_131 : decode b_Mod_init 131 = .ok (.putfield 57, 3) := by decide +kernel
theorem d_Mod_init_134 : decode b_Mod_init 134 = .ok (.aload_n 0, 1) := by decide +kernel
theorem d_Mod_init_135 : decode b_Mod_init 135 = .ok (.sipush 200, 3) := by decide +kernel
theorem d_Mod_init_138 : decode b_Mod_init 138 = .ok (.newarray .int, 2) := by decide +kernel
theorem d_Mod_init_140 : decode b_Mod_init 140 = .ok (.putfield 60, 3) := by decide +kernel
theorem d_Mod_init_143 : decode b_Mod_init 143 = .ok (.aload_n 0, 1) := by decide +kernel
theorem d_Mod_init_144 : decode b_Mod_init 144 = .ok (.sipush 1600, 3) := by decide +kernel
theorem d_Mod_init_147 : decode b_Mod_init 147 = .ok (.newarray .int, 2) := by decide +kernel
theorem d_Mod_init_149 : decode b_Mod_init 149 = .ok (.putfield 63, 3) := by decide +kernel
theorem d_Mod_init_152 : decode b_Mod_init 152 = .ok (.aload_n 0, 1) := by decide +kernel
theorem d_Mod_init_153 : decode b_Mod_init 153 = .ok (.sipush 200, 3) := by decide +kernel
theorem d_Mod_init_156 : decode b_Mod_init 156 = .ok (.newarray .boolean, 2) := by decide +kernel
theorem d_Mod_init_158 : decode b_Mod_init 158 = .ok (.putfield 66, 3) := by decide +kernel
theorem d_Mod_init_161 : decode b_Mod_init 161 = .ok (.aload_n 0, 1) := by decide +kernel
theorem d_Mod_init_162 : decode b_Mod_init 162 = .ok (.bipush 40, 2) := by decide +kernel
theorem d_Mod_init_164 : decode b_Mod_init 164 = .ok (.newarray .int, 2) := by decide +kernel
theorem d_Mod_init_166 : decode b_Mod_init 166 = .ok (.putfield 69, 3) := by decide +kernel
theorem d_Mod_init_169 : decode b_Mod_init 169 = .ok (.aload_n 0, 1) := by decide +kernel
theorem d_Mod_init_170 : decode b_Mod_init 170 = .ok (.bipush 40, 2) := by decide +kernel
theorem d_Mod_init_172 : decode b_Mod_init 172 = .ok (.newarray .boolean, 2) := by decide +kernel
theorem d_Mod_init_174 : decode b_Mod_init 174 = .ok (.putfield 72, 3) := by decide +kernel
theorem d_Mod_init_177 : decode b_Mod_init 177 = .ok (.return_, 1) := by decide +kernel
theorem d_Mod_thrown_0 : decode b_Mod_thrown 0 = .ok (.aload_n 0, 1) := by decide +kernel
theorem d_Mod_thrown_1 : decode b_Mod_thrown 1 = .ok (.getfield 75, 3) := by decide +kernel
theorem d_Mod_thrown_4 : decode b_Mod_thrown 4 = .ok (.ireturn, 1) := by decide +kernel
theorem d_Mod_leaf_0 : decode b_Mod_leaf 0 = .ok (.aload_n 0, 1) := by decide +kernel
theorem d_Mod_leaf_1 : decode b_Mod_leaf 1 = .ok (.iconst 0, 1) := by decide +kernel
theorem d_Mod_leaf_2 : decode b_Mod_leaf 2 = .ok (.putfield 75, 3) := by decide +kernel
theorem d_Mod_leaf_5 : decode b_Mod_leaf 5 = .ok (.aload_n 0, 1) := by decide +kernel
theorem d_Mod_leaf_6 : decode b_Mod_leaf 6 = .ok (.getfield 79, 3) := by decide +kernel
theorem d_Mod_leaf_9 : decode b_Mod_leaf 9 = .ok (.bipush 40, 2) := by decide +kernel
theorem d_Mod_leaf_11 : decode b_Mod_leaf 11 = .ok (.if_icmp .ne 5, 3) := by decide +kernel
theorem d_Mod_leaf_14 : decode b_Mod_leaf 14 = .ok (.iconst (-1), 1) := by decide +kernel
theorem d_Mod_leaf_15 : decode b_Mod_leaf 15 = .ok (.ireturn, 1) := by decide +kernel
theorem d_Mod_leaf_16 : decode b_Mod_leaf 16 = .ok (.aload_n 0, 1) := by decide +kernel
theorem d_Mod_leaf_17 : decode b_Mod_leaf 17 = .ok (.getfield 43, 3) := by decide +kernel
theorem d_Mod_leaf_20 : decode b_Mod_leaf 20 = .ok (.aload_n 0, 1) := by decide +kernel
theorem d_Mod_leaf_21 : decode b_Mod_leaf 21 = .ok (.getfield 79, 3) := by decide +kernel
theorem d_Mod_leaf_24 : decode b_Mod_leaf 24 = .ok (.lload_n 1, 1) := by decide +kernel
theorem d_Mod_leaf_25 : decode b_Mod_leaf 25 = .ok (.lastore, 1) := by decide +kernel
theorem d_Mod_leaf_26 : decode b_Mod_leaf 26 = .ok (.aload_n 0, 1) := by decide +kernel
theorem d_Mod_leaf_27 : decode b_Mod_leaf 27 = .ok (.getfield 19, 3) := by decide +kernel
theorem d_Mod_leaf_30 : decode b_Mod_leaf 30 = .ok (.aload_n 0, 1) := by decide +kernel
theorem d_Mod_leaf_31 : decode b_Mod_leaf 31 = .ok (.getfield 79, 3) := by decide +kernel
theorem d_Mod_leaf_34 : decode b_Mod_leaf 34 = .ok (.iconst 1, 1) := by decide +kernel
theorem d_Mod_leaf_35 : decode b_Mod_leaf 35 = .ok (.iastore, 1) := by decide +kernel
theorem d_Mod_leaf_36 : decode b_Mod_leaf 36 = .ok (.aload_n 0, 1) := by decide +kernel
theorem d_Mod_leaf_37 : decode b_Mod_leaf 37 = .ok (.iconst (-1), 1) := by decide +kernel
theorem d_Mod_leaf_38 : decode b_Mod_leaf 38 = .ok (.invokevirtual 89, 3) := by decide +kernel
theorem d_Mod_leaf_41 : decode b_Mod_leaf 41 = .ok (.ireturn, 1) := by decide +kernel
theorem d_Mod_make_0 : decode b_Mod_make 0 = .ok (.aload_n 0, 1) := by decide +kernel
theorem d_Mod_make_1 : decode b_Mod_make 1 = .ok (.getfield 7, 3) := by decide +kernel
theorem d_Mod_make_4 : decode b_Mod_make 4 = .ok (.aload_n 0, 1) := by decide +kernel
theorem d_Mod_make_5 : decode b_Mod_make 5 = .ok (.getfield 79, 3) := by decide +kernel
theorem d_Mod_make_8 : decode b_Mod_make 8 = .ok (.iload_n 1, 1) := by decide +kernel
theorem d_Mod_make_9 : decode b_Mod_make 9 = .ok (.iastore, 1) := by decide +kernel
theorem d_Mod_make_10 : decode b_Mod_make 10 = .ok (.aload_n 0, 1) := by decide +kernel
theorem d_Mod_make_11 : decode b_Mod_make 11 = .ok (.getfield 22, 3) := by decide +kernel
theorem d_Mod_make_14 : decode b_Mod_make 14 = .ok (.aload_n 0, 1) := by decide +kernel
theorem d_Mod_make_15 : decode b_Mod_make 15 = .ok (.getfield 79, 3) := by decide +kernel
theorem d_Mod_make_18 : decode b_Mod_make 18 = .ok (.iconst (-1), 1) := by decide +kernel
theorem d_Mod_make_19 : decode b_Mod_make 19 = .ok (.iastore, 1) := by decide +kernel
theorem d_Mod_make_20 : decode b_Mod_make 20 = .ok (.aload_n 0, 1) := by decide +kernel
theorem d_Mod_make_21 : decode b_Mod_make 21 = .ok (.getfield 25, 3) := by decide +kernel
theorem d_Mod_make_24 : decode b_Mod_make 24 = .ok (.aload_n 0, 1) := by decide +kernel
theorem d_Mod_make_25 : decode b_Mod_make 25 = .ok (.getfield 79, 3) := by decide +kernel
theorem d_Mod_make_28 : decode b_Mod_make 28 = .ok (.aload_n 0, 1) := by decide +kernel
theorem d_Mod_make_29 : decode b_Mod_make 29 = .ok (.getfield 86, 3) := by decide +kernel
theorem d_Mod_make_32 : decode b_Mod_make 32 = .ok (.iastore, 1) := by decide +kernel
theorem d_Mod_make_33 : decode b_Mod_make 33 = .ok (.aload_n 0, 1) := by decide +kernel
theorem d_Mod_make_34 : decode b_Mod_make 34 = .ok (.getfield 28, 3) := by decide +kernel
theorem d_Mod_make_37 : decode b_Mod_make 37 = .ok (.aload_n 0, 1) := by decide +kernel
theorem d_Mod_make_38 : decode b_Mod_make 38 = .ok (.getfield 79, 3) := by decide +kernel
theorem d_Mod_make_41 : decode b_Mod_make 41 = .ok (.iconst (-1), 1) := by decide +kernel
theorem d_Mod_make_42 : decode b_Mod_make 42 = .ok (.iastore, 1) := by decide +kernel
theorem d_Mod_make_43 : decode b_Mod_make 43 = .ok (.aload_n 0, 1) := by decide +kernel
theorem d_Mod_make_44 : decode b_Mod_make 44 = .ok (.dup, 1) := by decide +kernel
theorem d_Mod_make_45 : decode b_Mod_make 45 = .ok (.getfield 79, 3) := by decide +kernel
theorem d_Mod_make_48 : decode b_Mod_make 48 = .ok (.iconst 1, 1) := by decide +kernel
theorem d_Mod_make_49 : decode b_Mod_make 49 = .ok (.iadd, 1) := by decide +kernel
theorem d_Mod_make_50 : decode b_Mod_make 50 = .ok (.putfield 79, 3) := by decide +kernel
theorem d_Mod_make_53 : decode b_Mod_make 53 = .ok (.aload_n 0, 1) := by decide +kernel
theorem d_Mod_make_54 : decode b_Mod_make 54 = .ok (.getfield 79, 3) := by decide +kernel
theorem d_Mod_make_57 : decode b_Mod_make 57 = .ok (.iconst 1, 1) := by decide +kernel
theorem d_Mod_make_58 : decode b_Mod_make 58 = .ok (.isub, 1) := by decide +kernel
theorem d_Mod_make_59 : decode b_Mod_make 59 = .ok (.ireturn, 1) := by decide +kernel
theorem d_Mod_key_0 : decode b_Mod_key 0 = .ok (.aload_n 0, 1) := by decide +kernel
theorem d_Mod_key_1 : decode b_Mod_key 1 = .ok (.iconst 0, 1) := by decide +kernel
theorem d_Mod_key_2 : decode b_Mod_key 2 = .ok (.putfield 75, 3) := by decide +kernel
theorem d_Mod_key_5 : decode b_Mod_key 5 = .ok (.aload_n 0, 1) := by decide +kernel
theorem d_Mod_key_6 : decode b_Mod_key 6 = .ok (.getfield 79, 3) := by decide +kernel
theorem d_Mod_key_9 : decode b_Mod_key 9 = .ok (.bipush 40, 2) := by decide +kernel
theorem d_Mod_key_11 : decode b_Mod_key 11 = .ok (.if_icmp .eq 13, 3) := by decide +kernel
theorem d_Mod_key_14 : decode b_Mod_key 14 = .ok (.iload_n 1, 1) := by decide +kernel
theorem d_Mod_key_15 : decode b_Mod_key 15 = .ok (.ifCond .lt 9, 3) := by decide +kernel
theorem d_Mod_key_18 : decode b_Mod_key 18 = .ok (.iload_n 1, 1) := by decide +kernel
theorem d_Mod_key_19 : decode b_Mod_key 19 = .ok (.bipush 6, 2) := by decide +kernel
theorem d_Mod_key_21 : decode b_Mod_key 21 = .ok (.if_icmp .lt 7, 3) := by decide +kernel
theorem d_Mod_key_24 : decode b_Mod_key 24 = .ok (.iconst (-1), 1) := by decide +kernel
theorem d_Mod_key_25 : decode b_Mod_key 25 = .ok (.goto 8, 3) := by decide +kernel
theorem d_Mod_key_28 : decode b_Mod_key 28 = .ok (.aload_n 0, 1) := by decide +kernel
theorem d_Mod_key_29 : decode b_Mod_key 29 = .ok (.iload_n 1, 1) := by decide +kernel
theorem d_Mod_key_30 : decode b_Mod_key 30 = .ok (.invokevirtual 89, 3) := by decide +kernel
theorem d_Mod_key_33 : decode b_Mod_key 33 = .ok (.ireturn, 1) := by decide +kernel
theorem d_Mod_asks_0 : decode b_Mod_asks 0 = .ok (.aload_n 0, 1) := by decide +kernel
theorem d_Mod_asks_1 : decode b_Mod_asks 1 = .ok (.iconst 0, 1) := by decide +kernel
theorem d_Mod_asks_2 : decode b_Mod_asks 2 = .ok (.putfield 75, 3) := by decide +kernel
theorem d_Mod_asks_5 : decode b_Mod_asks 5 = .ok (.aload_n 0, 1) := by decide +kernel
theorem d_Mod_asks_6 : decode b_Mod_asks 6 = .ok (.iload_n 1, 1) := by decide +kernel
theorem d_Mod_asks_7 : decode b_Mod_asks 7 = .ok (.invokevirtual 82, 3) := by decide +kernel
theorem d_Mod_asks_10 : decode b_Mod_asks 10 = .ok (.ifCond .eq 30, 3) := by decide +kernel
theorem d_Mod_asks_13 : decode b_Mod_asks 13 = .ok (.aload_n 0, 1) := by decide +kernel
theorem d_Mod_asks_14 : decode b_Mod_asks 14 = .ok (.iload_n 2, 1) := by decide +kernel
theorem d_Mod_asks_15 : decode b_Mod_asks 15 = .ok (.invokevirtual 82, 3) := by decide +kernel
theorem d_Mod_asks_18 : decode b_Mod_asks 18 = .ok (.ifCond .eq 22, 3) := by decide +kernel
theorem d_Mod_asks_21 : decode b_Mod_asks 21 = .ok (.aload_n 0, 1) := by decide +kernel
theorem d_Mod_asks_22 : decode b_Mod_asks 22 = .ok (.iload_n 1, 1) := by decide +kernel
theorem d_Mod_asks_23 : decode b_Mod_asks 23 = .ok (.invokevirtual 101, 3) := by decide +kernel
theorem d_Mod_asks_26 : decode b_Mod_asks 26 = .ok (.ifCond .ne 14, 3) := by decide +kernel
theorem d_Mod_asks_29 : decode b_Mod_asks 29 = .ok (.aload_n 0, 1) := by decide +kernel
theorem d_Mod_asks_30 : decode b_Mod_asks 30 = .ok (.getfield 13, 3) := by decide +kernel
theorem d_Mod_asks_33 : decode b_Mod_asks 33 = .ok (.iload_n 1, 1) := by decide +kernel
theorem d_Mod_asks_34 : decode b_Mod_asks 34 = .ok (.iaload, 1) := by decide +kernel
theorem d_Mod_asks_35 : decode b_Mod_asks 35 = .ok (.bipush 8, 2) := by decide +kernel
theorem d_Mod_asks_37 : decode b_Mod_asks 37 = .ok (.if_icmp .ne 5, 3) := by decide +kernel
theorem d_Mod_asks_40 : decode b_Mod_asks 40 = .ok (.iconst (-1), 1) := by decide +kernel
theorem d_Mod_asks_41 : decode b_Mod_asks 41 = .ok (.ireturn, 1) := by decide +kernel
theorem d_Mod_asks_42 : decode b_Mod_asks 42 = .ok (.aload_n 0, 1) := by decide +kernel
theorem d_Mod_asks_43 : decode b_Mod_asks 43 = .ok (.iload_n 1, 1) := by decide +kernel
theorem d_Mod_asks_44 : decode b_Mod_asks 44 = .ok (.invokevirtual 104, 3) := by decide +kernel
theorem d_Mod_asks_47 : decode b_Mod_asks 47 = .ok (.aload_n 0, 1) := by decide +kernel
theorem d_Mod_asks_48 : decode b_Mod_asks 48 = .ok (.getfield 72, 3) := by decide +kernel
theorem d_Mod_asks_51 : decode b_Mod_asks 51 = .ok (.iload_n 2, 1) := by decide +kernel
theorem d_Mod_asks_52 : decode b_Mod_asks 52 = .ok (.baload, 1) := by decide +kernel
theorem d_Mod_asks_53 : decode b_Mod_asks 53 = .ok (.ifCond .eq 54, 3) := by decide +kernel
theorem d_Mod_asks_56 : decode b_Mod_asks 56 = .ok (.aload_n 0, 1) := by decide +kernel
theorem d_Mod_asks_57 : decode b_Mod_asks 57 = .ok (.getfield 69, 3) := by decide +kernel
theorem d_Mod_asks_60 : decode b_Mod_asks 60 = .ok (.iconst 0, 1) := by decide +kernel
theorem d_Mod_asks_61 : decode b_Mod_asks 61 = .ok (.iload_n 1, 1) := by decide +kernel
theorem d_Mod_asks_62 : decode b_Mod_asks 62 = .ok (.iastore, 1) := by decide +kernel
theorem d_Mod_asks_63 : decode b_Mod_asks 63 = .ok (.aload_n 0, 1) := by decide +kernel
theorem d_Mod_asks_64 : decode b_Mod_asks 64 = .ok (.iconst 1, 1) := by decide +kernel
theorem d_Mod_asks_65 : decode b_Mod_asks 65 = .ok (.putfield 108, 3) := by decide +kernel
theorem d_Mod_asks_68 : decode b_Mod_asks 68 = .ok (.iload_n 2, 1) := by decide +kernel
theorem d_Mod_asks_69 : decode b_Mod_asks 69 = .ok (.istore_n 3, 1) := by decide +kernel
theorem d_Mod_asks_70 : decode b_Mod_asks 70 = .ok (.iload_n 3, 1) := by decide +kernel
theorem d_Mod_asks_71 : decode b_Mod_asks 71 = .ok (.iload_n 1, 1) := by decide +kernel
theorem d_Mod_asks_72 : decode b_Mod_asks 72 = .ok (.if_icmp .eq 32, 3) := by decide +kernel
theorem d_Mod_asks_75 : decode b_Mod_asks 75 = .ok (.aload_n 0, 1) := by decide +kernel
theorem d_Mod_asks_76 : decode b_Mod_asks 76 = .ok (.getfield 69, 3) := by decide +kernel
theorem d_Mod_asks_79 : decode b_Mod_asks 79 = .ok (.aload_n 0, 1) := by decide +kernel
theorem d_Mod_asks_80 : decode b_Mod_asks 80 = .ok (.getfield 108, 3) := by decide +kernel
theorem d_Mod_asks_83 : decode b_Mod_asks 83 = .ok (.iload_n 3, 1) := by decide +kernel
theorem d_Mod_asks_84 : decode b_Mod_asks 84 = .ok (.iastore, 1) := by decide +kernel
theorem d_Mod_asks_85 : decode b_Mod_asks 85 = .ok (.aload_n 0, 1) := by decide +kernel
theorem d_Mod_asks_86 : decode b_Mod_asks 86 = .ok (.dup, 1) := by decide +kernel
theorem d_Mod_asks_87 : decode b_Mod_asks 87 = .ok (.getfield 108, 3) := by decide +kernel
theorem d_Mod_asks_90 : decode b_Mod_asks 90 = .ok (.iconst 1, 1) := by decide +kernel
theorem d_Mod_asks_91 : decode b_Mod_asks 91 = .ok (.iadd, 1) := by decide +kernel
theorem d_Mod_asks_92 : decode b_Mod_asks 92 = .ok (.putfield 108, 3) := by decide +kernel
theorem d_Mod_asks_95 : decode b_Mod_asks 95 = .ok (.aload_n 0, 1) := by decide +kernel
theorem d_Mod_asks_96 : decode b_Mod_asks 96 = .ok (.iload_n 3, 1) := by decide +kernel
theorem d_Mod_asks_97 : decode b_Mod_asks 97 = .ok (.invokevirtual 111, 3) := by decide +kernel
theorem d_Mod_asks_100 : decode b_Mod_asks 100 = .ok (.istore_n 3, 1) := by decide +kernel
theorem d_Mod_asks_101 : decode b_Mod_asks 101 = .ok (.goto (-31), 3) := by decide +kernel
theorem d_Mod_asks_104 : decode b_Mod_asks 104 = .ok (.bipush (-2), 2) := by decide +kernel
theorem d_Mod_asks_106 : decode b_Mod_asks 106 = .ok (.ireturn, 1) := by decide +kernel
theorem d_Mod_asks_107 : decode b_Mod_asks 107 = .ok (.aload_n 0, 1) := by decide +kernel
theorem d_Mod_asks_108 : decode b_Mod_asks 108 = .ok (.getfield 16, 3) := by decide +kernel
theorem d_Mod_asks_111 : decode b_Mod_asks 111 = .ok (.bipush 8, 2) := by decide +kernel
theorem d_Mod_asks_113 : decode b_Mod_asks 113 = .ok (.iload_n 1, 1) := by decide +kernel
theorem d_Mod_asks_114 : decode b_Mod_asks 114 = .ok (.imul, 1) := by decide +kernel
theorem d_Mod_asks_115 : decode b_Mod_asks 115 = .ok (.aload_n 0, 1) := by decide +kernel
theorem d_Mod_asks_116 : decode b_Mod_asks 116 = .ok (.getfield 13, 3) := by decide +kernel
theorem d_Mod_asks_119 : decode b_Mod_asks 119 = .ok (.iload_n 1, 1) := by decide +kernel
theorem d_Mod_asks_120 : decode b_Mod_asks 120 = .ok (.iaload, 1) := by decide +kernel
theorem d_Mod_asks_121 : decode b_Mod_asks 121 = .ok (.iadd, 1) := by decide +kernel
theorem d_Mod_asks_122 : decode b_Mod_asks 122 = .ok (.iload_n 2, 1) := by decide +kernel
theorem d_Mod_asks_123 : decode b_Mod_asks 123 = .ok (.iastore, 1) := by decide +kernel
theorem d_Mod_asks_124 : decode b_Mod_asks 124 = .ok (.aload_n 0, 1) := by decide +kernel
theorem d_Mod_asks_125 : decode b_Mod_asks 125 = .ok (.getfield 13, 3) := by decide +kernel
theorem d_Mod_asks_128 : decode b_Mod_asks 128 = .ok (.iload_n 1, 1) := by decide +kernel
theorem d_Mod_asks_129 : decode b_Mod_asks 129 = .ok (.dup2, 1) := by decide +kernel
theorem d_Mod_asks_130 : decode b_Mod_asks 130 = .ok (.iaload, 1) := by decide +kernel
theorem d_Mod_asks_131 : decode b_Mod_asks 131 = .ok (.iconst 1, 1) := by decide +kernel
theorem d_Mod_asks_132 : decode b_Mod_asks 132 = .ok (.iadd, 1) := by decide +kernel
theorem d_Mod_asks_133 : decode b_Mod_asks 133 = .ok (.iastore, 1) := by decide +kernel
theorem d_Mod_asks_134 : decode b_Mod_asks 134 = .ok (.aload_n 0, 1) := by decide +kernel
theorem d_Mod_asks_135 : decode b_Mod_asks 135 = .ok (.getfield 28, 3) := by decide +kernel
theorem d_Mod_asks_138 : decode b_Mod_asks 138 = .ok (.iload_n 1, 1) := by decide +kernel
theorem d_Mod_asks_139 : decode b_Mod_asks 139 = .ok (.aload_n 0, 1) := by decide +kernel
theorem d_Mod_asks_140 : decode b_Mod_asks 140 = .ok (.invokevirtual 114, 3) := by decide +kernel
theorem d_Mod_asks_143 : decode b_Mod_asks 143 = .ok (.iastore, 1) := by decide +kernel
theorem d_Mod_asks_144 : decode b_Mod_asks 144 = .ok (.iconst 1, 1) := by decide +kernel
theorem d_Mod_asks_145 : decode b_Mod_asks 145 = .ok (.ireturn, 1) := by decide +kernel
theorem d_Mod_isKey_0 : decode b_Mod_isKey 0 = .ok (.iload_n 1, 1) := by decide +kernel
theorem d_Mod_isKey_1 : decode b_Mod_isKey 1 = .ok (.ifCond .lt 15, 3) := by decide +kernel
theorem d_Mod_isKey_4 : decode b_Mod_isKey 4 = .ok (.iload_n 1, 1) := by decide +kernel
theorem d_Mod_isKey_5 : decode b_Mod_isKey 5 = .ok (.aload_n 0, 1) := by decide +kernel
theorem d_Mod_isKey_6 : decode b_Mod_isKey 6 = .ok (.getfield 79, 3) := by decide +kernel
theorem d_Mod_isKey_9 : decode b_Mod_isKey 9 = .ok (.if_icmp .ge 7, 3) := by decide +kernel
theorem d_Mod_isKey_12 : decode b_Mod_isKey 12 = .ok (.iconst 1, 1) := by decide +kernel
theorem d_Mod_isKey_13 : decode b_Mod_isKey 13 = .ok (.goto 4, 3) := by decide +kernel
theorem d_Mod_isKey_16 : decode b_Mod_isKey 16 = .ok (.iconst 0, 1) := by decide +kernel
theorem d_Mod_isKey_17 : decode b_Mod_isKey 17 = .ok (.ireturn, 1) := by decide +kernel
theorem d_Mod_isLeaf_0 : decode b_Mod_isLeaf 0 = .ok (.aload_n 0, 1) := by decide +kernel
theorem d_Mod_isLeaf_1 : decode b_Mod_isLeaf 1 = .ok (.iload_n 1, 1) := by decide +kernel
theorem d_Mod_isLeaf_2 : decode b_Mod_isLeaf 2 = .ok (.invokevirtual 82, 3) := by decide +kernel
theorem d_Mod_isLeaf_5 : decode b_Mod_isLeaf 5 = .ok (.ifCond .eq 17, 3) := by decide +kernel
theorem d_Mod_isLeaf_8 : decode b_Mod_isLeaf 8 = .ok (.aload_n 0, 1) := by decide +kernel
theorem d_Mod_isLeaf_9 : decode b_Mod_isLeaf 9 = .ok (.getfield 7, 3) := by decide +kernel
theorem d_Mod_isLeaf_12 : decode b_Mod_isLeaf 12 = .ok (.iload_n 1, 1) := by decide +kernel
theorem d_Mod_isLeaf_13 : decode b_Mod_isLeaf 13 = .ok (.iaload, 1) := by decide +kernel
theorem d_Mod_isLeaf_14 : decode b_Mod_isLeaf 14 = .ok (.iconst (-1), 1) := by decide +kernel
theorem d_Mod_isLeaf_15 : decode b_Mod_isLeaf 15 = .ok (.if_icmp .ne 7, 3) := by decide +kernel
theorem d_Mod_isLeaf_18 : decode b_Mod_isLeaf 18 = .ok (.iconst 1, 1) := by decide +kernel
theorem d_Mod_isLeaf_19 : decode b_Mod_isLeaf 19 = .ok (.goto 4, 3) := by decide +kernel
theorem d_Mod_isLeaf_22 : decode b_Mod_isLeaf 22 = .ok (.iconst 0, 1) := by decide +kernel
theorem d_Mod_isLeaf_23 : decode b_Mod_isLeaf 23 = .ok (.ireturn, 1) := by decide +kernel
theorem d_Mod_fillLeads_0 : decode b_Mod_fillLeads 0 = .ok (.iconst 0, 1) := by decide +kernel
theorem d_Mod_fillLeads_1 : decode b_Mod_fillLeads 1 = .ok (.istore_n 2, 1) := by decide +kernel
theorem d_Mod_fillLeads_2 : decode b_Mod_fillLeads 2 = .ok (.iload_n 2, 1) := by decide +kernel
theorem d_Mod_fillLeads_3 : decode b_Mod_fillLeads 3 = .ok (.aload_n 0, 1) := by decide +kernel
theorem d_Mod_fillLeads_4 : decode b_Mod_fillLeads 4 = .ok (.getfield 79, 3) := by decide +kernel
theorem d_Mod_fillLeads_7 : decode b_Mod_fillLeads 7 = .ok (.if_icmp .ge 25, 3) := by decide +kernel
theorem d_Mod_fillLeads_10 : decode b_Mod_fillLeads 10 = .ok (.aload_n 0, 1) := by decide +kernel
theorem d_Mod_fillLeads_11 : decode b_Mod_fillLeads 11 = .ok (.getfield 72, 3) := by decide +kernel
theorem d_Mod_fillLeads_14 : decode b_Mod_fillLeads 14 = .ok (.iload_n 2, 1) := by decide +kernel
theorem d_Mod_fillLeads_15 : decode b_Mod_fillLeads 15 = .ok (.iload_n 2, 1) := by decide +kernel
theorem d_Mod_fillLeads_16 : decode b_Mod_fillLeads 16 = .ok (.iload_n 1, 1) := by decide +kernel
theorem d_Mod_fillLeads_17 : decode b_Mod_fillLeads 17 = .ok (.if_icmp .ne 7, 3) := by decide +kernel
theorem d_Mod_fillLeads_20 : decode b_Mod_fillLeads 20 = .ok (.iconst 1, 1) := by decide +kernel
theorem d_Mod_fillLeads_21 : decode b_Mod_fillLeads 21 = .ok (.goto 4, 3) := by decide +kernel
theorem d_Mod_fillLeads_24 : decode b_Mod_fillLeads 24 = .ok (.iconst 0, 1) := by decide +kernel
theorem d_Mod_fillLeads_25 : decode b_Mod_fillLeads 25 = .ok (.bastore, 1) := by decide +kernel
theorem d_Mod_fillLeads_26 : decode b_Mod_fillLeads 26 = .ok (.iinc 2 1, 3) := by decide +kernel
theorem d_Mod_fillLeads_29 : decode b_Mod_fillLeads 29 = .ok (.goto (-27), 3) := by decide +kernel
theorem d_Mod_fillLeads_32 : decode b_Mod_fillLeads 32 = .ok (.iconst 1, 1) := by decide +kernel
theorem d_Mod_fillLeads_33 : decode b_Mod_fillLeads 33 = .ok (.istore_n 2, 1) := by decide +kernel
theorem d_Mod_fillLeads_34 : decode b_Mod_fillLeads 34 = .ok (.iload_n 2, 1) := by decide +kernel
theorem d_Mod_fillLeads_35 : decode b_Mod_fillLeads 35 = .ok (.ifCond .eq 80, 3) := by decide +kernel
theorem d_Mod_fillLeads_38 : decode b_Mod_fillLeads 38 = .ok (.iconst 0, 1) := by decide +kernel
theorem d_Mod_fillLeads_39 : decode b_Mod_fillLeads 39 = .ok (.istore_n 2, 1) := by decide +kernel
theorem d_Mod_fillLeads_40 : decode b_Mod_fillLeads 40 = .ok (.iconst 0, 1) := by decide +kernel
theorem d_Mod_fillLeads_41 : decode b_Mod_fillLeads 41 = .ok (.istore_n 3, 1) := by decide +kernel
theorem d_Mod_fillLeads_42 : decode b_Mod_fillLeads 42 = .ok (.iload_n 3, 1) := by decide +kernel
theorem d_Mod_fillLeads_43 : decode b_Mod_fillLeads 43 = .ok (.aload_n 0, 1) := by decide +kernel
theorem d_Mod_fillLeads_44 : decode b_Mod_fillLeads 44 = .ok (.getfield 79, 3) := by decide +kernel
theorem d_Mod_fillLeads_47 : decode b_Mod_fillLeads 47 = .ok (.if_icmp .ge 65, 3) := by decide +kernel
theorem d_Mod_fillLeads_50 : decode b_Mod_fillLeads 50 = .ok (.iconst 0, 1) := by decide +kernel
theorem d_Mod_fillLeads_51 : decode b_Mod_fillLeads 51 = .ok (.istore 4, 2) := by decide +kernel
theorem d_Mod_fillLeads_53 : decode b_Mod_fillLeads 53 = .ok (.iload 4, 2) := by decide +kernel
theorem d_Mod_fillLeads_55 : decode b_Mod_fillLeads 55 = .ok (.aload_n 0, 1) := by decide +kernel
theorem d_Mod_fillLeads_56 : decode b_Mod_fillLeads 56 = .ok (.getfield 13, 3) := by decide +kernel
theorem d_Mod_fillLeads_59 : decode b_Mod_fillLeads 59 = .ok (.iload_n 3, 1) := by decide +kernel
theorem d_Mod_fillLeads_60 : decode b_Mod_fillLeads 60 = .ok (.iaload, 1) := by decide +kernel
theorem d_Mod_fillLeads_61 : decode b_Mod_fillLeads 61 = .ok (.if_icmp .ge 45, 3) := by decide +kernel
theorem d_Mod_fillLeads_64 : decode b_Mod_fillLeads 64 = .ok (.aload_n 0, 1) := by decide +kernel
theorem d_Mod_fillLeads_65 : decode b_Mod_fillLeads 65 = .ok (.getfield 72, 3) := by decide +kernel
theorem d_Mod_fillLeads_68 : decode b_Mod_fillLeads 68 = .ok (.iload_n 3, 1) := by decide +kernel
theorem d_Mod_fillLeads_69 : decode b_Mod_fillLeads 69 = .ok (.baload, 1) := by decide +kernel
theorem d_Mod_fillLeads_70 : decode b_Mod_fillLeads 70 = .ok (.ifCond .ne 30, 3) := by decide +kernel
theorem d_Mod_fillLeads_73 : decode b_Mod_fillLeads 73 = .ok (.aload_n 0, 1) := by decide +kernel
theorem d_Mod_fillLeads_74 : decode b_Mod_fillLeads 74 = .ok (.getfield 72, 3) := by decide +kernel
theorem d_Mod_fillLeads_77 : decode b_Mod_fillLeads 77 = .ok (.aload_n 0, 1) := by decide +kernel
theorem d_Mod_fillLeads_78 : decode b_Mod_fillLeads 78 = .ok (.iload_n 3, 1) := by decide +kernel
theorem d_Mod_fillLeads_79 : decode b_Mod_fillLeads 79 = .ok (.iload 4, 2) := by decide +kernel
theorem d_Mod_fillLeads_81 : decode b_Mod_fillLeads 81 = .ok (.invokevirtual 97, 3) := by decide +kernel
theorem d_Mod_fillLeads_84 : decode b_Mod_fillLeads 84 = .ok (.baload, 1) := by decide +kernel
theorem d_Mod_fillLeads_85 : decode b_Mod_fillLeads 85 = .ok (.ifCond .ne 6, 3) := by decide +kernel
theorem d_Mod_fillLeads_88 : decode b_Mod_fillLeads 88 = .ok (.goto 12, 3) := by decide +kernel
theorem d_Mod_fillLeads_91 : decode b_Mod_fillLeads 91 = .ok (.aload_n 0, 1) := by decide +kernel
theorem d_Mod_fillLeads_92 : decode b_Mod_fillLeads 92 = .ok (.getfield 72, 3) := by decide +kernel
theorem d_Mod_fillLeads_95 : decode b_Mod_fillLeads 95 = .ok (.iload_n 3, 1) := by decide +kernel
theorem d_Mod_fillLeads_96 : decode b_Mod_fillLeads 96 = .ok (.iconst 1, 1) := by decide +kernel
theorem d_Mod_fillLeads_97 : decode b_Mod_fillLeads 97 = .ok (.bastore, 1) := by decide +kernel
theorem d_Mod_fillLeads_98 : decode b_Mod_fillLeads 98 = .ok (.iconst 1, 1) := by decide +kernel
theorem d_Mod_fillLeads_99 : decode b_Mod_fillLeads 99 = .ok (.istore_n 2, 1) := by decide +kernel
theorem d_Mod_fillLeads_100 : decode b_Mod_fillLeads 100 = .ok (.iinc 4 1, 3) := by decide +kernel
theorem d_Mod_fillLeads_103 : decode b_Mod_fillLeads 103 = .ok (.goto (-50), 3) := by decide +kernel
theorem d_Mod_fillLeads_106 : decode b_Mod_fillLeads 106 = .ok (.iinc 3 1, 3) := by decide +kernel
theorem d_Mod_fillLeads_109 : decode b_Mod_fillLeads 109 = .ok (.goto (-67), 3) := by decide +kernel
theorem d_Mod_fillLeads_112 : decode b_Mod_fillLeads 112 = .ok (.goto (-78), 3) := by decide +kernel
theorem d_Mod_fillLeads_115 : decode b_Mod_fillLeads 115 = .ok (.return_, 1) := by decide +kernel
theorem d_Mod_rowKey_0 : decode b_Mod_rowKey 0 = .ok (.aload_n 0, 1) := by decide +kernel
theorem d_Mod_rowKey_1 : decode b_Mod_rowKey 1 = .ok (.getfield 16, 3) := by decide +kernel
theorem d_Mod_rowKey_4 : decode b_Mod_rowKey 4 = .ok (.bipush 8, 2) := by decide +kernel
theorem d_Mod_rowKey_6 : decode b_Mod_rowKey 6 = .ok (.iload_n 1, 1) := by decide +kernel
theorem d_Mod_rowKey_7 : decode b_Mod_rowKey 7 = .ok (.imul, 1) := by decide +kernel
theorem d_Mod_rowKey_8 : decode b_Mod_rowKey 8 = .ok (.iload_n 2, 1) := by decide +kernel
theorem d_Mod_rowKey_9 : decode b_Mod_rowKey 9 = .ok (.iadd, 1) := by decide +kernel
theorem d_Mod_rowKey_10 : decode b_Mod_rowKey 10 = .ok (.iaload, 1) := by decide +kernel
theorem d_Mod_rowKey_11 : decode b_Mod_rowKey 11 = .ok (.ireturn, 1) := by decide +kernel
theorem d_Mod_firstBack_0 : decode b_Mod_firstBack 0 = .ok (.iconst 0, 1) := by decide +kernel
theorem d_Mod_firstBack_1 : decode b_Mod_firstBack 1 = .ok (.istore_n 2, 1) := by decide +kernel
theorem d_Mod_firstBack_2 : decode b_Mod_firstBack 2 = .ok (.aload_n 0, 1) := by decide +kernel
theorem d_Mod_firstBack_3 : decode b_Mod_firstBack 3 = .ok (.getfield 72, 3) := by decide +kernel
theorem d_Mod_firstBack_6 : decode b_Mod_firstBack 6 = .ok (.aload_n 0, 1) := by decide +kernel
theorem d_Mod_firstBack_7 : decode b_Mod_firstBack 7 = .ok (.iload_n 1, 1) := by decide +kernel
theorem d_Mod_firstBack_8 : decode b_Mod_firstBack 8 = .ok (.iload_n 2, 1) := by decide +kernel
theorem d_Mod_firstBack_9 : decode b_Mod_firstBack 9 = .ok (.invokevirtual 97, 3) := by decide +kernel
theorem d_Mod_firstBack_12 : decode b_Mod_firstBack 12 = .ok (.baload, 1) := by decide +kernel
theorem d_Mod_firstBack_13 : decode b_Mod_firstBack 13 = .ok (.ifCond .ne 9, 3) := by decide +kernel
theorem d_Mod_firstBack_16 : decode b_Mod_firstBack 16 = .ok (.iinc 2 1, 3) := by decide +kernel
theorem d_Mod_firstBack_19 : decode b_Mod_firstBack 19 = .ok (.goto (-17), 3) := by decide +kernel
theorem d_Mod_firstBack_22 : decode b_Mod_firstBack 22 = .ok (.aload_n 0, 1) := by decide +kernel
theorem d_Mod_firstBack_23 : decode b_Mod_firstBack 23 = .ok (.iload_n 1, 1) := by decide +kernel
theorem d_Mod_firstBack_24 : decode b_Mod_firstBack 24 = .ok (.iload_n 2, 1) := by decide +kernel
theorem d_Mod_firstBack_25 : decode b_Mod_firstBack 25 = .ok (.invokevirtual 97, 3) := by decide +kernel
theorem d_Mod_firstBack_28 : decode b_Mod_firstBack 28 = .ok (.ireturn, 1) := by decide +kernel
theorem d_Mod_next_0 : decode b_Mod_next 0 = .ok (.aload_n 0, 1) := by decide +kernel
theorem d_Mod_next_1 : decode b_Mod_next 1 = .ok (.invokevirtual 93, 3) := by decide +kernel
theorem d_Mod_next_4 : decode b_Mod_next 4 = .ok (.pop, 1) := by decide +kernel
theorem d_Mod_next_5 : decode b_Mod_next 5 = .ok (.aload_n 0, 1) := by decide +kernel
theorem d_Mod_next_6 : decode b_Mod_next 6 = .ok (.dup, 1) := by decide +kernel
theorem d_Mod_next_7 : decode b_Mod_next 7 = .ok (.getfield 86, 3) := by decide +kernel
theorem d_Mod_next_10 : decode b_Mod_next 10 = .ok (.iconst 1, 1) := by decide +kernel
theorem d_Mod_next_11 : decode b_Mod_next 11 = .ok (.iadd, 1) := by decide +kernel
theorem d_Mod_next_12 : decode b_Mod_next 12 = .ok (.putfield 86, 3) := by decide +kernel
theorem d_Mod_next_15 : decode b_Mod_next 15 = .ok (.aload_n 0, 1) := by decide +kernel
theorem d_Mod_next_16 : decode b_Mod_next 16 = .ok (.getfield 86, 3) := by decide +kernel
theorem d_Mod_next_19 : decode b_Mod_next 19 = .ok (.ireturn, 1) := by decide +kernel
theorem d_Mod_empty_0 : decode b_Mod_empty 0 = .ok (.iconst 0, 1) := by decide +kernel
theorem d_Mod_empty_1 : decode b_Mod_empty 1 = .ok (.istore_n 1, 1) := by decide +kernel
theorem d_Mod_empty_2 : decode b_Mod_empty 2 = .ok (.iconst 0, 1) := by decide +kernel
theorem d_Mod_empty_3 : decode b_Mod_empty 3 = .ok (.istore_n 2, 1) := by decide +kernel
theorem d_Mod_empty_4 : decode b_Mod_empty 4 = .ok (.iload_n 2, 1) := by decide +kernel
theorem d_Mod_empty_5 : decode b_Mod_empty 5 = .ok (.iconst 5, 1) := by decide +kernel
theorem d_Mod_empty_6 : decode b_Mod_empty 6 = .ok (.if_icmp .ge 25, 3) := by decide +kernel
theorem d_Mod_empty_9 : decode b_Mod_empty 9 = .ok (.iload_n 1, 1) := by decide +kernel
theorem d_Mod_empty_10 : decode b_Mod_empty 10 = .ok (.aload_n 0, 1) := by decide +kernel
theorem d_Mod_empty_11 : decode b_Mod_empty 11 = .ok (.getfield 54, 3) := by decide +kernel
theorem d_Mod_empty_14 : decode b_Mod_empty 14 = .ok (.iload_n 2, 1) := by decide +kernel
theorem d_Mod_empty_15 : decode b_Mod_empty 15 = .ok (.iaload, 1) := by decide +kernel
theorem d_Mod_empty_16 : decode b_Mod_empty 16 = .ok (.iadd, 1) := by decide +kernel
theorem d_Mod_empty_17 : decode b_Mod_empty 17 = .ok (.istore_n 1, 1) := by decide +kernel
theorem d_Mod_empty_18 : decode b_Mod_empty 18 = .ok (.aload_n 0, 1) := by decide +kernel
theorem d_Mod_empty_19 : decode b_Mod_empty 19 = .ok (.getfield 54, 3) := by decide +kernel
theorem d_Mod_empty_22 : decode b_Mod_empty 22 = .ok (.iload_n 2, 1) := by decide +kernel
theorem d_Mod_empty_23 : decode b_Mod_empty 23 = .ok (.iconst 0, 1) := by decide +kernel
theorem d_Mod_empty_24 : decode b_Mod_empty 24 = .ok (.iastore, 1) := by decide +kernel
theorem d_Mod_empty_25 : decode b_Mod_empty 25 = .ok (.iinc 2 1, 3) := by decide +kernel
theorem d_Mod_empty_28 : decode b_Mod_empty 28 = .ok (.goto (-24), 3) := by decide +kernel
theorem d_Mod_empty_31 : decode b_Mod_empty 31 = .ok (.iload_n 1, 1) := by decide +kernel
theorem d_Mod_empty_32 : decode b_Mod_empty 32 = .ok (.ireturn, 1) := by decide +kernel
theorem d_Mod_ring_0 : decode b_Mod_ring 0 = .ok (.aload_n 0, 1) := by decide +kernel
theorem d_Mod_ring_1 : decode b_Mod_ring 1 = .ok (.iconst 0, 1) := by decide +kernel
theorem d_Mod_ring_2 : decode b_Mod_ring 2 = .ok (.putfield 75, 3) := by decide +kernel
theorem d_Mod_ring_5 : decode b_Mod_ring 5 = .ok (.iload_n 1, 1) := by decide +kernel
theorem d_Mod_ring_6 : decode b_Mod_ring 6 = .ok (.ifCond .lt 11, 3) := by decide +kernel
theorem d_Mod_ring_9 : decode b_Mod_ring 9 = .ok (.iload_n 1, 1) := by decide +kernel
theorem d_Mod_ring_10 : decode b_Mod_ring 10 = .ok (.aload_n 0, 1) := by decide +kernel
theorem d_Mod_ring_11 : decode b_Mod_ring 11 = .ok (.getfield 108, 3) := by decide +kernel
theorem d_Mod_ring_14 : decode b_Mod_ring 14 = .ok (.if_icmp .lt 7, 3) := by decide +kernel
theorem d_Mod_ring_17 : decode b_Mod_ring 17 = .ok (.iconst (-1), 1) := by decide +kernel
theorem d_Mod_ring_18 : decode b_Mod_ring 18 = .ok (.goto 9, 3) := by decide +kernel
theorem d_Mod_ring_21 : decode b_Mod_ring 21 = .ok (.aload_n 0, 1) := by decide +kernel
theorem d_Mod_ring_22 : decode b_Mod_ring 22 = .ok (.getfield 69, 3) := by decide +kernel
theorem d_Mod_ring_25 : decode b_Mod_ring 25 = .ok (.iload_n 1, 1) := by decide +kernel
theorem d_Mod_ring_26 : decode b_Mod_ring 26 = .ok (.iaload, 1) := by decide +kernel
theorem d_Mod_ring_27 : decode b_Mod_ring 27 = .ok (.ireturn, 1) := by decide +kernel
theorem d_Mod_change_0 : decode b_Mod_change 0 = .ok (.aload_n 0, 1) := by decide +kernel
theorem d_Mod_change_1 : decode b_Mod_change 1 = .ok (.iconst 0, 1) := by decide +kernel
theorem d_Mod_change_2 : decode b_Mod_change 2 = .ok (.putfield 75, 3) := by decide +kernel
theorem d_Mod_change_5 : decode b_Mod_change 5 = .ok (.aload_n 0, 1) := by decide +kernel
theorem d_Mod_change_6 : decode b_Mod_change 6 = .ok (.iload_n 1, 1) := by decide +kernel
theorem d_Mod_change_7 : decode b_Mod_change 7 = .ok (.invokevirtual 101, 3) := by decide +kernel
theorem d_Mod_change_10 : decode b_Mod_change 10 = .ok (.ifCond .ne 5, 3) := by decide +kernel
theorem d_Mod_change_13 : decode b_Mod_change 13 = .ok (.iconst (-1), 1) := by decide +kernel
theorem d_Mod_change_14 : decode b_Mod_change 14 = .ok (.ireturn, 1) := by decide +kernel
theorem d_Mod_change_15 : decode b_Mod_change 15 = .ok (.aload_n 0, 1) := by decide +kernel
theorem d_Mod_change_16 : decode b_Mod_change 16 = .ok (.getfield 43, 3) := by decide +kernel
theorem d_Mod_change_19 : decode b_Mod_change 19 = .ok (.iload_n 1, 1) := by decide +kernel
theorem d_Mod_change_20 : decode b_Mod_change 20 = .ok (.laload, 1) := by decide +kernel
theorem d_Mod_change_21 : decode b_Mod_change 21 = .ok (.lload_n 2, 1) := by decide +kernel
theorem d_Mod_change_22 : decode b_Mod_change 22 = .ok (.lcmp, 1) := by decide +kernel
theorem d_Mod_change_23 : decode b_Mod_change 23 = .ok (.ifCond .eq 20, 3) := by decide +kernel
theorem d_Mod_change_26 : decode b_Mod_change 26 = .ok (.aload_n 0, 1) := by decide +kernel
theorem d_Mod_change_27 : decode b_Mod_change 27 = .ok (.getfield 43, 3) := by decide +kernel
theorem d_Mod_change_30 : decode b_Mod_change 30 = .ok (.iload_n 1, 1) := by decide +kernel
theorem d_Mod_change_31 : decode b_Mod_change 31 = .ok (.lload_n 2, 1) := by decide +kernel
theorem d_Mod_change_32 : decode b_Mod_change 32 = .ok (.lastore, 1) := by decide +kernel
theorem d_Mod_change_33 : decode b_Mod_change 33 = .ok (.aload_n 0, 1) := by decide +kernel
theorem d_Mod_change_34 : decode b_Mod_change 34 = .ok (.getfield 25, 3) := by decide +kernel
theorem d_Mod_change_37 : decode b_Mod_change 37 = .ok (.iload_n 1, 1) := by decide +kernel
theorem d_Mod_change_38 : decode b_Mod_change 38 = .ok (.aload_n 0, 1) := by decide +kernel
theorem d_Mod_change_39 : decode b_Mod_change 39 = .ok (.invokevirtual 114, 3) := by decide +kernel
theorem d_Mod_change_42 : decode b_Mod_change 42 = .ok (.iastore, 1) := by decide +kernel
theorem d_Mod_change_43 : decode b_Mod_change 43 = .ok (.aload_n 0, 1) := by decide +kernel
theorem d_Mod_change_44 : decode b_Mod_change 44 = .ok (.getfield 86, 3) := by decide +kernel
theorem d_Mod_change_47 : decode b_Mod_change 47 = .ok (.ireturn, 1) := by decide +kernel
theorem d_Mod_spoil_0 : decode b_Mod_spoil 0 = .ok (.aload_n 0, 1) := by decide +kernel
theorem d_Mod_spoil_1 : decode b_Mod_spoil 1 = .ok (.iconst 0, 1) := by decide +kernel
theorem d_Mod_spoil_2 : decode b_Mod_spoil 2 = .ok (.putfield 75, 3) := by decide +kernel
theorem d_Mod_spoil_5 : decode b_Mod_spoil 5 = .ok (.aload_n 0, 1) := by decide +kernel
theorem d_Mod_spoil_6 : decode b_Mod_spoil 6 = .ok (.iload_n 1, 1) := by decide +kernel
theorem d_Mod_spoil_7 : decode b_Mod_spoil 7 = .ok (.invokevirtual 82, 3) := by decide +kernel
theorem d_Mod_spoil_10 : decode b_Mod_spoil 10 = .ok (.ifCond .eq 11, 3) := by decide +kernel
theorem d_Mod_spoil_13 : decode b_Mod_spoil 13 = .ok (.aload_n 0, 1) := by decide +kernel
theorem d_Mod_spoil_14 : decode b_Mod_spoil 14 = .ok (.iload_n 1, 1) := by decide +kernel
theorem d_Mod_spoil_15 : decode b_Mod_spoil 15 = .ok (.invokevirtual 101, 3) := by decide +kernel
theorem d_Mod_spoil_18 : decode b_Mod_spoil 18 = .ok (.ifCond .eq 5, 3) := by decide +kernel
theorem d_Mod_spoil_21 : decode b_Mod_spoil 21 = .ok (.iconst (-1), 1) := by decide +kernel
theorem d_Mod_spoil_22 : decode b_Mod_spoil 22 = .ok (.ireturn, 1) := by decide +kernel
theorem d_Mod_spoil_23 : decode b_Mod_spoil 23 = .ok (.aload_n 0, 1) := by decide +kernel
theorem d_Mod_spoil_24 : decode b_Mod_spoil 24 = .ok (.getfield 47, 3) := by decide +kernel
theorem d_Mod_spoil_27 : decode b_Mod_spoil 27 = .ok (.iload_n 1, 1) := by decide +kernel
theorem d_Mod_spoil_28 : decode b_Mod_spoil 28 = .ok (.baload, 1) := by decide +kernel
theorem d_Mod_spoil_29 : decode b_Mod_spoil 29 = .ok (.iload_n 2, 1) := by decide +kernel
theorem d_Mod_spoil_30 : decode b_Mod_spoil 30 = .ok (.if_icmp .eq 20, 3) := by decide +kernel
theorem d_Mod_spoil_33 : decode b_Mod_spoil 33 = .ok (.aload_n 0, 1) := by decide +kernel
theorem d_Mod_spoil_34 : decode b_Mod_spoil 34 = .ok (.getfield 47, 3) := by decide +kernel
theorem d_Mod_spoil_37 : decode b_Mod_spoil 37 = .ok (.iload_n 1, 1) := by decide +kernel
theorem d_Mod_spoil_38 : decode b_Mod_spoil 38 = .ok (.iload_n 2, 1) := by decide +kernel
theorem d_Mod_spoil_39 : decode b_Mod_spoil 39 = .ok (.bastore, 1) := by decide +kernel
theorem d_Mod_spoil_40 : decode b_Mod_spoil 40 = .ok (.aload_n 0, 1) := by decide +kernel
theorem d_Mod_spoil_41 : decode b_Mod_spoil 41 = .ok (.getfield 28, 3) := by decide +kernel
theorem d_Mod_spoil_44 : decode b_Mod_spoil 44 = .ok (.iload_n 1, 1) := by decide +kernel
theorem d_Mod_spoil_45 : decode b_Mod_spoil 45 = .ok (.aload_n 0, 1) := by decide +kernel
theorem d_Mod_spoil_46 : decode b_Mod_spoil 46 = .ok (.invokevirtual 114, 3) := by decide +kernel
theorem d_Mod_spoil_49 : decode b_Mod_spoil 49 = .ok (.iastore, 1) := by decide +kernel
theorem d_Mod_spoil_50 : decode b_Mod_spoil 50 = .ok (.aload_n 0, 1) := by decide +kernel
theorem d_Mod_spoil_51 : decode b_Mod_spoil 51 = .ok (.getfield 86, 3) := by decide +kernel
theorem d_Mod_spoil_54 : decode b_Mod_spoil 54 = .ok (.ireturn, 1) := by decide +kernel
theorem d_Mod_begin_0 : decode b_Mod_begin 0 = .ok (.aload_n 0, 1) := by decide +kernel
theorem d_Mod_begin_1 : decode b_Mod_begin 1 = .ok (.iconst 0, 1) := by decide +kernel
theorem d_Mod_begin_2 : decode b_Mod_begin 2 = .ok (.putfield 75, 3) := by decide +kernel
theorem d_Mod_begin_5 : decode b_Mod_begin 5 = .ok (.iload_n 1, 1) := by decide +kernel
theorem d_Mod_begin_6 : decode b_Mod_begin 6 = .ok (.invokestatic 117, 3) := by decide +kernel
theorem d_Mod_begin_9 : decode b_Mod_begin 9 = .ok (.ifCond .eq 20, 3) := by decide +kernel
theorem d_Mod_begin_12 : decode b_Mod_begin 12 = .ok (.aload_n 0, 1) := by decide +kernel
theorem d_Mod_begin_13 : decode b_Mod_begin 13 = .ok (.iload_n 2, 1) := by decide +kernel
theorem d_Mod_begin_14 : decode b_Mod_begin 14 = .ok (.invokevirtual 82, 3) := by decide +kernel
theorem d_Mod_begin_17 : decode b_Mod_begin 17 = .ok (.ifCond .eq 12, 3) := by decide +kernel
theorem d_Mod_begin_20 : decode b_Mod_begin 20 = .ok (.aload_n 0, 1) := by decide +kernel
theorem d_Mod_begin_21 : decode b_Mod_begin 21 = .ok (.getfield 54, 3) := by decide +kernel
theorem d_Mod_begin_24 : decode b_Mod_begin 24 = .ok (.iload_n 1, 1) := by decide +kernel
theorem d_Mod_begin_25 : decode b_Mod_begin 25 = .ok (.iaload, 1) := by decide +kernel
theorem d_Mod_begin_26 : decode b_Mod_begin 26 = .ok (.ifCond .le 5, 3) := by decide +kernel
theorem d_Mod_begin_29 : decode b_Mod_begin 29 = .ok (.iconst (-1), 1) := by decide +kernel
theorem d_Mod_begin_30 : decode b_Mod_begin 30 = .ok (.ireturn, 1) := by decide +kernel
theorem d_Mod_begin_31 : decode b_Mod_begin 31 = .ok (.aload_n 0, 1) := by decide +kernel
theorem d_Mod_begin_32 : decode b_Mod_begin 32 = .ok (.iload_n 2, 1) := by decide +kernel
theorem d_Mod_begin_33 : decode b_Mod_begin 33 = .ok (.invokevirtual 120, 3) := by decide +kernel
theorem d_Mod_begin_36 : decode b_Mod_begin 36 = .ok (.iconst (-1), 1) := by decide +kernel
theorem d_Mod_begin_37 : decode b_Mod_begin 37 = .ok (.if_icmp .eq 6, 3) := by decide +kernel
theorem d_Mod_begin_40 : decode b_Mod_begin 40 = .ok (.bipush (-2), 2) := by decide +kernel
theorem d_Mod_begin_42 : decode b_Mod_begin 42 = .ok (.ireturn, 1) := by decide +kernel
theorem d_Mod_begin_43 : decode b_Mod_begin 43 = .ok (.aload_n 0, 1) := by decide +kernel
theorem d_Mod_begin_44 : decode b_Mod_begin 44 = .ok (.iload_n 2, 1) := by decide +kernel
theorem d_Mod_begin_45 : decode b_Mod_begin 45 = .ok (.invokevirtual 123, 3) := by decide +kernel
theorem d_Mod_begin_48 : decode b_Mod_begin 48 = .ok (.ifCond .eq 5, 3) := by decide +kernel
theorem d_Mod_begin_51 : decode b_Mod_begin 51 = .ok (.iconst 0, 1) := by decide +kernel
theorem d_Mod_begin_52 : decode b_Mod_begin 52 = .ok (.ireturn, 1) := by decide +kernel
theorem d_Mod_begin_53 : decode b_Mod_begin 53 = .ok (.aload_n 0, 1) := by decide +kernel
theorem d_Mod_begin_54 : decode b_Mod_begin 54 = .ok (.iload_n 1, 1) := by decide +kernel
theorem d_Mod_begin_55 : decode b_Mod_begin 55 = .ok (.iload_n 2, 1) := by decide +kernel
theorem d_Mod_begin_56 : decode b_Mod_begin 56 = .ok (.invokevirtual 126, 3) := by decide +kernel
theorem d_Mod_begin_59 : decode b_Mod_begin 59 = .ok (.iconst 1, 1) := by decide +kernel
theorem d_Mod_begin_60 : decode b_Mod_begin 60 = .ok (.ireturn, 1) := by decide +kernel
theorem d_Mod_isWorker_0 : decode b_Mod_isWorker 0 = .ok (.iload_n 0, 1) := by decide +kernel
theorem d_Mod_isWorker_1 : decode b_Mod_isWorker 1 = .ok (.ifCond .lt 12, 3) := by decide +kernel
theorem d_Mod_isWorker_4 : decode b_Mod_isWorker 4 = .ok (.iload_n 0, 1) := by decide +kernel
theorem d_Mod_isWorker_5 : decode b_Mod_isWorker 5 = .ok (.iconst 4, 1) := by decide +kernel
theorem d_Mod_isWorker_6 : decode b_Mod_isWorker 6 = .ok (.if_icmp .ge 7, 3) := by decide +kernel
theorem d_Mod_isWorker_9 : decode b_Mod_isWorker 9 = .ok (.iconst 1, 1) := by decide +kernel
theorem d_Mod_isWorker_10 : decode b_Mod_isWorker 10 = .ok (.goto 4, 3) := by decide +kernel
theorem d_Mod_isWorker_13 : decode b_Mod_isWorker 13 = .ok (.iconst 0, 1) := by decide +kernel
theorem d_Mod_isWorker_14 : decode b_Mod_isWorker 14 = .ok (.ireturn, 1) := by decide +kernel
theorem d_Mod_pileOf_0 : decode b_Mod_pileOf 0 = .ok (.iconst (-1), 1) := by decide +kernel
theorem d_Mod_pileOf_1 : decode b_Mod_pileOf 1 = .ok (.istore_n 2, 1) := by decide +kernel
theorem d_Mod_pileOf_2 : decode b_Mod_pileOf 2 = .ok (.iconst 0, 1) := by decide +kernel
theorem d_Mod_pileOf_3 : decode b_Mod_pileOf 3 = .ok (.istore_n 3, 1) := by decide +kernel
theorem d_Mod_pileOf_4 : decode b_Mod_pileOf 4 = .ok (.iload_n 3, 1) := by decide +kernel
theorem d_Mod_pileOf_5 : decode b_Mod_pileOf 5 = .ok (.iconst 5, 1) := by decide +kernel
theorem d_Mod_pileOf_6 : decode b_Mod_pileOf 6 = .ok (.if_icmp .ge 51, 3) := by decide +kernel
theorem d_Mod_pileOf_9 : decode b_Mod_pileOf 9 = .ok (.iconst 0, 1) := by decide +kernel
theorem d_Mod_pileOf_10 : decode b_Mod_pileOf 10 = .ok (.istore 4, 2) := by decide +kernel
theorem d_Mod_pileOf_12 : decode b_Mod_pileOf 12 = .ok (.iload 4, 2) := by decide +kernel
theorem d_Mod_pileOf_14 : decode b_Mod_pileOf 14 = .ok (.aload_n 0, 1) := by decide +kernel
theorem d_Mod_pileOf_15 : decode b_Mod_pileOf 15 = .ok (.getfield 54, 3) := by decide +kernel
theorem d_Mod_pileOf_18 : decode b_Mod_pileOf 18 = .ok (.iload_n 3, 1) := by decide +kernel
theorem d_Mod_pileOf_19 : decode b_Mod_pileOf 19 = .ok (.iaload, 1) := by decide +kernel
theorem d_Mod_pileOf_20 : decode b_Mod_pileOf 20 = .ok (.if_icmp .ge 31, 3) := by decide +kernel
theorem d_Mod_pileOf_23 : decode b_Mod_pileOf 23 = .ok (.aload_n 0, 1) := by decide +kernel
theorem d_Mod_pileOf_24 : decode b_Mod_pileOf 24 = .ok (.getfield 57, 3) := by decide +kernel
theorem d_Mod_pileOf_27 : decode b_Mod_pileOf 27 = .ok (.bipush 40, 2) := by decide +kernel
theorem d_Mod_pileOf_29 : decode b_Mod_pileOf 29 = .ok (.iload_n 3, 1) := by decide +kernel
theorem d_Mod_pileOf_30 : decode b_Mod_pileOf 30 = .ok (.imul, 1) := by decide +kernel
theorem d_Mod_pileOf_31 : decode b_Mod_pileOf 31 = .ok (.iload 4, 2) := by decide +kernel
theorem d_Mod_pileOf_33 : decode b_Mod_pileOf 33 = .ok (.iadd, 1) := by decide +kernel
theorem d_Mod_pileOf_34 : decode b_Mod_pileOf 34 = .ok (.iaload, 1) := by decide +kernel
theorem d_Mod_pileOf_35 : decode b_Mod_pileOf 35 = .ok (.iload_n 1, 1) := by decide +kernel
theorem d_Mod_pileOf_36 : decode b_Mod_pileOf 36 = .ok (.if_icmp .ne 7, 3) := by decide +kernel
theorem d_Mod_pileOf_39 : decode b_Mod_pileOf 39 = .ok (.iload_n 3, 1) := by decide +kernel
theorem d_Mod_pileOf_40 : decode b_Mod_pileOf 40 = .ok (.goto 4, 3) := by decide +kernel
theorem d_Mod_pileOf_43 : decode b_Mod_pileOf 43 = .ok (.iload_n 2, 1) := by decide +kernel
theorem d_Mod_pileOf_44 : decode b_Mod_pileOf 44 = .ok (.istore_n 2, 1) := by decide +kernel
theorem d_Mod_pileOf_45 : decode b_Mod_pileOf 45 = .ok (.iinc 4 1, 3) := by decide +kernel
theorem d_Mod_pileOf_48 : decode b_Mod_pileOf 48 = .ok (.goto (-36), 3) := by decide +kernel
theorem d_Mod_pileOf_51 : decode b_Mod_pileOf 51 = .ok (.iinc 3 1, 3) := by decide +kernel
theorem d_Mod_pileOf_54 : decode b_Mod_pileOf 54 = .ok (.goto (-50), 3) := by decide +kernel
theorem d_Mod_pileOf_57 : decode b_Mod_pileOf 57 = .ok (.iload_n 2, 1) := by decide +kernel
theorem d_Mod_pileOf_58 : decode b_Mod_pileOf 58 = .ok (.ireturn, 1) := by decide +kernel
theorem d_Mod_isSure_0 : decode b_Mod_isSure 0 = .ok (.aload_n 0, 1) := by decide +kernel
theorem d_Mod_isSure_1 : decode b_Mod_isSure 1 = .ok (.getfield 7, 3) := by decide +kernel
theorem d_Mod_isSure_4 : decode b_Mod_isSure 4 = .ok (.iload_n 1, 1) := by decide +kernel
theorem d_Mod_isSure_5 : decode b_Mod_isSure 5 = .ok (.iaload, 1) := by decide +kernel
theorem d_Mod_isSure_6 : decode b_Mod_isSure 6 = .ok (.iconst (-1), 1) := by decide +kernel
theorem d_Mod_isSure_7 : decode b_Mod_isSure 7 = .ok (.if_icmp .eq 25, 3) := by decide +kernel
theorem d_Mod_isSure_10 : decode b_Mod_isSure 10 = .ok (.aload_n 0, 1) := by decide +kernel
theorem d_Mod_isSure_11 : decode b_Mod_isSure 11 = .ok (.getfield 51, 3) := by decide +kernel
theorem d_Mod_isSure_14 : decode b_Mod_isSure 14 = .ok (.iload_n 1, 1) := by decide +kernel
theorem d_Mod_isSure_15 : decode b_Mod_isSure 15 = .ok (.baload, 1) := by decide +kernel
theorem d_Mod_isSure_16 : decode b_Mod_isSure 16 = .ok (.ifCond .eq 20, 3) := by decide +kernel
theorem d_Mod_isSure_19 : decode b_Mod_isSure 19 = .ok (.aload_n 0, 1) := by decide +kernel
theorem d_Mod_isSure_20 : decode b_Mod_isSure 20 = .ok (.getfield 22, 3) := by decide +kernel
theorem d_Mod_isSure_23 : decode b_Mod_isSure 23 = .ok (.iload_n 1, 1) := by decide +kernel
theorem d_Mod_isSure_24 : decode b_Mod_isSure 24 = .ok (.iaload, 1) := by decide +kernel
theorem d_Mod_isSure_25 : decode b_Mod_isSure 25 = .ok (.aload_n 0, 1) := by decide +kernel
theorem d_Mod_isSure_26 : decode b_Mod_isSure 26 = .ok (.getfield 86, 3) := by decide +kernel
theorem d_Mod_isSure_29 : decode b_Mod_isSure 29 = .ok (.if_icmp .ne 7, 3) := by decide +kernel
theorem d_Mod_isSure_32 : decode b_Mod_isSure 32 = .ok (.iconst 1, 1) := by decide +kernel
theorem d_Mod_isSure_33 : decode b_Mod_isSure 33 = .ok (.goto 4, 3) := by decide +kernel
theorem d_Mod_isSure_36 : decode b_Mod_isSure 36 = .ok (.iconst 0, 1) := by decide +kernel
theorem d_Mod_isSure_37 : decode b_Mod_isSure 37 = .ok (.ireturn, 1) := by decide +kernel
theorem d_Mod_lay_0 : decode b_Mod_lay 0 = .ok (.bipush 40, 2) := by decide +kernel
theorem d_Mod_lay_2 : decode b_Mod_lay 2 = .ok (.iload_n 1, 1) := by decide +kernel
theorem d_Mod_lay_3 : decode b_Mod_lay 3 = .ok (.imul, 1) := by decide +kernel
theorem d_Mod_lay_4 : decode b_Mod_lay 4 = .ok (.aload_n 0, 1) := by decide +kernel
theorem d_Mod_lay_5 : decode b_Mod_lay 5 = .ok (.getfield 54, 3) := by decide +kernel
theorem d_Mod_lay_8 : decode b_Mod_lay 8 = .ok (.iload_n 1, 1) := by decide +kernel
theorem d_Mod_lay_9 : decode b_Mod_lay 9 = .ok (.iaload, 1) := by decide +kernel
theorem d_Mod_lay_10 : decode b_Mod_lay 10 = .ok (.iadd, 1) := by decide +kernel
theorem d_Mod_lay_11 : decode b_Mod_lay 11 = .ok (.istore_n 3, 1) := by decide +kernel
theorem d_Mod_lay_12 : decode b_Mod_lay 12 = .ok (.aload_n 0, 1) := by decide +kernel
theorem d_Mod_lay_13 : decode b_Mod_lay 13 = .ok (.getfield 57, 3) := by decide +kernel
theorem d_Mod_lay_16 : decode b_Mod_lay 16 = .ok (.iload_n 3, 1) := by decide +kernel
theorem d_Mod_lay_17 : decode b_Mod_lay 17 = .ok (.iload_n 2, 1) := by decide +kernel
theorem d_Mod_lay_18 : decode b_Mod_lay 18 = .ok (.iastore, 1) := by decide +kernel
theorem d_Mod_lay_19 : decode b_Mod_lay 19 = .ok (.aload_n 0, 1) := by decide +kernel
theorem d_Mod_lay_20 : decode b_Mod_lay 20 = .ok (.getfield 66, 3) := by decide +kernel
theorem d_Mod_lay_23 : decode b_Mod_lay 23 = .ok (.iload_n 3, 1) := by decide +kernel
theorem d_Mod_lay_24 : decode b_Mod_lay 24 = .ok (.aload_n 0, 1) := by decide +kernel
theorem d_Mod_lay_25 : decode b_Mod_lay 25 = .ok (.getfield 51, 3) := by decide +kernel
theorem d_Mod_lay_28 : decode b_Mod_lay 28 = .ok (.iload_n 2, 1) := by decide +kernel
theorem d_Mod_lay_29 : decode b_Mod_lay 29 = .ok (.baload, 1) := by decide +kernel
theorem d_Mod_lay_30 : decode b_Mod_lay 30 = .ok (.ifCond .eq 18, 3) := by decide +kernel
theorem d_Mod_lay_33 : decode b_Mod_lay 33 = .ok (.aload_n 0, 1) := by decide +kernel
theorem d_Mod_lay_34 : decode b_Mod_lay 34 = .ok (.getfield 28, 3) := by decide +kernel
theorem d_Mod_lay_37 : decode b_Mod_lay 37 = .ok (.iload_n 2, 1) := by decide +kernel
theorem d_Mod_lay_38 : decode b_Mod_lay 38 = .ok (.iaload, 1) := by decide +kernel
theorem d_Mod_lay_39 : decode b_Mod_lay 39 = .ok (.aload_n 0, 1) := by decide +kernel
theorem d_Mod_lay_40 : decode b_Mod_lay 40 = .ok (.getfield 22, 3) := by decide +kernel
theorem d_Mod_lay_43 : decode b_Mod_lay 43 = .ok (.iload_n 2, 1) := by decide +kernel
theorem d_Mod_lay_44 : decode b_Mod_lay 44 = .ok (.iaload, 1) := by decide +kernel
theorem d_Mod_lay_45 : decode b_Mod_lay 45 = .ok (.if_icmp .le 7, 3) := by decide +kernel
theorem d_Mod_lay_48 : decode b_Mod_lay 48 = .ok (.iconst 1, 1) := by decide +kernel
theorem d_Mod_lay_49 : decode b_Mod_lay 49 = .ok (.goto 4, 3) := by decide +kernel
theorem d_Mod_lay_52 : decode b_Mod_lay 52 = .ok (.iconst 0, 1) := by decide +kernel
theorem d_Mod_lay_53 : decode b_Mod_lay 53 = .ok (.bastore, 1) := by decide +kernel
theorem d_Mod_lay_54 : decode b_Mod_lay 54 = .ok (.aload_n 0, 1) := by decide +kernel
theorem d_Mod_lay_55 : decode b_Mod_lay 55 = .ok (.getfield 60, 3) := by decide +kernel
theorem d_Mod_lay_58 : decode b_Mod_lay 58 = .ok (.iload_n 3, 1) := by decide +kernel
theorem d_Mod_lay_59 : decode b_Mod_lay 59 = .ok (.iconst 0, 1) := by decide +kernel
theorem d_Mod_lay_60 : decode b_Mod_lay 60 = .ok (.iastore, 1) := by decide +kernel
theorem d_Mod_lay_61 : decode b_Mod_lay 61 = .ok (.aload_n 0, 1) := by decide +kernel
theorem d_Mod_lay_62 : decode b_Mod_lay 62 = .ok (.getfield 54, 3) := by decide +kernel
theorem d_Mod_lay_65 : decode b_Mod_lay 65 = .ok (.iload_n 1, 1) := by decide +kernel
theorem d_Mod_lay_66 : decode b_Mod_lay 66 = .ok (.dup2, 1) := by decide +kernel
theorem d_Mod_lay_67 : decode b_Mod_lay 67 = .ok (.iaload, 1) := by decide +kernel
theorem d_Mod_lay_68 : decode b_Mod_lay 68 = .ok (.iconst 1, 1) := by decide +kernel
theorem d_Mod_lay_69 : decode b_Mod_lay 69 = .ok (.iadd, 1) := by decide +kernel
theorem d_Mod_lay_70 : decode b_Mod_lay 70 = .ok (.iastore, 1) := by decide +kernel
theorem d_Mod_lay_71 : decode b_Mod_lay 71 = .ok (.return_, 1) := by decide +kernel
theorem d_Mod_cancel_0 : decode b_Mod_cancel 0 = .ok (.aload_n 0, 1) := by decide +kernel
theorem d_Mod_cancel_1 : decode b_Mod_cancel 1 = .ok (.iconst 0, 1) := by decide +kernel
theorem d_Mod_cancel_2 : decode b_Mod_cancel 2 = .ok (.putfield 75, 3) := by decide +kernel
theorem d_Mod_cancel_5 : decode b_Mod_cancel 5 = .ok (.aload_n 0, 1) := by decide +kernel
theorem d_Mod_cancel_6 : decode b_Mod_cancel 6 = .ok (.invokevirtual 93, 3) := by decide +kernel
theorem d_Mod_cancel_9 : decode b_Mod_cancel 9 = .ok (.ireturn, 1) := by decide +kernel
theorem d_Mod_step_0 : decode b_Mod_step 0 = .ok (.aload_n 0, 1) := by decide +kernel
theorem d_Mod_step_1 : decode b_Mod_step 1 = .ok (.iconst 0, 1) := by decide +kernel
theorem d_Mod_step_2 : decode b_Mod_step 2 = .ok (.putfield 75, 3) := by decide +kernel
theorem d_Mod_step_5 : decode b_Mod_step 5 = .ok (.iload_n 1, 1) := by decide +kernel
theorem d_Mod_step_6 : decode b_Mod_step 6 = .ok (.invokestatic 117, 3) := by decide +kernel
theorem d_Mod_step_9 : decode b_Mod_step 9 = .ok (.ifCond .eq 11, 3) := by decide +kernel
theorem d_Mod_step_12 : decode b_Mod_step 12 = .ok (.aload_n 0, 1) := by decide +kernel
theorem d_Mod_step_13 : decode b_Mod_step 13 = .ok (.iload_n 1, 1) := by decide +kernel
theorem d_Mod_step_14 : decode b_Mod_step 14 = .ok (.invokevirtual 157, 3) := by decide +kernel
theorem d_Mod_step_17 : decode b_Mod_step 17 = .ok (.goto 4, 3) := by decide +kernel
theorem d_Mod_step_20 : decode b_Mod_step 20 = .ok (.iconst (-1), 1) := by decide +kernel
theorem d_Mod_step_21 : decode b_Mod_step 21 = .ok (.ireturn, 1) := by decide +kernel
theorem d_Mod_go_0 : decode b_Mod_go 0 = .ok (.aload_n 0, 1) := by decide +kernel
theorem d_Mod_go_1 : decode b_Mod_go 1 = .ok (.getfield 54, 3) := by decide +kernel
theorem d_Mod_go_4 : decode b_Mod_go 4 = .ok (.iload_n 1, 1) := by decide +kernel
theorem d_Mod_go_5 : decode b_Mod_go 5 = .ok (.iaload, 1) := by decide +kernel
theorem d_Mod_go_6 : decode b_Mod_go 6 = .ok (.ifCond .ne 5, 3) := by decide +kernel
theorem d_Mod_go_9 : decode b_Mod_go 9 = .ok (.iconst 0, 1) := by decide +kernel
theorem d_Mod_go_10 : decode b_Mod_go 10 = .ok (.ireturn, 1) := by decide +kernel
theorem d_Mod_go_11 : decode b_Mod_go 11 = .ok (.bipush 40, 2) := by decide +kernel
theorem d_Mod_go_13 : decode b_Mod_go 13 = .ok (.iload_n 1, 1) := by decide +kernel
theorem d_Mod_go_14 : decode b_Mod_go 14 = .ok (.imul, 1) := by decide +kernel
theorem d_Mod_go_15 : decode b_Mod_go 15 = .ok (.aload_n 0, 1) := by decide +kernel
theorem d_Mod_go_16 : decode b_Mod_go 16 = .ok (.getfield 54, 3) := by decide +kernel
theorem d_Mod_go_19 : decode b_Mod_go 19 = .ok (.iload_n 1, 1) := by decide +kernel
theorem d_Mod_go_20 : decode b_Mod_go 20 = .ok (.iaload, 1) := by decide +kernel
theorem d_Mod_go_21 : decode b_Mod_go 21 = .ok (.iadd, 1) := by decide +kernel
theorem d_Mod_go_22 : decode b_Mod_go 22 = .ok (.iconst 1, 1) := by decide +kernel
theorem d_Mod_go_23 : decode b_Mod_go 23 = .ok (.isub, 1) := by decide +kernel
theorem d_Mod_go_24 : decode b_Mod_go 24 = .ok (.istore_n 2, 1) := by decide +kernel
theorem d_Mod_go_25 : decode b_Mod_go 25 = .ok (.aload_n 0, 1) := by decide +kernel
theorem d_Mod_go_26 : decode b_Mod_go 26 = .ok (.getfield 66, 3) := by decide +kernel
theorem d_Mod_go_29 : decode b_Mod_go 29 = .ok (.iload_n 2, 1) := by decide +kernel
theorem d_Mod_go_30 : decode b_Mod_go 30 = .ok (.baload, 1) := by decide +kernel
theorem d_Mod_go_31 : decode b_Mod_go 31 = .ok (.ifCond .ne 10, 3) := by decide +kernel
theorem d_Mod_go_34 : decode b_Mod_go 34 = .ok (.aload_n 0, 1) := by decide +kernel
theorem d_Mod_go_35 : decode b_Mod_go 35 = .ok (.iload_n 1, 1) := by decide +kernel
theorem d_Mod_go_36 : decode b_Mod_go 36 = .ok (.iload_n 2, 1) := by decide +kernel
theorem d_Mod_go_37 : decode b_Mod_go 37 = .ok (.invokevirtual 143, 3) := by decide +kernel
theorem d_Mod_go_40 : decode b_Mod_go 40 = .ok (.ireturn, 1) := by decide +kernel
theorem d_Mod_go_41 : decode b_Mod_go 41 = .ok (.aload_n 0, 1) := by decide +kernel
theorem d_Mod_go_42 : decode b_Mod_go 42 = .ok (.iload_n 2, 1) := by decide +kernel
theorem d_Mod_go_43 : decode b_Mod_go 43 = .ok (.invokevirtual 146, 3) := by decide +kernel
theorem d_Mod_go_46 : decode b_Mod_go 46 = .ok (.istore_n 3, 1) := by decide +kernel
theorem d_Mod_go_47 : decode b_Mod_go 47 = .ok (.iload_n 3, 1) := by decide +kernel
theorem d_Mod_go_48 : decode b_Mod_go 48 = .ok (.bipush (-2), 2) := by decide +kernel
theorem d_Mod_go_50 : decode b_Mod_go 50 = .ok (.if_icmp .ne 11, 3) := by decide +kernel
theorem d_Mod_go_53 : decode b_Mod_go 53 = .ok (.aload_n 0, 1) := by decide +kernel
theorem d_Mod_go_54 : decode b_Mod_go 54 = .ok (.iload_n 1, 1) := by decide +kernel
theorem d_Mod_go_55 : decode b_Mod_go 55 = .ok (.iconst 2, 1) := by decide +kernel
theorem d_Mod_go_56 : decode b_Mod_go 56 = .ok (.lconst 0, 1) := by decide +kernel
theorem d_Mod_go_57 : decode b_Mod_go 57 = .ok (.invokevirtual 149, 3) := by decide +kernel
theorem d_Mod_go_60 : decode b_Mod_go 60 = .ok (.ireturn, 1) := by decide +kernel
theorem d_Mod_go_61 : decode b_Mod_go 61 = .ok (.iload_n 3, 1) := by decide +kernel
theorem d_Mod_go_62 : decode b_Mod_go 62 = .ok (.iconst (-1), 1) := by decide +kernel
theorem d_Mod_go_63 : decode b_Mod_go 63 = .ok (.if_icmp .ne 15, 3) := by decide +kernel
theorem d_Mod_go_66 : decode b_Mod_go 66 = .ok (.aload_n 0, 1) := by decide +kernel
theorem d_Mod_go_67 : decode b_Mod_go 67 = .ok (.iload_n 1, 1) := by decide +kernel
theorem d_Mod_go_68 : decode b_Mod_go 68 = .ok (.iconst 1, 1) := by decide +kernel
theorem d_Mod_go_69 : decode b_Mod_go 69 = .ok (.aload_n 0, 1) := by decide +kernel
theorem d_Mod_go_70 : decode b_Mod_go 70 = .ok (.iload_n 2, 1) := by decide +kernel
theorem d_Mod_go_71 : decode b_Mod_go 71 = .ok (.invokevirtual 153, 3) := by decide +kernel
theorem d_Mod_go_74 : decode b_Mod_go 74 = .ok (.invokevirtual 149, 3) := by decide +kernel
theorem d_Mod_go_77 : decode b_Mod_go 77 = .ok (.ireturn, 1) := by decide +kernel
theorem d_Mod_go_78 : decode b_Mod_go 78 = .ok (.aload_n 0, 1) := by decide +kernel
theorem d_Mod_go_79 : decode b_Mod_go 79 = .ok (.aload_n 0, 1) := by decide +kernel
theorem d_Mod_go_80 : decode b_Mod_go 80 = .ok (.getfield 57, 3) := by decide +kernel
theorem d_Mod_go_83 : decode b_Mod_go 83 = .ok (.iload_n 2, 1) := by decide +kernel
theorem d_Mod_go_84 : decode b_Mod_go 84 = .ok (.iaload, 1) := by decide +kernel
theorem d_Mod_go_85 : decode b_Mod_go 85 = .ok (.iload_n 3, 1) := by decide +kernel
theorem d_Mod_go_86 : decode b_Mod_go 86 = .ok (.invokevirtual 97, 3) := by decide +kernel
theorem d_Mod_go_89 : decode b_Mod_go 89 = .ok (.istore 4, 2) := by decide +kernel
theorem d_Mod_go_91 : decode b_Mod_go 91 = .ok (.aload_n 0, 1) := by decide +kernel
theorem d_Mod_go_92 : decode b_Mod_go 92 = .ok (.iload 4, 2) := by decide +kernel
theorem d_Mod_go_94 : decode b_Mod_go 94 = .ok (.invokevirtual 123, 3) := by decide +kernel
theorem d_Mod_go_97 : decode b_Mod_go 97 = .ok (.ifCond .ne 11, 3) := by decide +kernel
theorem d_Mod_go_100 : decode b_Mod_go 100 = .ok (.aload_n 0, 1) := by decide +kernel
theorem d_Mod_go_101 : decode b_Mod_go 101 = .ok (.iload_n 1, 1) := by decide +kernel
theorem d_Mod_go_102 : decode b_Mod_go 102 = .ok (.iload 4, 2) := by decide +kernel
theorem d_Mod_go_104 : decode b_Mod_go 104 = .ok (.invokevirtual 140, 3) := by decide +kernel
theorem d_Mod_go_107 : decode b_Mod_go 107 = .ok (.ireturn, 1) := by decide +kernel
theorem d_Mod_go_108 : decode b_Mod_go 108 = .ok (.aload_n 0, 1) := by decide +kernel
theorem d_Mod_go_109 : decode b_Mod_go 109 = .ok (.getfield 63, 3) := by decide +kernel
theorem d_Mod_go_112 : decode b_Mod_go 112 = .ok (.bipush 8, 2) := by decide +kernel
theorem d_Mod_go_114 : decode b_Mod_go 114 = .ok (.iload_n 2, 1) := by decide +kernel
theorem d_Mod_go_115 : decode b_Mod_go 115 = .ok (.imul, 1) := by decide +kernel
theorem d_Mod_go_116 : decode b_Mod_go 116 = .ok (.aload_n 0, 1) := by decide +kernel
theorem d_Mod_go_117 : decode b_Mod_go 117 = .ok (.getfield 60, 3) := by decide +kernel
theorem d_Mod_go_120 : decode b_Mod_go 120 = .ok (.iload_n 2, 1) := by decide +kernel
theorem d_Mod_go_121 : decode b_Mod_go 121 = .ok (.iaload, 1) := by decide +kernel
theorem d_Mod_go_122 : decode b_Mod_go 122 = .ok (.iadd, 1) := by decide +kernel
theorem d_Mod_go_123 : decode b_Mod_go 123 = .ok (.iload_n 3, 1) := by decide +kernel
theorem d_Mod_go_124 : decode b_Mod_go 124 = .ok (.iastore, 1) := by decide +kernel
theorem d_Mod_go_125 : decode b_Mod_go 125 = .ok (.aload_n 0, 1) := by decide +kernel
theorem d_Mod_go_126 : decode b_Mod_go 126 = .ok (.getfield 60, 3) := by decide +kernel
theorem d_Mod_go_129 : decode b_Mod_go 129 = .ok (.iload_n 2, 1) := by decide +kernel
theorem d_Mod_go_130 : decode b_Mod_go 130 = .ok (.dup2, 1) := by decide +kernel
theorem d_Mod_go_131 : decode b_Mod_go 131 = .ok (.iaload, 1) := by decide +kernel
theorem d_Mod_go_132 : decode b_Mod_go 132 = .ok (.iconst 1, 1) := by decide +kernel
theorem d_Mod_go_133 : decode b_Mod_go 133 = .ok (.iadd, 1) := by decide +kernel
theorem d_Mod_go_134 : decode b_Mod_go 134 = .ok (.iastore, 1) := by decide +kernel
theorem d_Mod_go_135 : decode b_Mod_go 135 = .ok (.aload_n 0, 1) := by decide +kernel
theorem d_Mod_go_136 : decode b_Mod_go 136 = .ok (.getfield 19, 3) := by decide +kernel
theorem d_Mod_go_139 : decode b_Mod_go 139 = .ok (.iload 4, 2) := by decide +kernel
theorem d_Mod_go_141 : decode b_Mod_go 141 = .ok (.iaload, 1) := by decide +kernel
theorem d_Mod_go_142 : decode b_Mod_go 142 = .ok (.iconst 1, 1) := by decide +kernel
theorem d_Mod_go_143 : decode b_Mod_go 143 = .ok (.if_icmp .ne 8, 3) := by decide +kernel
theorem d_Mod_go_146 : decode b_Mod_go 146 = .ok (.bipush 6, 2) := by decide +kernel
theorem d_Mod_go_148 : decode b_Mod_go 148 = .ok (.goto 10, 3) := by decide +kernel
theorem d_Mod_go_151 : decode b_Mod_go 151 = .ok (.aload_n 0, 1) := by decide +kernel
theorem d_Mod_go_152 : decode b_Mod_go 152 = .ok (.iload_n 1, 1) := by decide +kernel
theorem d_Mod_go_153 : decode b_Mod_go 153 = .ok (.iconst 3, 1) := by decide +kernel
theorem d_Mod_go_154 : decode b_Mod_go 154 = .ok (.lconst 0, 1) := by decide +kernel
theorem d_Mod_go_155 : decode b_Mod_go 155 = .ok (.invokevirtual 149, 3) := by decide +kernel
theorem d_Mod_go_158 : decode b_Mod_go 158 = .ok (.ireturn, 1) := by decide +kernel
theorem d_Mod_check_0 : decode b_Mod_check 0 = .ok (.aload_n 0, 1) := by decide +kernel
theorem d_Mod_check_1 : decode b_Mod_check 1 = .ok (.getfield 57, 3) := by decide +kernel
theorem d_Mod_check_4 : decode b_Mod_check 4 = .ok (.iload_n 2, 1) := by decide +kernel
theorem d_Mod_check_5 : decode b_Mod_check 5 = .ok (.iaload, 1) := by decide +kernel
theorem d_Mod_check_6 : decode b_Mod_check 6 = .ok (.istore_n 3, 1) := by decide +kernel
theorem d_Mod_check_7 : decode b_Mod_check 7 = .ok (.aload_n 0, 1) := by decide +kernel
theorem d_Mod_check_8 : decode b_Mod_check 8 = .ok (.getfield 60, 3) := by decide +kernel
theorem d_Mod_check_11 : decode b_Mod_check 11 = .ok (.iload_n 2, 1) := by decide +kernel
theorem d_Mod_check_12 : decode b_Mod_check 12 = .ok (.iaload, 1) := by decide +kernel
theorem d_Mod_check_13 : decode b_Mod_check 13 = .ok (.aload_n 0, 1) := by decide +kernel
theorem d_Mod_check_14 : decode b_Mod_check 14 = .ok (.getfield 31, 3) := by decide +kernel
theorem d_Mod_check_17 : decode b_Mod_check 17 = .ok (.iload_n 3, 1) := by decide +kernel
theorem d_Mod_check_18 : decode b_Mod_check 18 = .ok (.iaload, 1) := by decide +kernel
theorem d_Mod_check_19 : decode b_Mod_check 19 = .ok (.if_icmp .ne 35, 3) := by decide +kernel
theorem d_Mod_check_22 : decode b_Mod_check 22 = .ok (.aload_n 0, 1) := by decide +kernel
theorem d_Mod_check_23 : decode b_Mod_check 23 = .ok (.getfield 22, 3) := by decide +kernel
theorem d_Mod_check_26 : decode b_Mod_check 26 = .ok (.iload_n 3, 1) := by decide +kernel
theorem d_Mod_check_27 : decode b_Mod_check 27 = .ok (.aload_n 0, 1) := by decide +kernel
theorem d_Mod_check_28 : decode b_Mod_check 28 = .ok (.getfield 86, 3) := by decide +kernel
theorem d_Mod_check_31 : decode b_Mod_check 31 = .ok (.iastore, 1) := by decide +kernel
theorem d_Mod_check_32 : decode b_Mod_check 32 = .ok (.aload_n 0, 1) := by decide +kernel
theorem d_Mod_check_33 : decode b_Mod_check 33 = .ok (.getfield 40, 3) := by decide +kernel
theorem d_Mod_check_36 : decode b_Mod_check 36 = .ok (.iload_n 3, 1) := by decide +kernel
theorem d_Mod_check_37 : decode b_Mod_check 37 = .ok (.dup2, 1) := by decide +kernel
theorem d_Mod_check_38 : decode b_Mod_check 38 = .ok (.iaload, 1) := by decide +kernel
theorem d_Mod_check_39 : decode b_Mod_check 39 = .ok (.iconst 1, 1) := by decide +kernel
theorem d_Mod_check_40 : decode b_Mod_check 40 = .ok (.iadd, 1) := by decide +kernel
theorem d_Mod_check_41 : decode b_Mod_check 41 = .ok (.iastore, 1) := by decide +kernel
theorem d_Mod_check_42 : decode b_Mod_check 42 = .ok (.aload_n 0, 1) := by decide +kernel
theorem d_Mod_check_43 : decode b_Mod_check 43 = .ok (.getfield 54, 3) := by decide +kernel
theorem d_Mod_check_46 : decode b_Mod_check 46 = .ok (.iload_n 1, 1) := by decide +kernel
theorem d_Mod_check_47 : decode b_Mod_check 47 = .ok (.dup2, 1) := by decide +kernel
theorem d_Mod_check_48 : decode b_Mod_check 48 = .ok (.iaload, 1) := by decide +kernel
theorem d_Mod_check_49 : decode b_Mod_check 49 = .ok (.iconst 1, 1) := by decide +kernel
theorem d_Mod_check_50 : decode b_Mod_check 50 = .ok (.isub, 1) := by decide +kernel
theorem d_Mod_check_51 : decode b_Mod_check 51 = .ok (.iastore, 1) := by decide +kernel
theorem d_Mod_check_52 : decode b_Mod_check 52 = .ok (.iconst 2, 1) := by decide +kernel
theorem d_Mod_check_53 : decode b_Mod_check 53 = .ok (.ireturn, 1) := by decide +kernel
theorem d_Mod_check_54 : decode b_Mod_check 54 = .ok (.aload_n 0, 1) := by decide +kernel
theorem d_Mod_check_55 : decode b_Mod_check 55 = .ok (.iload_n 3, 1) := by decide +kernel
theorem d_Mod_check_56 : decode b_Mod_check 56 = .ok (.aload_n 0, 1) := by decide +kernel
theorem d_Mod_check_57 : decode b_Mod_check 57 = .ok (.getfield 34, 3) := by decide +kernel
theorem d_Mod_check_60 : decode b_Mod_check 60 = .ok (.bipush 8, 2) := by decide +kernel
theorem d_Mod_check_62 : decode b_Mod_check 62 = .ok (.iload_n 3, 1) := by decide +kernel
theorem d_Mod_check_63 : decode b_Mod_check 63 = .ok (.imul, 1) := by decide +kernel
theorem d_Mod_check_64 : decode b_Mod_check 64 = .ok (.aload_n 0, 1) := by decide +kernel
theorem d_Mod_check_65 : decode b_Mod_check 65 = .ok (.getfield 60, 3) := by decide +kernel
theorem d_Mod_check_68 : decode b_Mod_check 68 = .ok (.iload_n 2, 1) := by decide +kernel
theorem d_Mod_check_69 : decode b_Mod_check 69 = .ok (.iaload, 1) := by decide +kernel
theorem d_Mod_check_70 : decode b_Mod_check 70 = .ok (.iadd, 1) := by decide +kernel
theorem d_Mod_check_71 : decode b_Mod_check 71 = .ok (.iaload, 1) := by decide +kernel
theorem d_Mod_check_72 : decode b_Mod_check 72 = .ok (.invokevirtual 97, 3) := by decide +kernel
theorem d_Mod_check_75 : decode b_Mod_check 75 = .ok (.istore 4, 2) := by decide +kernel
theorem d_Mod_check_77 : decode b_Mod_check 77 = .ok (.aload_n 0, 1) := by decide +kernel
theorem d_Mod_check_78 : decode b_Mod_check 78 = .ok (.iload 4, 2) := by decide +kernel
theorem d_Mod_check_80 : decode b_Mod_check 80 = .ok (.invokevirtual 123, 3) := by decide +kernel
theorem d_Mod_check_83 : decode b_Mod_check 83 = .ok (.ifCond .ne 11, 3) := by decide +kernel
theorem d_Mod_check_86 : decode b_Mod_check 86 = .ok (.aload_n 0, 1) := by decide +kernel
theorem d_Mod_check_87 : decode b_Mod_check 87 = .ok (.iload_n 1, 1) := by decide +kernel
theorem d_Mod_check_88 : decode b_Mod_check 88 = .ok (.iload 4, 2) := by decide +kernel
theorem d_Mod_check_90 : decode b_Mod_check 90 = .ok (.invokevirtual 140, 3) := by decide +kernel
theorem d_Mod_check_93 : decode b_Mod_check 93 = .ok (.ireturn, 1) := by decide +kernel
theorem d_Mod_check_94 : decode b_Mod_check 94 = .ok (.aload_n 0, 1) := by decide +kernel
theorem d_Mod_check_95 : decode b_Mod_check 95 = .ok (.getfield 25, 3) := by decide +kernel
theorem d_Mod_check_98 : decode b_Mod_check 98 = .ok (.iload 4, 2) := by decide +kernel
theorem d_Mod_check_100 : decode b_Mod_check 100 = .ok (.iaload, 1) := by decide +kernel
theorem d_Mod_check_101 : decode b_Mod_check 101 = .ok (.aload_n 0, 1) := by decide +kernel
theorem d_Mod_check_102 : decode b_Mod_check 102 = .ok (.getfield 22, 3) := by decide +kernel
theorem d_Mod_check_105 : decode b_Mod_check 105 = .ok (.iload_n 3, 1) := by decide +kernel
theorem d_Mod_check_106 : decode b_Mod_check 106 = .ok (.iaload, 1) := by decide +kernel
theorem d_Mod_check_107 : decode b_Mod_check 107 = .ok (.if_icmp .le 19, 3) := by decide +kernel
theorem d_Mod_check_110 : decode b_Mod_check 110 = .ok (.aload_n 0, 1) := by decide +kernel
theorem d_Mod_check_111 : decode b_Mod_check 111 = .ok (.getfield 66, 3) := by decide +kernel
theorem d_Mod_check_114 : decode b_Mod_check 114 = .ok (.iload_n 2, 1) := by decide +kernel
theorem d_Mod_check_115 : decode b_Mod_check 115 = .ok (.iconst 1, 1) := by decide +kernel
theorem d_Mod_check_116 : decode b_Mod_check 116 = .ok (.bastore, 1) := by decide +kernel
theorem d_Mod_check_117 : decode b_Mod_check 117 = .ok (.aload_n 0, 1) := by decide +kernel
theorem d_Mod_check_118 : decode b_Mod_check 118 = .ok (.getfield 60, 3) := by decide +kernel
theorem d_Mod_check_121 : decode b_Mod_check 121 = .ok (.iload_n 2, 1) := by decide +kernel
theorem d_Mod_check_122 : decode b_Mod_check 122 = .ok (.iconst 0, 1) := by decide +kernel
theorem d_Mod_check_123 : decode b_Mod_check 123 = .ok (.iastore, 1) := by decide +kernel
theorem d_Mod_check_124 : decode b_Mod_check 124 = .ok (.iconst 5, 1) := by decide +kernel
theorem d_Mod_check_125 : decode b_Mod_check 125 = .ok (.ireturn, 1) := by decide +kernel
theorem d_Mod_check_126 : decode b_Mod_check 126 = .ok (.aload_n 0, 1) := by decide +kernel
theorem d_Mod_check_127 : decode b_Mod_check 127 = .ok (.getfield 60, 3) := by decide +kernel
theorem d_Mod_check_130 : decode b_Mod_check 130 = .ok (.iload_n 2, 1) := by decide +kernel
theorem d_Mod_check_131 : decode b_Mod_check 131 = .ok (.dup2, 1) := by decide +kernel
theorem d_Mod_check_132 : decode b_Mod_check 132 = .ok (.iaload, 1) := by decide +kernel
theorem d_Mod_check_133 : decode b_Mod_check 133 = .ok (.iconst 1, 1) := by decide +kernel
theorem d_Mod_check_134 : decode b_Mod_check 134 = .ok (.iadd, 1) := by decide +kernel
theorem d_Mod_check_135 : decode b_Mod_check 135 = .ok (.iastore, 1) := by decide +kernel
theorem d_Mod_check_136 : decode b_Mod_check 136 = .ok (.iconst 4, 1) := by decide +kernel
theorem d_Mod_check_137 : decode b_Mod_check 137 = .ok (.ireturn, 1) := by decide +kernel
theorem d_Mod_await_0 : decode b_Mod_await 0 = .ok (.aload_n 0, 1) := by decide +kernel
theorem d_Mod_await_1 : decode b_Mod_await 1 = .ok (.iload_n 2, 1) := by decide +kernel
theorem d_Mod_await_2 : decode b_Mod_await 2 = .ok (.invokevirtual 120, 3) := by decide +kernel
theorem d_Mod_await_5 : decode b_Mod_await 5 = .ok (.iconst (-1), 1) := by decide +kernel
theorem d_Mod_await_6 : decode b_Mod_await 6 = .ok (.if_icmp .eq 5, 3) := by decide +kernel
theorem d_Mod_await_9 : decode b_Mod_await 9 = .ok (.iconst 3, 1) := by decide +kernel
theorem d_Mod_await_10 : decode b_Mod_await 10 = .ok (.ireturn, 1) := by decide +kernel
theorem d_Mod_await_11 : decode b_Mod_await 11 = .ok (.aload_n 0, 1) := by decide +kernel
theorem d_Mod_await_12 : decode b_Mod_await 12 = .ok (.iload_n 1, 1) := by decide +kernel
theorem d_Mod_await_13 : decode b_Mod_await 13 = .ok (.iload_n 2, 1) := by decide +kernel
theorem d_Mod_await_14 : decode b_Mod_await 14 = .ok (.invokevirtual 126, 3) := by decide +kernel
theorem d_Mod_await_17 : decode b_Mod_await 17 = .ok (.iconst 1, 1) := by decide +kernel
theorem d_Mod_await_18 : decode b_Mod_await 18 = .ok (.ireturn, 1) := by decide +kernel
theorem d_Mod_comes_0 : decode b_Mod_comes 0 = .ok (.aload_n 0, 1) := by decide +kernel
theorem d_Mod_comes_1 : decode b_Mod_comes 1 = .ok (.getfield 57, 3) := by decide +kernel
theorem d_Mod_comes_4 : decode b_Mod_comes 4 = .ok (.iload_n 1, 1) := by decide +kernel
theorem d_Mod_comes_5 : decode b_Mod_comes 5 = .ok (.iaload, 1) := by decide +kernel
theorem d_Mod_comes_6 : decode b_Mod_comes 6 = .ok (.istore_n 2, 1) := by decide +kernel
theorem d_Mod_comes_7 : decode b_Mod_comes 7 = .ok (.aload_n 0, 1) := by decide +kernel
theorem d_Mod_comes_8 : decode b_Mod_comes 8 = .ok (.getfield 60, 3) := by decide +kernel
theorem d_Mod_comes_11 : decode b_Mod_comes 11 = .ok (.iload_n 1, 1) := by decide +kernel
theorem d_Mod_comes_12 : decode b_Mod_comes 12 = .ok (.iaload, 1) := by decide +kernel
theorem d_Mod_comes_13 : decode b_Mod_comes 13 = .ok (.istore_n 3, 1) := by decide +kernel
theorem d_Mod_comes_14 : decode b_Mod_comes 14 = .ok (.aload_n 0, 1) := by decide +kernel
theorem d_Mod_comes_15 : decode b_Mod_comes 15 = .ok (.getfield 13, 3) := by decide +kernel
theorem d_Mod_comes_18 : decode b_Mod_comes 18 = .ok (.iload_n 2, 1) := by decide +kernel
theorem d_Mod_comes_19 : decode b_Mod_comes 19 = .ok (.iaload, 1) := by decide +kernel
theorem d_Mod_comes_20 : decode b_Mod_comes 20 = .ok (.istore 4, 2) := by decide +kernel
theorem d_Mod_comes_22 : decode b_Mod_comes 22 = .ok (.aload_n 0, 1) := by decide +kernel
theorem d_Mod_comes_23 : decode b_Mod_comes 23 = .ok (.getfield 47, 3) := by decide +kernel
theorem d_Mod_comes_26 : decode b_Mod_comes 26 = .ok (.iload_n 2, 1) := by decide +kernel
theorem d_Mod_comes_27 : decode b_Mod_comes 27 = .ok (.baload, 1) := by decide +kernel
theorem d_Mod_comes_28 : decode b_Mod_comes 28 = .ok (.ifCond .ne 18, 3) := by decide +kernel
theorem d_Mod_comes_31 : decode b_Mod_comes 31 = .ok (.aload_n 0, 1) := by decide +kernel
theorem d_Mod_comes_32 : decode b_Mod_comes 32 = .ok (.getfield 7, 3) := by decide +kernel
theorem d_Mod_comes_35 : decode b_Mod_comes 35 = .ok (.iload_n 2, 1) := by decide +kernel
theorem d_Mod_comes_36 : decode b_Mod_comes 36 = .ok (.iaload, 1) := by decide +kernel
theorem d_Mod_comes_37 : decode b_Mod_comes 37 = .ok (.iconst 5, 1) := by decide +kernel
theorem d_Mod_comes_38 : decode b_Mod_comes 38 = .ok (.if_icmp .ne 11, 3) := by decide +kernel
theorem d_Mod_comes_41 : decode b_Mod_comes 41 = .ok (.iload 4, 2) := by decide +kernel
theorem d_Mod_comes_43 : decode b_Mod_comes 43 = .ok (.ifCond .ne 6, 3) := by decide +kernel
theorem d_Mod_comes_46 : decode b_Mod_comes 46 = .ok (.bipush (-2), 2) := by decide +kernel
theorem d_Mod_comes_48 : decode b_Mod_comes 48 = .ok (.ireturn, 1) := by decide +kernel
theorem d_Mod_comes_49 : decode b_Mod_comes 49 = .ok (.aload_n 0, 1) := by decide +kernel
theorem d_Mod_comes_50 : decode b_Mod_comes 50 = .ok (.getfield 7, 3) := by decide +kernel
theorem d_Mod_comes_53 : decode b_Mod_comes 53 = .ok (.iload_n 2, 1) := by decide +kernel
theorem d_Mod_comes_54 : decode b_Mod_comes 54 = .ok (.iaload, 1) := by decide +kernel
theorem d_Mod_comes_55 : decode b_Mod_comes 55 = .ok (.iconst 1, 1) := by decide +kernel
theorem d_Mod_comes_56 : decode b_Mod_comes 56 = .ok (.if_icmp .ne 22, 3) := by decide +kernel
theorem d_Mod_comes_59 : decode b_Mod_comes 59 = .ok (.iload_n 3, 1) := by decide +kernel
theorem d_Mod_comes_60 : decode b_Mod_comes 60 = .ok (.ifCond .le 18, 3) := by decide +kernel
theorem d_Mod_comes_63 : decode b_Mod_comes 63 = .ok (.aload_n 0, 1) := by decide +kernel
theorem d_Mod_comes_64 : decode b_Mod_comes 64 = .ok (.iload_n 1, 1) := by decide +kernel
theorem d_Mod_comes_65 : decode b_Mod_comes 65 = .ok (.iload_n 3, 1) := by decide +kernel
theorem d_Mod_comes_66 : decode b_Mod_comes 66 = .ok (.iconst 1, 1) := by decide +kernel
theorem d_Mod_comes_67 : decode b_Mod_comes 67 = .ok (.isub, 1) := by decide +kernel
theorem d_Mod_comes_68 : decode b_Mod_comes 68 = .ok (.invokevirtual 130, 3) := by decide +kernel
theorem d_Mod_comes_71 : decode b_Mod_comes 71 = .ok (.lconst 0, 1) := by decide +kernel
theorem d_Mod_comes_72 : decode b_Mod_comes 72 = .ok (.lcmp, 1) := by decide +kernel
theorem d_Mod_comes_73 : decode b_Mod_comes 73 = .ok (.ifCond .eq 5, 3) := by decide +kernel
theorem d_Mod_comes_76 : decode b_Mod_comes 76 = .ok (.iconst (-1), 1) := by decide +kernel
theorem d_Mod_comes_77 : decode b_Mod_comes 77 = .ok (.ireturn, 1) := by decide +kernel
theorem d_Mod_comes_78 : decode b_Mod_comes 78 = .ok (.aload_n 0, 1) := by decide +kernel
theorem d_Mod_comes_79 : decode b_Mod_comes 79 = .ok (.getfield 7, 3) := by decide +kernel
theorem d_Mod_comes_82 : decode b_Mod_comes 82 = .ok (.iload_n 2, 1) := by decide +kernel
theorem d_Mod_comes_83 : decode b_Mod_comes 83 = .ok (.iaload, 1) := by decide +kernel
theorem d_Mod_comes_84 : decode b_Mod_comes 84 = .ok (.iconst 3, 1) := by decide +kernel
theorem d_Mod_comes_85 : decode b_Mod_comes 85 = .ok (.if_icmp .ne 24, 3) := by decide +kernel
theorem d_Mod_comes_88 : decode b_Mod_comes 88 = .ok (.iload_n 3, 1) := by decide +kernel
theorem d_Mod_comes_89 : decode b_Mod_comes 89 = .ok (.iconst 1, 1) := by decide +kernel
theorem d_Mod_comes_90 : decode b_Mod_comes 90 = .ok (.if_icmp .le 19, 3) := by decide +kernel
theorem d_Mod_comes_93 : decode b_Mod_comes 93 = .ok (.aload_n 0, 1) := by decide +kernel
theorem d_Mod_comes_94 : decode b_Mod_comes 94 = .ok (.iload_n 1, 1) := by decide +kernel
theorem d_Mod_comes_95 : decode b_Mod_comes 95 = .ok (.iload_n 3, 1) := by decide +kernel
theorem d_Mod_comes_96 : decode b_Mod_comes 96 = .ok (.iconst 1, 1) := by decide +kernel
theorem d_Mod_comes_97 : decode b_Mod_comes 97 = .ok (.isub, 1) := by decide +kernel
theorem d_Mod_comes_98 : decode b_Mod_comes 98 = .ok (.invokevirtual 130, 3) := by decide +kernel
theorem d_Mod_comes_101 : decode b_Mod_comes 101 = .ok (.lconst 0, 1) := by decide +kernel
theorem d_Mod_comes_102 : decode b_Mod_comes 102 = .ok (.lcmp, 1) := by decide +kernel
theorem d_Mod_comes_103 : decode b_Mod_comes 103 = .ok (.ifCond .ne 6, 3) := by decide +kernel
theorem d_Mod_comes_106 : decode b_Mod_comes 106 = .ok (.bipush (-2), 2) := by decide +kernel
theorem d_Mod_comes_108 : decode b_Mod_comes 108 = .ok (.ireturn, 1) := by decide +kernel
theorem d_Mod_comes_109 : decode b_Mod_comes 109 = .ok (.aload_n 0, 1) := by decide +kernel
theorem d_Mod_comes_110 : decode b_Mod_comes 110 = .ok (.getfield 7, 3) := by decide +kernel
theorem d_Mod_comes_113 : decode b_Mod_comes 113 = .ok (.iload_n 2, 1) := by decide +kernel
theorem d_Mod_comes_114 : decode b_Mod_comes 114 = .ok (.iaload, 1) := by decide +kernel
theorem d_Mod_comes_115 : decode b_Mod_comes 115 = .ok (.iconst 2, 1) := by decide +kernel
theorem d_Mod_comes_116 : decode b_Mod_comes 116 = .ok (.if_icmp .ne 7, 3) := by decide +kernel
theorem d_Mod_comes_119 : decode b_Mod_comes 119 = .ok (.iload_n 3, 1) := by decide +kernel
theorem d_Mod_comes_120 : decode b_Mod_comes 120 = .ok (.ifCond .ne 15, 3) := by decide +kernel
theorem d_Mod_comes_123 : decode b_Mod_comes 123 = .ok (.iload_n 3, 1) := by decide +kernel
theorem d_Mod_comes_124 : decode b_Mod_comes 124 = .ok (.iload 4, 2) := by decide +kernel
theorem d_Mod_comes_126 : decode b_Mod_comes 126 = .ok (.if_icmp .ge 7, 3) := by decide +kernel
theorem d_Mod_comes_129 : decode b_Mod_comes 129 = .ok (.iload_n 3, 1) := by decide +kernel
theorem d_Mod_comes_130 : decode b_Mod_comes 130 = .ok (.goto 4, 3) := by decide +kernel
theorem d_Mod_comes_133 : decode b_Mod_comes 133 = .ok (.iconst (-1), 1) := by decide +kernel
theorem d_Mod_comes_134 : decode b_Mod_comes 134 = .ok (.ireturn, 1) := by decide +kernel
theorem d_Mod_comes_135 : decode b_Mod_comes 135 = .ok (.iload_n 3, 1) := by decide +kernel
theorem d_Mod_comes_136 : decode b_Mod_comes 136 = .ok (.iconst 1, 1) := by decide +kernel
theorem d_Mod_comes_137 : decode b_Mod_comes 137 = .ok (.if_icmp .ne 27, 3) := by decide +kernel
theorem d_Mod_comes_140 : decode b_Mod_comes 140 = .ok (.iload 4, 2) := by decide +kernel
theorem d_Mod_comes_142 : decode b_Mod_comes 142 = .ok (.iconst 1, 1) := by decide +kernel
theorem d_Mod_comes_143 : decode b_Mod_comes 143 = .ok (.if_icmp .le 21, 3) := by decide +kernel
theorem d_Mod_comes_146 : decode b_Mod_comes 146 = .ok (.iconst 1, 1) := by decide +kernel
theorem d_Mod_comes_147 : decode b_Mod_comes 147 = .ok (.aload_n 0, 1) := by decide +kernel
theorem d_Mod_comes_148 : decode b_Mod_comes 148 = .ok (.iload_n 1, 1) := by decide +kernel
theorem d_Mod_comes_149 : decode b_Mod_comes 149 = .ok (.iconst 0, 1) := by decide +kernel
theorem d_Mod_comes_150 : decode b_Mod_comes 150 = .ok (.invokevirtual 130, 3) := by decide +kernel
theorem d_Mod_comes_153 : decode b_Mod_comes 153 = .ok (.iload 4, 2) := by decide +kernel
theorem d_Mod_comes_155 : decode b_Mod_comes 155 = .ok (.iconst 1, 1) := by decide +kernel
theorem d_Mod_comes_156 : decode b_Mod_comes 156 = .ok (.isub, 1) := by decide +kernel
theorem d_Mod_comes_157 : decode b_Mod_comes 157 = .ok (.invokestatic 134, 3) := by decide +kernel
theorem d_Mod_comes_160 : decode b_Mod_comes 160 = .ok (.iadd, 1) := by decide +kernel
theorem d_Mod_comes_161 : decode b_Mod_comes 161 = .ok (.goto 4, 3) := by decide +kernel
theorem d_Mod_comes_164 : decode b_Mod_comes 164 = .ok (.iconst (-1), 1) := by decide +kernel
theorem d_Mod_comes_165 : decode b_Mod_comes 165 = .ok (.ireturn, 1) := by decide +kernel
theorem d_Mod_taken_0 : decode b_Mod_taken 0 = .ok (.aload_n 0, 1) := by decide +kernel
theorem d_Mod_taken_1 : decode b_Mod_taken 1 = .ok (.getfield 43, 3) := by decide +kernel
theorem d_Mod_taken_4 : decode b_Mod_taken 4 = .ok (.aload_n 0, 1) := by decide +kernel
theorem d_Mod_taken_5 : decode b_Mod_taken 5 = .ok (.aload_n 0, 1) := by decide +kernel
theorem d_Mod_taken_6 : decode b_Mod_taken 6 = .ok (.getfield 57, 3) := by decide +kernel
theorem d_Mod_taken_9 : decode b_Mod_taken 9 = .ok (.iload_n 1, 1) := by decide +kernel
theorem d_Mod_taken_10 : decode b_Mod_taken 10 = .ok (.iaload, 1) := by decide +kernel
theorem d_Mod_taken_11 : decode b_Mod_taken 11 = .ok (.aload_n 0, 1) := by decide +kernel
theorem d_Mod_taken_12 : decode b_Mod_taken 12 = .ok (.getfield 63, 3) := by decide +kernel
theorem d_Mod_taken_15 : decode b_Mod_taken 15 = .ok (.bipush 8, 2) := by decide +kernel
theorem d_Mod_taken_17 : decode b_Mod_taken 17 = .ok (.iload_n 1, 1) := by decide +kernel
theorem d_Mod_taken_18 : decode b_Mod_taken 18 = .ok (.imul, 1) := by decide +kernel
theorem d_Mod_taken_19 : decode b_Mod_taken 19 = .ok (.iload_n 2, 1) := by decide +kernel
theorem d_Mod_taken_20 : decode b_Mod_taken 20 = .ok (.iadd, 1) := by decide +kernel
theorem d_Mod_taken_21 : decode b_Mod_taken 21 = .ok (.iaload, 1) := by decide +kernel
theorem d_Mod_taken_22 : decode b_Mod_taken 22 = .ok (.invokevirtual 97, 3) := by decide +kernel
theorem d_Mod_taken_25 : decode b_Mod_taken 25 = .ok (.laload, 1) := by decide +kernel
theorem d_Mod_taken_26 : decode b_Mod_taken 26 = .ok (.lreturn, 1) := by decide +kernel
theorem d_Mod_remainder_0 : decode b_Mod_remainder 0 = .ok (.lload_n 0, 1) := by decide +kernel
theorem d_Mod_remainder_1 : decode b_Mod_remainder 1 = .ok (.iload_n 2, 1) := by decide +kernel
theorem d_Mod_remainder_2 : decode b_Mod_remainder 2 = .ok (.i2l, 1) := by decide +kernel
theorem d_Mod_remainder_3 : decode b_Mod_remainder 3 = .ok (.lrem, 1) := by decide +kernel
theorem d_Mod_remainder_4 : decode b_Mod_remainder 4 = .ok (.l2i, 1) := by decide +kernel
theorem d_Mod_remainder_5 : decode b_Mod_remainder 5 = .ok (.istore_n 3, 1) := by decide +kernel
theorem d_Mod_remainder_6 : decode b_Mod_remainder 6 = .ok (.iload_n 3, 1) := by decide +kernel
theorem d_Mod_remainder_7 : decode b_Mod_remainder 7 = .ok (.ifCond .ge 9, 3) := by decide +kernel
theorem d_Mod_remainder_10 : decode b_Mod_remainder 10 = .ok (.iload_n 3, 1) := by decide +kernel
theorem d_Mod_remainder_11 : decode b_Mod_remainder 11 = .ok (.iload_n 2, 1) := by decide +kernel
theorem d_Mod_remainder_12 : decode b_Mod_remainder 12 = .ok (.iadd, 1) := by decide +kernel
theorem d_Mod_remainder_13 : decode b_Mod_remainder 13 = .ok (.goto 4, 3) := by decide +kernel
theorem d_Mod_remainder_16 : decode b_Mod_remainder 16 = .ok (.iload_n 3, 1) := by decide +kernel
theorem d_Mod_remainder_17 : decode b_Mod_remainder 17 = .ok (.ireturn, 1) := by decide +kernel
theorem d_Mod_end_0 : decode b_Mod_end 0 = .ok (.bipush 40, 2) := by decide +kernel
theorem d_Mod_end_2 : decode b_Mod_end 2 = .ok (.iload_n 1, 1) := by decide +kernel
theorem d_Mod_end_3 : decode b_Mod_end 3 = .ok (.imul, 1) := by decide +kernel
theorem d_Mod_end_4 : decode b_Mod_end 4 = .ok (.aload_n 0, 1) := by decide +kernel
theorem d_Mod_end_5 : decode b_Mod_end 5 = .ok (.getfield 54, 3) := by decide +kernel
theorem d_Mod_end_8 : decode b_Mod_end 8 = .ok (.iload_n 1, 1) := by decide +kernel
theorem d_Mod_end_9 : decode b_Mod_end 9 = .ok (.iaload, 1) := by decide +kernel
theorem d_Mod_end_10 : decode b_Mod_end 10 = .ok (.iadd, 1) := by decide +kernel
theorem d_Mod_end_11 : decode b_Mod_end 11 = .ok (.iconst 1, 1) := by decide +kernel
theorem d_Mod_end_12 : decode b_Mod_end 12 = .ok (.isub, 1) := by decide +kernel
theorem d_Mod_end_13 : decode b_Mod_end 13 = .ok (.istore 5, 2) := by decide +kernel
theorem d_Mod_end_15 : decode b_Mod_end 15 = .ok (.aload_n 0, 1) := by decide +kernel
theorem d_Mod_end_16 : decode b_Mod_end 16 = .ok (.getfield 57, 3) := by decide +kernel
theorem d_Mod_end_19 : decode b_Mod_end 19 = .ok (.iload 5, 2) := by decide +kernel
theorem d_Mod_end_21 : decode b_Mod_end 21 = .ok (.iaload, 1) := by decide +kernel
theorem d_Mod_end_22 : decode b_Mod_end 22 = .ok (.istore 6, 2) := by decide +kernel
theorem d_Mod_end_24 : decode b_Mod_end 24 = .ok (.aload_n 0, 1) := by decide +kernel
theorem d_Mod_end_25 : decode b_Mod_end 25 = .ok (.getfield 51, 3) := by decide +kernel
theorem d_Mod_end_28 : decode b_Mod_end 28 = .ok (.iload 6, 2) := by decide +kernel
theorem d_Mod_end_30 : decode b_Mod_end 30 = .ok (.baload, 1) := by decide +kernel
theorem d_Mod_end_31 : decode b_Mod_end 31 = .ok (.ifCond .eq 35, 3) := by decide +kernel
theorem d_Mod_end_34 : decode b_Mod_end 34 = .ok (.aload_n 0, 1) := by decide +kernel
theorem d_Mod_end_35 : decode b_Mod_end 35 = .ok (.getfield 19, 3) := by decide +kernel
theorem d_Mod_end_38 : decode b_Mod_end 38 = .ok (.iload 6, 2) := by decide +kernel
theorem d_Mod_end_40 : decode b_Mod_end 40 = .ok (.iaload, 1) := by decide +kernel
theorem d_Mod_end_41 : decode b_Mod_end 41 = .ok (.iload_n 2, 1) := by decide +kernel
theorem d_Mod_end_42 : decode b_Mod_end 42 = .ok (.if_icmp .ne 24, 3) := by decide +kernel
theorem d_Mod_end_45 : decode b_Mod_end 45 = .ok (.iload_n 2, 1) := by decide +kernel
theorem d_Mod_end_46 : decode b_Mod_end 46 = .ok (.iconst 1, 1) := by decide +kernel
theorem d_Mod_end_47 : decode b_Mod_end 47 = .ok (.if_icmp .ne 15, 3) := by decide +kernel
theorem d_Mod_end_50 : decode b_Mod_end 50 = .ok (.aload_n 0, 1) := by decide +kernel
theorem d_Mod_end_51 : decode b_Mod_end 51 = .ok (.getfield 43, 3) := by decide +kernel
theorem d_Mod_end_54 : decode b_Mod_end 54 = .ok (.iload 6, 2) := by decide +kernel
theorem d_Mod_end_56 : decode b_Mod_end 56 = .ok (.laload, 1) := by decide +kernel
theorem d_Mod_end_57 : decode b_Mod_end 57 = .ok (.lload_n 3, 1) := by decide +kernel
theorem d_Mod_end_58 : decode b_Mod_end 58 = .ok (.lcmp, 1) := by decide +kernel
theorem d_Mod_end_59 : decode b_Mod_end 59 = .ok (.ifCond .ne 7, 3) := by decide +kernel
theorem d_Mod_end_62 : decode b_Mod_end 62 = .ok (.iconst 1, 1) := by decide +kernel
theorem d_Mod_end_63 : decode b_Mod_end 63 = .ok (.goto 4, 3) := by decide +kernel
theorem d_Mod_end_66 : decode b_Mod_end 66 = .ok (.iconst 0, 1) := by decide +kernel
theorem d_Mod_end_67 : decode b_Mod_end 67 = .ok (.istore 7, 2) := by decide +kernel
theorem d_Mod_end_69 : decode b_Mod_end 69 = .ok (.aload_n 0, 1) := by decide +kernel
theorem d_Mod_end_70 : decode b_Mod_end 70 = .ok (.getfield 25, 3) := by decide +kernel
theorem d_Mod_end_73 : decode b_Mod_end 73 = .ok (.iload 6, 2) := by decide +kernel
theorem d_Mod_end_75 : decode b_Mod_end 75 = .ok (.iload 7, 2) := by decide +kernel
theorem d_Mod_end_77 : decode b_Mod_end 77 = .ok (.ifCond .eq 13, 3) := by decide +kernel
theorem d_Mod_end_80 : decode b_Mod_end 80 = .ok (.aload_n 0, 1) := by decide +kernel
theorem d_Mod_end_81 : decode b_Mod_end 81 = .ok (.getfield 25, 3) := by decide +kernel
theorem d_Mod_end_84 : decode b_Mod_end 84 = .ok (.iload 6, 2) := by decide +kernel
theorem d_Mod_end_86 : decode b_Mod_end 86 = .ok (.iaload, 1) := by decide +kernel
theorem d_Mod_end_87 : decode b_Mod_end 87 = .ok (.goto 7, 3) := by decide +kernel
theorem d_Mod_end_90 : decode b_Mod_end 90 = .ok (.aload_n 0, 1) := by decide +kernel
theorem d_Mod_end_91 : decode b_Mod_end 91 = .ok (.getfield 86, 3) := by decide +kernel
theorem d_Mod_end_94 : decode b_Mod_end 94 = .ok (.iastore, 1) := by decide +kernel
theorem d_Mod_end_95 : decode b_Mod_end 95 = .ok (.aload_n 0, 1) := by decide +kernel
theorem d_Mod_end_96 : decode b_Mod_end 96 = .ok (.getfield 19, 3) := by decide +kernel
theorem d_Mod_end_99 : decode b_Mod_end 99 = .ok (.iload 6, 2) := by decide +kernel
theorem d_Mod_end_101 : decode b_Mod_end 101 = .ok (.iload_n 2, 1) := by decide +kernel
theorem d_Mod_end_102 : decode b_Mod_end 102 = .ok (.iastore, 1) := by decide +kernel
theorem d_Mod_end_103 : decode b_Mod_end 103 = .ok (.aload_n 0, 1) := by decide +kernel
theorem d_Mod_end_104 : decode b_Mod_end 104 = .ok (.getfield 43, 3) := by decide +kernel
theorem d_Mod_end_107 : decode b_Mod_end 107 = .ok (.iload 6, 2) := by decide +kernel
theorem d_Mod_end_109 : decode b_Mod_end 109 = .ok (.lload_n 3, 1) := by decide +kernel
theorem d_Mod_end_110 : decode b_Mod_end 110 = .ok (.lastore, 1) := by decide +kernel
theorem d_Mod_end_111 : decode b_Mod_end 111 = .ok (.aload_n 0, 1) := by decide +kernel
theorem d_Mod_end_112 : decode b_Mod_end 112 = .ok (.getfield 51, 3) := by decide +kernel
theorem d_Mod_end_115 : decode b_Mod_end 115 = .ok (.iload 6, 2) := by decide +kernel
theorem d_Mod_end_117 : decode b_Mod_end 117 = .ok (.iconst 1, 1) := by decide +kernel
theorem d_Mod_end_118 : decode b_Mod_end 118 = .ok (.bastore, 1) := by decide +kernel
theorem d_Mod_end_119 : decode b_Mod_end 119 = .ok (.aload_n 0, 1) := by decide +kernel
theorem d_Mod_end_120 : decode b_Mod_end 120 = .ok (.getfield 22, 3) := by decide +kernel
theorem d_Mod_end_123 : decode b_Mod_end 123 = .ok (.iload 6, 2) := by decide +kernel
theorem d_Mod_end_125 : decode b_Mod_end 125 = .ok (.aload_n 0, 1) := by decide +kernel
theorem d_Mod_end_126 : decode b_Mod_end 126 = .ok (.getfield 86, 3) := by decide +kernel
theorem d_Mod_end_129 : decode b_Mod_end 129 = .ok (.iastore, 1) := by decide +kernel
theorem d_Mod_end_130 : decode b_Mod_end 130 = .ok (.aload_n 0, 1) := by decide +kernel
theorem d_Mod_end_131 : decode b_Mod_end 131 = .ok (.getfield 31, 3) := by decide +kernel
theorem d_Mod_end_134 : decode b_Mod_end 134 = .ok (.iload 6, 2) := by decide +kernel
theorem d_Mod_end_136 : decode b_Mod_end 136 = .ok (.aload_n 0, 1) := by decide +kernel
theorem d_Mod_end_137 : decode b_Mod_end 137 = .ok (.getfield 60, 3) := by decide +kernel
theorem d_Mod_end_140 : decode b_Mod_end 140 = .ok (.iload 5, 2) := by decide +kernel
theorem d_Mod_end_142 : decode b_Mod_end 142 = .ok (.iaload, 1) := by decide +kernel
theorem d_Mod_end_143 : decode b_Mod_end 143 = .ok (.iastore, 1) := by decide +kernel
theorem d_Mod_end_144 : decode b_Mod_end 144 = .ok (.iconst 0, 1) := by decide +kernel
theorem d_Mod_end_145 : decode b_Mod_end 145 = .ok (.istore 8, 2) := by decide +kernel
theorem d_Mod_end_147 : decode b_Mod_end 147 = .ok (.iload 8, 2) := by decide +kernel
theorem d_Mod_end_149 : decode b_Mod_end 149 = .ok (.aload_n 0, 1) := by decide +kernel
theorem d_Mod_end_150 : decode b_Mod_end 150 = .ok (.getfield 60, 3) := by decide +kernel
theorem d_Mod_end_153 : decode b_Mod_end 153 = .ok (.iload 5, 2) := by decide +kernel
theorem d_Mod_end_155 : decode b_Mod_end 155 = .ok (.iaload, 1) := by decide +kernel
theorem d_Mod_end_156 : decode b_Mod_end 156 = .ok (.if_icmp .ge 35, 3) := by decide +kernel
theorem d_Mod_end_159 : decode b_Mod_end 159 = .ok (.aload_n 0, 1) := by decide +kernel
theorem d_Mod_end_160 : decode b_Mod_end 160 = .ok (.getfield 34, 3) := by decide +kernel
theorem d_Mod_end_163 : decode b_Mod_end 163 = .ok (.bipush 8, 2) := by decide +kernel
theorem d_Mod_end_165 : decode b_Mod_end 165 = .ok (.iload 6, 2) := by decide +kernel
theorem d_Mod_end_167 : decode b_Mod_end 167 = .ok (.imul, 1) := by decide +kernel
theorem d_Mod_end_168 : decode b_Mod_end 168 = .ok (.iload 8, 2) := by decide +kernel
theorem d_Mod_end_170 : decode b_Mod_end 170 = .ok (.iadd, 1) := by decide +kernel
theorem d_Mod_end_171 : decode b_Mod_end 171 = .ok (.aload_n 0, 1) := by decide +kernel
theorem d_Mod_end_172 : decode b_Mod_end 172 = .ok (.getfield 63, 3) := by decide +kernel
theorem d_Mod_end_175 : decode b_Mod_end 175 = .ok (.bipush 8, 2) := by decide +kernel
theorem d_Mod_end_177 : decode b_Mod_end 177 = .ok (.iload 5, 2) := by decide +kernel
theorem d_Mod_end_179 : decode b_Mod_end 179 = .ok (.imul, 1) := by decide +kernel
theorem d_Mod_end_180 : decode b_Mod_end 180 = .ok (.iload 8, 2) := by decide +kernel
theorem d_Mod_end_182 : decode b_Mod_end 182 = .ok (.iadd, 1) := by decide +kernel
theorem d_Mod_end_183 : decode b_Mod_end 183 = .ok (.iaload, 1) := by decide +kernel
theorem d_Mod_end_184 : decode b_Mod_end 184 = .ok (.iastore, 1) := by decide +kernel
theorem d_Mod_end_185 : decode b_Mod_end 185 = .ok (.iinc 8 1, 3) := by decide +kernel
theorem d_Mod_end_188 : decode b_Mod_end 188 = .ok (.goto (-41), 3) := by decide +kernel
theorem d_Mod_end_191 : decode b_Mod_end 191 = .ok (.aload_n 0, 1) := by decide +kernel
theorem d_Mod_end_192 : decode b_Mod_end 192 = .ok (.getfield 37, 3) := by decide +kernel
theorem d_Mod_end_195 : decode b_Mod_end 195 = .ok (.iload 6, 2) := by decide +kernel
theorem d_Mod_end_197 : decode b_Mod_end 197 = .ok (.dup2, 1) := by decide +kernel
theorem d_Mod_end_198 : decode b_Mod_end 198 = .ok (.iaload, 1) := by decide +kernel
theorem d_Mod_end_199 : decode b_Mod_end 199 = .ok (.iconst 1, 1) := by decide +kernel
theorem d_Mod_end_200 : decode b_Mod_end 200 = .ok (.iadd, 1) := by decide +kernel
theorem d_Mod_end_201 : decode b_Mod_end 201 = .ok (.iastore, 1) := by decide +kernel
theorem d_Mod_end_202 : decode b_Mod_end 202 = .ok (.aload_n 0, 1) := by decide +kernel
theorem d_Mod_end_203 : decode b_Mod_end 203 = .ok (.getfield 54, 3) := by decide +kernel
theorem d_Mod_end_206 : decode b_Mod_end 206 = .ok (.iload_n 1, 1) := by decide +kernel
theorem d_Mod_end_207 : decode b_Mod_end 207 = .ok (.dup2, 1) := by decide +kernel
theorem d_Mod_end_208 : decode b_Mod_end 208 = .ok (.iaload, 1) := by decide +kernel
theorem d_Mod_end_209 : decode b_Mod_end 209 = .ok (.iconst 1, 1) := by decide +kernel
theorem d_Mod_end_210 : decode b_Mod_end 210 = .ok (.isub, 1) := by decide +kernel
theorem d_Mod_end_211 : decode b_Mod_end 211 = .ok (.iastore, 1) := by decide +kernel
theorem d_Mod_end_212 : decode b_Mod_end 212 = .ok (.iconst 2, 1) := by decide +kernel
theorem d_Mod_end_213 : decode b_Mod_end 213 = .ok (.ireturn, 1) := by decide +kernel
theorem d_Mod_outcome_0 : decode b_Mod_outcome 0 = .ok (.aload_n 0, 1) := by decide +kernel
theorem d_Mod_outcome_1 : decode b_Mod_outcome 1 = .ok (.getfield 7, 3) := by decide +kernel
theorem d_Mod_outcome_4 : decode b_Mod_outcome 4 = .ok (.aload_n 0, 1) := by decide +kernel
theorem d_Mod_outcome_5 : decode b_Mod_outcome 5 = .ok (.getfield 57, 3) := by decide +kernel
theorem d_Mod_outcome_8 : decode b_Mod_outcome 8 = .ok (.iload_n 1, 1) := by decide +kernel
theorem d_Mod_outcome_9 : decode b_Mod_outcome 9 = .ok (.iaload, 1) := by decide +kernel
theorem d_Mod_outcome_10 : decode b_Mod_outcome 10 = .ok (.iaload, 1) := by decide +kernel
theorem d_Mod_outcome_11 : decode b_Mod_outcome 11 = .ok (.istore_n 2, 1) := by decide +kernel
theorem d_Mod_outcome_12 : decode b_Mod_outcome 12 = .ok (.aload_n 0, 1) := by decide +kernel
theorem d_Mod_outcome_13 : decode b_Mod_outcome 13 = .ok (.getfield 60, 3) := by decide +kernel
theorem d_Mod_outcome_16 : decode b_Mod_outcome 16 = .ok (.iload_n 1, 1) := by decide +kernel
theorem d_Mod_outcome_17 : decode b_Mod_outcome 17 = .ok (.iaload, 1) := by decide +kernel
theorem d_Mod_outcome_18 : decode b_Mod_outcome 18 = .ok (.istore_n 3, 1) := by decide +kernel
theorem d_Mod_outcome_19 : decode b_Mod_outcome 19 = .ok (.iload_n 3, 1) := by decide +kernel
theorem d_Mod_outcome_20 : decode b_Mod_outcome 20 = .ok (.ifCond .ne 7, 3) := by decide +kernel
theorem d_Mod_outcome_23 : decode b_Mod_outcome 23 = .ok (.lconst 0, 1) := by decide +kernel
theorem d_Mod_outcome_24 : decode b_Mod_outcome 24 = .ok (.goto 30, 3) := by decide +kernel
theorem d_Mod_outcome_27 : decode b_Mod_outcome 27 = .ok (.iload_n 2, 1) := by decide +kernel
theorem d_Mod_outcome_28 : decode b_Mod_outcome 28 = .ok (.iconst 1, 1) := by decide +kernel
theorem d_Mod_outcome_29 : decode b_Mod_outcome 29 = .ok (.if_icmp .eq 8, 3) := by decide +kernel
theorem d_Mod_outcome_32 : decode b_Mod_outcome 32 = .ok (.iload_n 2, 1) := by decide +kernel
theorem d_Mod_outcome_33 : decode b_Mod_outcome 33 = .ok (.iconst 2, 1) := by decide +kernel
theorem d_Mod_outcome_34 : decode b_Mod_outcome 34 = .ok (.if_icmp .ne 14, 3) := by decide +kernel
theorem d_Mod_outcome_37 : decode b_Mod_outcome 37 = .ok (.aload_n 0, 1) := by decide +kernel
theorem d_Mod_outcome_38 : decode b_Mod_outcome 38 = .ok (.iload_n 1, 1) := by decide +kernel
theorem d_Mod_outcome_39 : decode b_Mod_outcome 39 = .ok (.iload_n 3, 1) := by decide +kernel
theorem d_Mod_outcome_40 : decode b_Mod_outcome 40 = .ok (.iconst 1, 1) := by decide +kernel
theorem d_Mod_outcome_41 : decode b_Mod_outcome 41 = .ok (.isub, 1) := by decide +kernel
theorem d_Mod_outcome_42 : decode b_Mod_outcome 42 = .ok (.invokevirtual 130, 3) := by decide +kernel
theorem d_Mod_outcome_45 : decode b_Mod_outcome 45 = .ok (.goto 9, 3) := by decide +kernel
theorem d_Mod_outcome_48 : decode b_Mod_outcome 48 = .ok (.aload_n 0, 1) := by decide +kernel
theorem d_Mod_outcome_49 : decode b_Mod_outcome 49 = .ok (.iload_n 1, 1) := by decide +kernel
theorem d_Mod_outcome_50 : decode b_Mod_outcome 50 = .ok (.iconst 0, 1) := by decide +kernel
theorem d_Mod_outcome_51 : decode b_Mod_outcome 51 = .ok (.invokevirtual 130, 3) := by decide +kernel
theorem d_Mod_outcome_54 : decode b_Mod_outcome 54 = .ok (.lstore 4, 2) := by decide +kernel
theorem d_Mod_outcome_56 : decode b_Mod_outcome 56 = .ok (.iconst 1, 1) := by decide +kernel
theorem d_Mod_outcome_57 : decode b_Mod_outcome 57 = .ok (.istore 6, 2) := by decide +kernel
theorem d_Mod_outcome_59 : decode b_Mod_outcome 59 = .ok (.iload 6, 2) := by decide +kernel
theorem d_Mod_outcome_61 : decode b_Mod_outcome 61 = .ok (.iload_n 3, 1) := by decide +kernel
theorem d_Mod_outcome_62 : decode b_Mod_outcome 62 = .ok (.if_icmp .ge 89, 3) := by decide +kernel
theorem d_Mod_outcome_65 : decode b_Mod_outcome 65 = .ok (.aload_n 0, 1) := by decide +kernel
theorem d_Mod_outcome_66 : decode b_Mod_outcome 66 = .ok (.iload_n 1, 1) := by decide +kernel
theorem d_Mod_outcome_67 : decode b_Mod_outcome 67 = .ok (.iload 6, 2) := by decide +kernel
theorem d_Mod_outcome_69 : decode b_Mod_outcome 69 = .ok (.invokevirtual 130, 3) := by decide +kernel
theorem d_Mod_outcome_72 : decode b_Mod_outcome 72 = .ok (.lstore 7, 2) := by decide +kernel
theorem d_Mod_outcome_74 : decode b_Mod_outcome 74 = .ok (.iload_n 2, 1) := by decide +kernel
theorem d_Mod_outcome_75 : decode b_Mod_outcome 75 = .ok (.ifCond .eq 8, 3) := by decide +kernel
theorem d_Mod_outcome_78 : decode b_Mod_outcome 78 = .ok (.iload_n 2, 1) := by decide +kernel
theorem d_Mod_outcome_79 : decode b_Mod_outcome 79 = .ok (.iconst 4, 1) := by decide +kernel
theorem d_Mod_outcome_80 : decode b_Mod_outcome 80 = .ok (.if_icmp .ne 13, 3) := by decide +kernel
theorem d_Mod_outcome_83 : decode b_Mod_outcome 83 = .ok (.lload 4, 2) := by decide +kernel
theorem d_Mod_outcome_85 : decode b_Mod_outcome 85 = .ok (.lload 7, 2) := by decide +kernel
theorem d_Mod_outcome_87 : decode b_Mod_outcome 87 = .ok (.ladd, 1) := by decide +kernel
theorem d_Mod_outcome_88 : decode b_Mod_outcome 88 = .ok (.lstore 4, 2) := by decide +kernel
theorem d_Mod_outcome_90 : decode b_Mod_outcome 90 = .ok (.goto 55, 3) := by decide +kernel
theorem d_Mod_outcome_93 : decode b_Mod_outcome 93 = .ok (.iload_n 2, 1) := by decide +kernel
theorem d_Mod_outcome_94 : decode b_Mod_outcome 94 = .ok (.iconst 3, 1) := by decide +kernel
theorem d_Mod_outcome_95 : decode b_Mod_outcome 95 = .ok (.if_icmp .ne 28, 3) := by decide +kernel
theorem d_Mod_outcome_98 : decode b_Mod_outcome 98 = .ok (.lload 7, 2) := by decide +kernel
theorem d_Mod_outcome_100 : decode b_Mod_outcome 100 = .ok (.ldc2_w 138, 3) := by decide +kernel
theorem d_Mod_outcome_103 : decode b_Mod_outcome 103 = .ok (.lcmp, 1) := by decide +kernel
theorem d_Mod_outcome_104 : decode b_Mod_outcome 104 = .ok (.ifCond .ne 9, 3) := by decide +kernel
theorem d_Mod_outcome_107 : decode b_Mod_outcome 107 = .ok (.lload 4, 2) := by decide +kernel
theorem d_Mod_outcome_109 : decode b_Mod_outcome 109 = .ok (.lneg, 1) := by decide +kernel
theorem d_Mod_outcome_110 : decode b_Mod_outcome 110 = .ok (.goto 8, 3) := by decide +kernel
theorem d_Mod_outcome_113 : decode b_Mod_outcome 113 = .ok (.lload 4, 2) := by decide +kernel
theorem d_Mod_outcome_115 : decode b_Mod_outcome 115 = .ok (.lload 7, 2) := by decide +kernel
theorem d_Mod_outcome_117 : decode b_Mod_outcome 117 = .ok (.ldiv, 1) := by decide +kernel
theorem d_Mod_outcome_118 : decode b_Mod_outcome 118 = .ok (.lstore 4, 2) := by decide +kernel
theorem d_Mod_outcome_120 : decode b_Mod_outcome 120 = .ok (.goto 25, 3) := by decide +kernel
theorem d_Mod_outcome_123 : decode b_Mod_outcome 123 = .ok (.iload_n 2, 1) := by decide +kernel
theorem d_Mod_outcome_124 : decode b_Mod_outcome 124 = .ok (.iconst 5, 1) := by decide +kernel
theorem d_Mod_outcome_125 : decode b_Mod_outcome 125 = .ok (.if_icmp .ne 20, 3) := by decide +kernel
theorem d_Mod_outcome_128 : decode b_Mod_outcome 128 = .ok (.lload 7, 2) := by decide +kernel
theorem d_Mod_outcome_130 : decode b_Mod_outcome 130 = .ok (.lload 4, 2) := by decide +kernel
theorem d_Mod_outcome_132 : decode b_Mod_outcome 132 = .ok (.lcmp, 1) := by decide +kernel
theorem d_Mod_outcome_133 : decode b_Mod_outcome 133 = .ok (.ifCond .le 8, 3) := by decide +kernel
theorem d_Mod_outcome_136 : decode b_Mod_outcome 136 = .ok (.lload 7, 2) := by decide +kernel
theorem d_Mod_outcome_138 : decode b_Mod_outcome 138 = .ok (.goto 5, 3) := by decide +kernel
theorem d_Mod_outcome_141 : decode b_Mod_outcome 141 = .ok (.lload 4, 2) := by decide +kernel
theorem d_Mod_outcome_143 : decode b_Mod_outcome 143 = .ok (.lstore 4, 2) := by decide +kernel
theorem d_Mod_outcome_145 : decode b_Mod_outcome 145 = .ok (.iinc 6 1, 3) := by decide +kernel
theorem d_Mod_outcome_148 : decode b_Mod_outcome 148 = .ok (.goto (-89), 3) := by decide +kernel
theorem d_Mod_outcome_151 : decode b_Mod_outcome 151 = .ok (.iload_n 2, 1) := by decide +kernel
theorem d_Mod_outcome_152 : decode b_Mod_outcome 152 = .ok (.iconst 4, 1) := by decide +kernel
theorem d_Mod_outcome_153 : decode b_Mod_outcome 153 = .ok (.if_icmp .ne 10, 3) := by decide +kernel
theorem d_Mod_outcome_156 : decode b_Mod_outcome 156 = .ok (.lload 4, 2) := by decide +kernel
theorem d_Mod_outcome_158 : decode b_Mod_outcome 158 = .ok (.lconst 1, 1) := by decide +kernel
theorem d_Mod_outcome_159 : decode b_Mod_outcome 159 = .ok (.land, 1) := by decide +kernel
theorem d_Mod_outcome_160 : decode b_Mod_outcome 160 = .ok (.goto 5, 3) := by decide +kernel
theorem d_Mod_outcome_163 : decode b_Mod_outcome 163 = .ok (.lload 4, 2) := by decide +kernel
theorem d_Mod_outcome_165 : decode b_Mod_outcome 165 = .ok (.lreturn, 1) := by decide +kernel
theorem d_Mod_run_0 : decode b_Mod_run 0 = .ok (.aload_n 0, 1) := by decide +kernel
theorem d_Mod_run_1 : decode b_Mod_run 1 = .ok (.iconst 0, 1) := by decide +kernel
theorem d_Mod_run_2 : decode b_Mod_run 2 = .ok (.putfield 75, 3) := by decide +kernel
theorem d_Mod_run_5 : decode b_Mod_run 5 = .ok (.aload_n 0, 1) := by decide +kernel
theorem d_Mod_run_6 : decode b_Mod_run 6 = .ok (.iload_n 1, 1) := by decide +kernel
theorem d_Mod_run_7 : decode b_Mod_run 7 = .ok (.invokevirtual 82, 3) := by decide +kernel
theorem d_Mod_run_10 : decode b_Mod_run 10 = .ok (.ifCond .ne 5, 3) := by decide +kernel
theorem d_Mod_run_13 : decode b_Mod_run 13 = .ok (.iconst (-1), 1) := by decide +kernel
theorem d_Mod_run_14 : decode b_Mod_run 14 = .ok (.ireturn, 1) := by decide +kernel
theorem d_Mod_run_15 : decode b_Mod_run 15 = .ok (.aload_n 0, 1) := by decide +kernel
theorem d_Mod_run_16 : decode b_Mod_run 16 = .ok (.iload_n 1, 1) := by decide +kernel
theorem d_Mod_run_17 : decode b_Mod_run 17 = .ok (.invokevirtual 123, 3) := by decide +kernel
theorem d_Mod_run_20 : decode b_Mod_run 20 = .ok (.ifCond .eq 10, 3) := by decide +kernel
theorem d_Mod_run_23 : decode b_Mod_run 23 = .ok (.aload_n 0, 1) := by decide +kernel
theorem d_Mod_run_24 : decode b_Mod_run 24 = .ok (.getfield 19, 3) := by decide +kernel
theorem d_Mod_run_27 : decode b_Mod_run 27 = .ok (.iload_n 1, 1) := by decide +kernel
theorem d_Mod_run_28 : decode b_Mod_run 28 = .ok (.iaload, 1) := by decide +kernel
theorem d_Mod_run_29 : decode b_Mod_run 29 = .ok (.ireturn, 1) := by decide +kernel
theorem d_Mod_run_30 : decode b_Mod_run 30 = .ok (.aload_n 0, 1) := by decide +kernel
theorem d_Mod_run_31 : decode b_Mod_run 31 = .ok (.iload_n 1, 1) := by decide +kernel
theorem d_Mod_run_32 : decode b_Mod_run 32 = .ok (.invokevirtual 120, 3) := by decide +kernel
theorem d_Mod_run_35 : decode b_Mod_run 35 = .ok (.iconst (-1), 1) := by decide +kernel
theorem d_Mod_run_36 : decode b_Mod_run 36 = .ok (.if_icmp .eq 6, 3) := by decide +kernel
theorem d_Mod_run_39 : decode b_Mod_run 39 = .ok (.bipush (-2), 2) := by decide +kernel
theorem d_Mod_run_41 : decode b_Mod_run 41 = .ok (.ireturn, 1) := by decide +kernel
theorem d_Mod_run_42 : decode b_Mod_run 42 = .ok (.aload_n 0, 1) := by decide +kernel
theorem d_Mod_run_43 : decode b_Mod_run 43 = .ok (.iconst 4, 1) := by decide +kernel
theorem d_Mod_run_44 : decode b_Mod_run 44 = .ok (.iload_n 1, 1) := by decide +kernel
theorem d_Mod_run_45 : decode b_Mod_run 45 = .ok (.invokevirtual 126, 3) := by decide +kernel
theorem d_Mod_run_48 : decode b_Mod_run 48 = .ok (.iconst 1, 1) := by decide +kernel
theorem d_Mod_run_49 : decode b_Mod_run 49 = .ok (.istore_n 2, 1) := by decide +kernel
theorem d_Mod_run_50 : decode b_Mod_run 50 = .ok (.iload_n 2, 1) := by decide +kernel
theorem d_Mod_run_51 : decode b_Mod_run 51 = .ok (.iconst 3, 1) := by decide +kernel
theorem d_Mod_run_52 : decode b_Mod_run 52 = .ok (.if_icmp .eq 21, 3) := by decide +kernel
theorem d_Mod_run_55 : decode b_Mod_run 55 = .ok (.aload_n 0, 1) := by decide +kernel
theorem d_Mod_run_56 : decode b_Mod_run 56 = .ok (.getfield 54, 3) := by decide +kernel
theorem d_Mod_run_59 : decode b_Mod_run 59 = .ok (.iconst 4, 1) := by decide +kernel
theorem d_Mod_run_60 : decode b_Mod_run 60 = .ok (.iaload, 1) := by decide +kernel
theorem d_Mod_run_61 : decode b_Mod_run 61 = .ok (.ifCond .le 12, 3) := by decide +kernel
theorem d_Mod_run_64 : decode b_Mod_run 64 = .ok (.aload_n 0, 1) := by decide +kernel
theorem d_Mod_run_65 : decode b_Mod_run 65 = .ok (.iconst 4, 1) := by decide +kernel
theorem d_Mod_run_66 : decode b_Mod_run 66 = .ok (.invokevirtual 157, 3) := by decide +kernel
theorem d_Mod_run_69 : decode b_Mod_run 69 = .ok (.istore_n 2, 1) := by decide +kernel
theorem d_Mod_run_70 : decode b_Mod_run 70 = .ok (.goto (-20), 3) := by decide +kernel
theorem d_Mod_run_73 : decode b_Mod_run 73 = .ok (.aload_n 0, 1) := by decide +kernel
theorem d_Mod_run_74 : decode b_Mod_run 74 = .ok (.getfield 54, 3) := by decide +kernel
theorem d_Mod_run_77 : decode b_Mod_run 77 = .ok (.iconst 4, 1) := by decide +kernel
theorem d_Mod_run_78 : decode b_Mod_run 78 = .ok (.iconst 0, 1) := by decide +kernel
theorem d_Mod_run_79 : decode b_Mod_run 79 = .ok (.iastore, 1) := by decide +kernel
theorem d_Mod_run_80 : decode b_Mod_run 80 = .ok (.iload_n 2, 1) := by decide +kernel
theorem d_Mod_run_81 : decode b_Mod_run 81 = .ok (.iconst 3, 1) := by decide +kernel
theorem d_Mod_run_82 : decode b_Mod_run 82 = .ok (.if_icmp .ne 8, 3) := by decide +kernel
theorem d_Mod_run_85 : decode b_Mod_run 85 = .ok (.bipush (-2), 2) := by decide +kernel
theorem d_Mod_run_87 : decode b_Mod_run 87 = .ok (.goto 9, 3) := by decide +kernel
theorem d_Mod_run_90 : decode b_Mod_run 90 = .ok (.aload_n 0, 1) := by decide +kernel
theorem d_Mod_run_91 : decode b_Mod_run 91 = .ok (.getfield 19, 3) := by decide +kernel
theorem d_Mod_run_94 : decode b_Mod_run 94 = .ok (.iload_n 1, 1) := by decide +kernel
theorem d_Mod_run_95 : decode b_Mod_run 95 = .ok (.iaload, 1) := by decide +kernel
theorem d_Mod_run_96 : decode b_Mod_run 96 = .ok (.ireturn, 1) := by decide +kernel
theorem d_Mod_state_0 : decode b_Mod_state 0 = .ok (.aload_n 0, 1) := by decide +kernel
theorem d_Mod_state_1 : decode b_Mod_state 1 = .ok (.iconst 0, 1) := by decide +kernel
theorem d_Mod_state_2 : decode b_Mod_state 2 = .ok (.putfield 75, 3) := by decide +kernel
theorem d_Mod_state_5 : decode b_Mod_state 5 = .ok (.aload_n 0, 1) := by decide +kernel
theorem d_Mod_state_6 : decode b_Mod_state 6 = .ok (.iload_n 1, 1) := by decide +kernel
theorem d_Mod_state_7 : decode b_Mod_state 7 = .ok (.invokevirtual 82, 3) := by decide +kernel
theorem d_Mod_state_10 : decode b_Mod_state 10 = .ok (.ifCond .eq 20, 3) := by decide +kernel
theorem d_Mod_state_13 : decode b_Mod_state 13 = .ok (.aload_n 0, 1) := by decide +kernel
theorem d_Mod_state_14 : decode b_Mod_state 14 = .ok (.iload_n 1, 1) := by decide +kernel
theorem d_Mod_state_15 : decode b_Mod_state 15 = .ok (.invokevirtual 123, 3) := by decide +kernel
theorem d_Mod_state_18 : decode b_Mod_state 18 = .ok (.ifCond .eq 12, 3) := by decide +kernel
theorem d_Mod_state_21 : decode b_Mod_state 21 = .ok (.aload_n 0, 1) := by decide +kernel
theorem d_Mod_state_22 : decode b_Mod_state 22 = .ok (.getfield 19, 3) := by decide +kernel
theorem d_Mod_state_25 : decode b_Mod_state 25 = .ok (.iload_n 1, 1) := by decide +kernel
theorem d_Mod_state_26 : decode b_Mod_state 26 = .ok (.iaload, 1) := by decide +kernel
theorem d_Mod_state_27 : decode b_Mod_state 27 = .ok (.goto 4, 3) := by decide +kernel
theorem d_Mod_state_30 : decode b_Mod_state 30 = .ok (.iconst 0, 1) := by decide +kernel
theorem d_Mod_state_31 : decode b_Mod_state 31 = .ok (.ireturn, 1) := by decide +kernel
theorem d_Mod_value_0 : decode b_Mod_value 0 = .ok (.aload_n 0, 1) := by decide +kernel
theorem d_Mod_value_1 : decode b_Mod_value 1 = .ok (.aload_n 0, 1) := by decide +kernel
theorem d_Mod_value_2 : decode b_Mod_value 2 = .ok (.iload_n 1, 1) := by decide +kernel
theorem d_Mod_value_3 : decode b_Mod_value 3 = .ok (.invokevirtual 82, 3) := by decide +kernel
theorem d_Mod_value_6 : decode b_Mod_value 6 = .ok (.ifCond .ne 7, 3) := by decide +kernel
theorem d_Mod_value_9 : decode b_Mod_value 9 = .ok (.iconst 1, 1) := by decide +kernel
theorem d_Mod_value_10 : decode b_Mod_value 10 = .ok (.goto 26, 3) := by decide +kernel
theorem d_Mod_value_13 : decode b_Mod_value 13 = .ok (.aload_n 0, 1) := by decide +kernel
theorem d_Mod_value_14 : decode b_Mod_value 14 = .ok (.iload_n 1, 1) := by decide +kernel
theorem d_Mod_value_15 : decode b_Mod_value 15 = .ok (.invokevirtual 123, 3) := by decide +kernel
theorem d_Mod_value_18 : decode b_Mod_value 18 = .ok (.ifCond .eq 13, 3) := by decide +kernel
theorem d_Mod_value_21 : decode b_Mod_value 21 = .ok (.aload_n 0, 1) := by decide +kernel
theorem d_Mod_value_22 : decode b_Mod_value 22 = .ok (.getfield 19, 3) := by decide +kernel
theorem d_Mod_value_25 : decode b_Mod_value 25 = .ok (.iload_n 1, 1) := by decide +kernel
theorem d_Mod_value_26 : decode b_Mod_value 26 = .ok (.iaload, 1) := by decide +kernel
theorem d_Mod_value_27 : decode b_Mod_value 27 = .ok (.iconst 1, 1) := by decide +kernel
theorem d_Mod_value_28 : decode b_Mod_value 28 = .ok (.if_icmp .eq 7, 3) := by decide +kernel
theorem d_Mod_value_31 : decode b_Mod_value 31 = .ok (.iconst 2, 1) := by decide +kernel
theorem d_Mod_value_32 : decode b_Mod_value 32 = .ok (.goto 4, 3) := by decide +kernel
theorem d_Mod_value_35 : decode b_Mod_value 35 = .ok (.iconst 0, 1) := by decide +kernel
theorem d_Mod_value_36 : decode b_Mod_value 36 = .ok (.putfield 75, 3) := by decide +kernel
theorem d_Mod_value_39 : decode b_Mod_value 39 = .ok (.aload_n 0, 1) := by decide +kernel
theorem d_Mod_value_40 : decode b_Mod_value 40 = .ok (.getfield 75, 3) := by decide +kernel
theorem d_Mod_value_43 : decode b_Mod_value 43 = .ok (.ifCond .le 7, 3) := by decide +kernel
theorem d_Mod_value_46 : decode b_Mod_value 46 = .ok (.lconst 0, 1) := by decide +kernel
theorem d_Mod_value_47 : decode b_Mod_value 47 = .ok (.goto 9, 3) := by decide +kernel
theorem d_Mod_value_50 : decode b_Mod_value 50 = .ok (.aload_n 0, 1) := by decide +kernel
theorem d_Mod_value_51 : decode b_Mod_value 51 = .ok (.getfield 43, 3) := by decide +kernel
theorem d_Mod_value_54 : decode b_Mod_value 54 = .ok (.iload_n 1, 1) := by decide +kernel
theorem d_Mod_value_55 : decode b_Mod_value 55 = .ok (.laload, 1) := by decide +kernel
theorem d_Mod_value_56 : decode b_Mod_value 56 = .ok (.lreturn, 1) := by decide +kernel
theorem d_Mod_worked_0 : decode b_Mod_worked 0 = .ok (.aload_n 0, 1) := by decide +kernel
theorem d_Mod_worked_1 : decode b_Mod_worked 1 = .ok (.iconst 0, 1) := by decide +kernel
theorem d_Mod_worked_2 : decode b_Mod_worked 2 = .ok (.putfield 75, 3) := by decide +kernel
theorem d_Mod_worked_5 : decode b_Mod_worked 5 = .ok (.aload_n 0, 1) := by decide +kernel
theorem d_Mod_worked_6 : decode b_Mod_worked 6 = .ok (.iload_n 1, 1) := by decide +kernel
theorem d_Mod_worked_7 : decode b_Mod_worked 7 = .ok (.invokevirtual 82, 3) := by decide +kernel
theorem d_Mod_worked_10 : decode b_Mod_worked 10 = .ok (.ifCond .eq 12, 3) := by decide +kernel
theorem d_Mod_worked_13 : decode b_Mod_worked 13 = .ok (.aload_n 0, 1) := by decide +kernel
theorem d_Mod_worked_14 : decode b_Mod_worked 14 = .ok (.getfield 37, 3) := by decide +kernel
theorem d_Mod_worked_17 : decode b_Mod_worked 17 = .ok (.iload_n 1, 1) := by decide +kernel
theorem d_Mod_worked_18 : decode b_Mod_worked 18 = .ok (.iaload, 1) := by decide +kernel
theorem d_Mod_worked_19 : decode b_Mod_worked 19 = .ok (.goto 4, 3) := by decide +kernel
theorem d_Mod_worked_22 : decode b_Mod_worked 22 = .ok (.iconst 0, 1) := by decide +kernel
theorem d_Mod_worked_23 : decode b_Mod_worked 23 = .ok (.ireturn, 1) := by decide +kernel
theorem d_Mod_kept_0 : decode b_Mod_kept 0 = .ok (.aload_n 0, 1) := by decide +kernel
theorem d_Mod_kept_1 : decode b_Mod_kept 1 = .ok (.iconst 0, 1) := by decide +kernel
theorem d_Mod_kept_2 : decode b_Mod_kept 2 = .ok (.putfield 75, 3) := by decide +kernel
theorem d_Mod_kept_5 : decode b_Mod_kept 5 = .ok (.aload_n 0, 1) := by decide +kernel
theorem d_Mod_kept_6 : decode b_Mod_kept 6 = .ok (.iload_n 1, 1) := by decide +kernel
theorem d_Mod_kept_7 : decode b_Mod_kept 7 = .ok (.invokevirtual 82, 3) := by decide +kernel
theorem d_Mod_kept_10 : decode b_Mod_kept 10 = .ok (.ifCond .eq 12, 3) := by decide +kernel
theorem d_Mod_kept_13 : decode b_Mod_kept 13 = .ok (.aload_n 0, 1) := by decide +kernel
theorem d_Mod_kept_14 : decode b_Mod_kept 14 = .ok (.getfield 40, 3) := by decide +kernel
theorem d_Mod_kept_17 : decode b_Mod_kept 17 = .ok (.iload_n 1, 1) := by decide +kernel
theorem d_Mod_kept_18 : decode b_Mod_kept 18 = .ok (.iaload, 1) := by decide +kernel
theorem d_Mod_kept_19 : decode b_Mod_kept 19 = .ok (.goto 4, 3) := by decide +kernel
theorem d_Mod_kept_22 : decode b_Mod_kept 22 = .ok (.iconst 0, 1) := by decide +kernel
theorem d_Mod_kept_23 : decode b_Mod_kept 23 = .ok (.ireturn, 1) := by decide +kernel
theorem d_Mod_changed_0 : decode b_Mod_changed 0 = .ok (.aload_n 0, 1) := by decide +kernel
theorem d_Mod_changed_1 : decode b_Mod_changed 1 = .ok (.iconst 0, 1) := by decide +kernel
theorem d_Mod_changed_2 : decode b_Mod_changed 2 = .ok (.putfield 75, 3) := by decide +kernel
theorem d_Mod_changed_5 : decode b_Mod_changed 5 = .ok (.aload_n 0, 1) := by decide +kernel
theorem d_Mod_changed_6 : decode b_Mod_changed 6 = .ok (.iload_n 1, 1) := by decide +kernel
theorem d_Mod_changed_7 : decode b_Mod_changed 7 = .ok (.invokevirtual 82, 3) := by decide +kernel
theorem d_Mod_changed_10 : decode b_Mod_changed 10 = .ok (.ifCond .eq 31, 3) := by decide +kernel
theorem d_Mod_changed_13 : decode b_Mod_changed 13 = .ok (.aload_n 0, 1) := by decide +kernel
theorem d_Mod_changed_14 : decode b_Mod_changed 14 = .ok (.getfield 7, 3) := by decide +kernel
theorem d_Mod_changed_17 : decode b_Mod_changed 17 = .ok (.iload_n 1, 1) := by decide +kernel
theorem d_Mod_changed_18 : decode b_Mod_changed 18 = .ok (.iaload, 1) := by decide +kernel
theorem d_Mod_changed_19 : decode b_Mod_changed 19 = .ok (.iconst (-1), 1) := by decide +kernel
theorem d_Mod_changed_20 : decode b_Mod_changed 20 = .ok (.if_icmp .eq 12, 3) := by decide +kernel
theorem d_Mod_changed_23 : decode b_Mod_changed 23 = .ok (.aload_n 0, 1) := by decide +kernel
theorem d_Mod_changed_24 : decode b_Mod_changed 24 = .ok (.getfield 51, 3) := by decide +kernel
theorem d_Mod_changed_27 : decode b_Mod_changed 27 = .ok (.iload_n 1, 1) := by decide +kernel
theorem d_Mod_changed_28 : decode b_Mod_changed 28 = .ok (.baload, 1) := by decide +kernel
theorem d_Mod_changed_29 : decode b_Mod_changed 29 = .ok (.ifCond .eq 12, 3) := by decide +kernel
theorem d_Mod_changed_32 : decode b_Mod_changed 32 = .ok (.aload_n 0, 1) := by decide +kernel
theorem d_Mod_changed_33 : decode b_Mod_changed 33 = .ok (.getfield 25, 3) := by decide +kernel
theorem d_Mod_changed_36 : decode b_Mod_changed 36 = .ok (.iload_n 1, 1) := by decide +kernel
theorem d_Mod_changed_37 : decode b_Mod_changed 37 = .ok (.iaload, 1) := by decide +kernel
theorem d_Mod_changed_38 : decode b_Mod_changed 38 = .ok (.goto 4, 3) := by decide +kernel
theorem d_Mod_changed_41 : decode b_Mod_changed 41 = .ok (.iconst (-1), 1) := by decide +kernel
theorem d_Mod_changed_42 : decode b_Mod_changed 42 = .ok (.ireturn, 1) := by decide +kernel
theorem d_Mod_asked_0 : decode b_Mod_asked 0 = .ok (.aload_n 0, 1) := by decide +kernel
theorem d_Mod_asked_1 : decode b_Mod_asked 1 = .ok (.iconst 0, 1) := by decide +kernel
theorem d_Mod_asked_2 : decode b_Mod_asked 2 = .ok (.putfield 75, 3) := by decide +kernel
theorem d_Mod_asked_5 : decode b_Mod_asked 5 = .ok (.aload_n 0, 1) := by decide +kernel
theorem d_Mod_asked_6 : decode b_Mod_asked 6 = .ok (.iload_n 1, 1) := by decide +kernel
theorem d_Mod_asked_7 : decode b_Mod_asked 7 = .ok (.invokevirtual 82, 3) := by decide +kernel
theorem d_Mod_asked_10 : decode b_Mod_asked 10 = .ok (.ifCond .eq 40, 3) := by decide +kernel
theorem d_Mod_asked_13 : decode b_Mod_asked 13 = .ok (.aload_n 0, 1) := by decide +kernel
theorem d_Mod_asked_14 : decode b_Mod_asked 14 = .ok (.getfield 51, 3) := by decide +kernel
theorem d_Mod_asked_17 : decode b_Mod_asked 17 = .ok (.iload_n 1, 1) := by decide +kernel
theorem d_Mod_asked_18 : decode b_Mod_asked 18 = .ok (.baload, 1) := by decide +kernel
theorem d_Mod_asked_19 : decode b_Mod_asked 19 = .ok (.ifCond .eq 31, 3) := by decide +kernel
theorem d_Mod_asked_22 : decode b_Mod_asked 22 = .ok (.iload_n 2, 1) := by decide +kernel
theorem d_Mod_asked_23 : decode b_Mod_asked 23 = .ok (.ifCond .lt 27, 3) := by decide +kernel
theorem d_Mod_asked_26 : decode b_Mod_asked 26 = .ok (.iload_n 2, 1) := by decide +kernel
theorem d_Mod_asked_27 : decode b_Mod_asked 27 = .ok (.aload_n 0, 1) := by decide +kernel
theorem d_Mod_asked_28 : decode b_Mod_asked 28 = .ok (.getfield 31, 3) := by decide +kernel
theorem d_Mod_asked_31 : decode b_Mod_asked 31 = .ok (.iload_n 1, 1) := by decide +kernel
theorem d_Mod_asked_32 : decode b_Mod_asked 32 = .ok (.iaload, 1) := by decide +kernel
theorem d_Mod_asked_33 : decode b_Mod_asked 33 = .ok (.if_icmp .ge 17, 3) := by decide +kernel
theorem d_Mod_asked_36 : decode b_Mod_asked 36 = .ok (.aload_n 0, 1) := by decide +kernel
theorem d_Mod_asked_37 : decode b_Mod_asked 37 = .ok (.getfield 34, 3) := by decide +kernel
theorem d_Mod_asked_40 : decode b_Mod_asked 40 = .ok (.bipush 8, 2) := by decide +kernel
theorem d_Mod_asked_42 : decode b_Mod_asked 42 = .ok (.iload_n 1, 1) := by decide +kernel
theorem d_Mod_asked_43 : decode b_Mod_asked 43 = .ok (.imul, 1) := by decide +kernel
theorem d_Mod_asked_44 : decode b_Mod_asked 44 = .ok (.iload_n 2, 1) := by decide +kernel
theorem d_Mod_asked_45 : decode b_Mod_asked 45 = .ok (.iadd, 1) := by decide +kernel
theorem d_Mod_asked_46 : decode b_Mod_asked 46 = .ok (.iaload, 1) := by decide +kernel
theorem d_Mod_asked_47 : decode b_Mod_asked 47 = .ok (.goto 4, 3) := by decide +kernel
theorem d_Mod_asked_50 : decode b_Mod_asked 50 = .ok (.iconst (-1), 1) := by decide +kernel
theorem d_Mod_asked_51 : decode b_Mod_asked 51 = .ok (.ireturn, 1) := by decide +kernel
theorem d_Mod_drop_0 : decode b_Mod_drop 0 = .ok (.aload_n 0, 1) := by decide +kernel
theorem d_Mod_drop_1 : decode b_Mod_drop 1 = .ok (.iconst 0, 1) := by decide +kernel
theorem d_Mod_drop_2 : decode b_Mod_drop 2 = .ok (.putfield 75, 3) := by decide +kernel
theorem d_Mod_drop_5 : decode b_Mod_drop 5 = .ok (.aload_n 0, 1) := by decide +kernel
theorem d_Mod_drop_6 : decode b_Mod_drop 6 = .ok (.iload_n 1, 1) := by decide +kernel
theorem d_Mod_drop_7 : decode b_Mod_drop 7 = .ok (.invokevirtual 82, 3) := by decide +kernel
theorem d_Mod_drop_10 : decode b_Mod_drop 10 = .ok (.ifCond .eq 12, 3) := by decide +kernel
theorem d_Mod_drop_13 : decode b_Mod_drop 13 = .ok (.aload_n 0, 1) := by decide +kernel
theorem d_Mod_drop_14 : decode b_Mod_drop 14 = .ok (.getfield 51, 3) := by decide +kernel
theorem d_Mod_drop_17 : decode b_Mod_drop 17 = .ok (.iload_n 1, 1) := by decide +kernel
theorem d_Mod_drop_18 : decode b_Mod_drop 18 = .ok (.baload, 1) := by decide +kernel
theorem d_Mod_drop_19 : decode b_Mod_drop 19 = .ok (.ifCond .ne 5, 3) := by decide +kernel
theorem d_Mod_drop_22 : decode b_Mod_drop 22 = .ok (.iconst 0, 1) := by decide +kernel
theorem d_Mod_drop_23 : decode b_Mod_drop 23 = .ok (.ireturn, 1) := by decide +kernel
theorem d_Mod_drop_24 : decode b_Mod_drop 24 = .ok (.aload_n 0, 1) := by decide +kernel
theorem d_Mod_drop_25 : decode b_Mod_drop 25 = .ok (.getfield 51, 3) := by decide +kernel
theorem d_Mod_drop_28 : decode b_Mod_drop 28 = .ok (.iload_n 1, 1) := by decide +kernel
theorem d_Mod_drop_29 : decode b_Mod_drop 29 = .ok (.iconst 0, 1) := by decide +kernel
theorem d_Mod_drop_30 : decode b_Mod_drop 30 = .ok (.bastore, 1) := by decide +kernel
theorem d_Mod_drop_31 : decode b_Mod_drop 31 = .ok (.aload_n 0, 1) := by decide +kernel
theorem d_Mod_drop_32 : decode b_Mod_drop 32 = .ok (.invokevirtual 93, 3) := by decide +kernel
theorem d_Mod_drop_35 : decode b_Mod_drop 35 = .ok (.pop, 1) := by decide +kernel
theorem d_Mod_drop_36 : decode b_Mod_drop 36 = .ok (.iconst 1, 1) := by decide +kernel
theorem d_Mod_drop_37 : decode b_Mod_drop 37 = .ok (.ireturn, 1) := by decide +kernel
theorem d_Mod_version_0 : decode b_Mod_version 0 = .ok (.aload_n 0, 1) := by decide +kernel
theorem d_Mod_version_1 : decode b_Mod_version 1 = .ok (.iconst 0, 1) := by decide +kernel
theorem d_Mod_version_2 : decode b_Mod_version 2 = .ok (.putfield 75, 3) := by decide +kernel
theorem d_Mod_version_5 : decode b_Mod_version 5 = .ok (.aload_n 0, 1) := by decide +kernel
theorem d_Mod_version_6 : decode b_Mod_version 6 = .ok (.getfield 86, 3) := by decide +kernel
theorem d_Mod_version_9 : decode b_Mod_version 9 = .ok (.ireturn, 1) := by decide +kernel
