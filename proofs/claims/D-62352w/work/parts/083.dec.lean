theorem d_TC_firstOf_0 : decode prog_1_method_1_code 0 = .ok (.iconst 0, 1) := by decide +kernel
theorem d_TC_firstOf_1 : decode prog_1_method_1_code 1 = .ok (.istore_n 2, 1) := by decide +kernel
theorem d_TC_firstOf_2 : decode prog_1_method_1_code 2 = .ok (.aload_n 0, 1) := by decide +kernel
theorem d_TC_firstOf_3 : decode prog_1_method_1_code 3 = .ok (.invokeinterface 1 1, 5) := by decide +kernel
theorem d_TC_firstOf_8 : decode prog_1_method_1_code 8 = .ok (.istore_n 3, 1) := by decide +kernel
theorem d_TC_firstOf_9 : decode prog_1_method_1_code 9 = .ok (.iload_n 2, 1) := by decide +kernel
theorem d_TC_firstOf_10 : decode prog_1_method_1_code 10 = .ok (.iload_n 3, 1) := by decide +kernel
theorem d_TC_firstOf_11 : decode prog_1_method_1_code 11 = .ok (.if_icmp .ge 39, 3) := by decide +kernel
theorem d_TC_firstOf_14 : decode prog_1_method_1_code 14 = .ok (.iload_n 2, 1) := by decide +kernel
theorem d_TC_firstOf_15 : decode prog_1_method_1_code 15 = .ok (.iload_n 3, 1) := by decide +kernel
theorem d_TC_firstOf_16 : decode prog_1_method_1_code 16 = .ok (.iadd, 1) := by decide +kernel
theorem d_TC_firstOf_17 : decode prog_1_method_1_code 17 = .ok (.iconst 2, 1) := by decide +kernel
theorem d_TC_firstOf_18 : decode prog_1_method_1_code 18 = .ok (.idiv, 1) := by decide +kernel
theorem d_TC_firstOf_19 : decode prog_1_method_1_code 19 = .ok (.istore 4, 2) := by decide +kernel
theorem d_TC_firstOf_21 : decode prog_1_method_1_code 21 = .ok (.aload_n 0, 1) := by decide +kernel
theorem d_TC_firstOf_22 : decode prog_1_method_1_code 22 = .ok (.iload 4, 2) := by decide +kernel
theorem d_TC_firstOf_24 : decode prog_1_method_1_code 24 = .ok (.invokeinterface 7 2, 5) := by decide +kernel
theorem d_TC_firstOf_29 : decode prog_1_method_1_code 29 = .ok (.getfield 11, 3) := by decide +kernel
theorem d_TC_firstOf_32 : decode prog_1_method_1_code 32 = .ok (.iload_n 1, 1) := by decide +kernel
theorem d_TC_firstOf_33 : decode prog_1_method_1_code 33 = .ok (.if_icmp .ge 11, 3) := by decide +kernel
theorem d_TC_firstOf_36 : decode prog_1_method_1_code 36 = .ok (.iload 4, 2) := by decide +kernel
theorem d_TC_firstOf_38 : decode prog_1_method_1_code 38 = .ok (.iconst 1, 1) := by decide +kernel
theorem d_TC_firstOf_39 : decode prog_1_method_1_code 39 = .ok (.iadd, 1) := by decide +kernel
theorem d_TC_firstOf_40 : decode prog_1_method_1_code 40 = .ok (.istore_n 2, 1) := by decide +kernel
theorem d_TC_firstOf_41 : decode prog_1_method_1_code 41 = .ok (.goto 6, 3) := by decide +kernel
theorem d_TC_firstOf_44 : decode prog_1_method_1_code 44 = .ok (.iload 4, 2) := by decide +kernel
theorem d_TC_firstOf_46 : decode prog_1_method_1_code 46 = .ok (.istore_n 3, 1) := by decide +kernel
theorem d_TC_firstOf_47 : decode prog_1_method_1_code 47 = .ok (.goto (-38), 3) := by decide +kernel
theorem d_TC_firstOf_50 : decode prog_1_method_1_code 50 = .ok (.iload_n 2, 1) := by decide +kernel
theorem d_TC_firstOf_51 : decode prog_1_method_1_code 51 = .ok (.ireturn, 1) := by decide +kernel
theorem d_TC_init_0 : decode prog_1_method_2_code 0 = .ok (.aload_n 0, 1) := by decide +kernel
theorem d_TC_init_1 : decode prog_1_method_2_code 1 = .ok (.invokespecial 17, 3) := by decide +kernel
theorem d_TC_init_4 : decode prog_1_method_2_code 4 = .ok (.aload_n 0, 1) := by decide +kernel
theorem d_TC_init_5 : decode prog_1_method_2_code 5 = .ok (.iconst 2, 1) := by decide +kernel
theorem d_TC_init_6 : decode prog_1_method_2_code 6 = .ok (.newarray .int, 2) := by decide +kernel
theorem d_TC_init_8 : decode prog_1_method_2_code 8 = .ok (.putfield 23, 3) := by decide +kernel
theorem d_TC_init_11 : decode prog_1_method_2_code 11 = .ok (.aload_n 0, 1) := by decide +kernel
theorem d_TC_init_12 : decode prog_1_method_2_code 12 = .ok (.iconst 2, 1) := by decide +kernel
theorem d_TC_init_13 : decode prog_1_method_2_code 13 = .ok (.newarray .int, 2) := by decide +kernel
theorem d_TC_init_15 : decode prog_1_method_2_code 15 = .ok (.putfield 29, 3) := by decide +kernel
theorem d_TC_init_18 : decode prog_1_method_2_code 18 = .ok (.aload_n 0, 1) := by decide +kernel
theorem d_TC_init_19 : decode prog_1_method_2_code 19 = .ok (.new 32, 3) := by decide +kernel
theorem d_TC_init_22 : decode prog_1_method_2_code 22 = .ok (.dup, 1) := by decide +kernel
theorem d_TC_init_23 : decode prog_1_method_2_code 23 = .ok (.invokespecial 34, 3) := by decide +kernel
theorem d_TC_init_26 : decode prog_1_method_2_code 26 = .ok (.putfield 35, 3) := by decide +kernel
theorem d_TC_init_29 : decode prog_1_method_2_code 29 = .ok (.aload_n 0, 1) := by decide +kernel
theorem d_TC_init_30 : decode prog_1_method_2_code 30 = .ok (.new 32, 3) := by decide +kernel
theorem d_TC_init_33 : decode prog_1_method_2_code 33 = .ok (.dup, 1) := by decide +kernel
theorem d_TC_init_34 : decode prog_1_method_2_code 34 = .ok (.iconst 4, 1) := by decide +kernel
theorem d_TC_init_35 : decode prog_1_method_2_code 35 = .ok (.invokespecial 39, 3) := by decide +kernel
theorem d_TC_init_38 : decode prog_1_method_2_code 38 = .ok (.putfield 42, 3) := by decide +kernel
theorem d_TC_init_41 : decode prog_1_method_2_code 41 = .ok (.aload_n 0, 1) := by decide +kernel
theorem d_TC_init_42 : decode prog_1_method_2_code 42 = .ok (.new 45, 3) := by decide +kernel
theorem d_TC_init_45 : decode prog_1_method_2_code 45 = .ok (.dup, 1) := by decide +kernel
theorem d_TC_init_46 : decode prog_1_method_2_code 46 = .ok (.invokespecial 47, 3) := by decide +kernel
theorem d_TC_init_49 : decode prog_1_method_2_code 49 = .ok (.putfield 48, 3) := by decide +kernel
theorem d_TC_init_52 : decode prog_1_method_2_code 52 = .ok (.aload_n 0, 1) := by decide +kernel
theorem d_TC_init_53 : decode prog_1_method_2_code 53 = .ok (.new 32, 3) := by decide +kernel
theorem d_TC_init_56 : decode prog_1_method_2_code 56 = .ok (.dup, 1) := by decide +kernel
theorem d_TC_init_57 : decode prog_1_method_2_code 57 = .ok (.invokespecial 34, 3) := by decide +kernel
theorem d_TC_init_60 : decode prog_1_method_2_code 60 = .ok (.putfield 52, 3) := by decide +kernel
theorem d_TC_init_63 : decode prog_1_method_2_code 63 = .ok (.aload_n 0, 1) := by decide +kernel
theorem d_TC_init_64 : decode prog_1_method_2_code 64 = .ok (.new 32, 3) := by decide +kernel
theorem d_TC_init_67 : decode prog_1_method_2_code 67 = .ok (.dup, 1) := by decide +kernel
theorem d_TC_init_68 : decode prog_1_method_2_code 68 = .ok (.invokespecial 34, 3) := by decide +kernel
theorem d_TC_init_71 : decode prog_1_method_2_code 71 = .ok (.putfield 55, 3) := by decide +kernel
theorem d_TC_init_74 : decode prog_1_method_2_code 74 = .ok (.aload_n 0, 1) := by decide +kernel
theorem d_TC_init_75 : decode prog_1_method_2_code 75 = .ok (.sipush 513, 3) := by decide +kernel
theorem d_TC_init_78 : decode prog_1_method_2_code 78 = .ok (.newarray .int, 2) := by decide +kernel
theorem d_TC_init_80 : decode prog_1_method_2_code 80 = .ok (.putfield 58, 3) := by decide +kernel
theorem d_TC_init_83 : decode prog_1_method_2_code 83 = .ok (.aload_n 0, 1) := by decide +kernel
theorem d_TC_init_84 : decode prog_1_method_2_code 84 = .ok (.getfield 23, 3) := by decide +kernel
theorem d_TC_init_87 : decode prog_1_method_2_code 87 = .ok (.iconst 0, 1) := by decide +kernel
theorem d_TC_init_88 : decode prog_1_method_2_code 88 = .ok (.iconst 0, 1) := by decide +kernel
theorem d_TC_init_89 : decode prog_1_method_2_code 89 = .ok (.iconst 5, 1) := by decide +kernel
theorem d_TC_init_90 : decode prog_1_method_2_code 90 = .ok (.iload_n 1, 1) := by decide +kernel
theorem d_TC_init_91 : decode prog_1_method_2_code 91 = .ok (.invokestatic 61, 3) := by decide +kernel
theorem d_TC_init_94 : decode prog_1_method_2_code 94 = .ok (.invokestatic 67, 3) := by decide +kernel
theorem d_TC_init_97 : decode prog_1_method_2_code 97 = .ok (.iastore, 1) := by decide +kernel
theorem d_TC_init_98 : decode prog_1_method_2_code 98 = .ok (.aload_n 0, 1) := by decide +kernel
theorem d_TC_init_99 : decode prog_1_method_2_code 99 = .ok (.getfield 23, 3) := by decide +kernel
theorem d_TC_init_102 : decode prog_1_method_2_code 102 = .ok (.iconst 1, 1) := by decide +kernel
theorem d_TC_init_103 : decode prog_1_method_2_code 103 = .ok (.iconst 0, 1) := by decide +kernel
theorem d_TC_init_104 : decode prog_1_method_2_code 104 = .ok (.iconst 5, 1) := by decide +kernel
theorem d_TC_init_105 : decode prog_1_method_2_code 105 = .ok (.iload_n 3, 1) := by decide +kernel
theorem d_TC_init_106 : decode prog_1_method_2_code 106 = .ok (.invokestatic 61, 3) := by decide +kernel
theorem d_TC_init_109 : decode prog_1_method_2_code 109 = .ok (.invokestatic 67, 3) := by decide +kernel
theorem d_TC_init_112 : decode prog_1_method_2_code 112 = .ok (.iastore, 1) := by decide +kernel
theorem d_TC_init_113 : decode prog_1_method_2_code 113 = .ok (.aload_n 0, 1) := by decide +kernel
theorem d_TC_init_114 : decode prog_1_method_2_code 114 = .ok (.getfield 29, 3) := by decide +kernel
theorem d_TC_init_117 : decode prog_1_method_2_code 117 = .ok (.iconst 0, 1) := by decide +kernel
theorem d_TC_init_118 : decode prog_1_method_2_code 118 = .ok (.iconst 0, 1) := by decide +kernel
theorem d_TC_init_119 : decode prog_1_method_2_code 119 = .ok (.sipush 9999, 3) := by decide +kernel
theorem d_TC_init_122 : decode prog_1_method_2_code 122 = .ok (.iload_n 2, 1) := by decide +kernel
theorem d_TC_init_123 : decode prog_1_method_2_code 123 = .ok (.invokestatic 61, 3) := by decide +kernel
theorem d_TC_init_126 : decode prog_1_method_2_code 126 = .ok (.invokestatic 67, 3) := by decide +kernel
theorem d_TC_init_129 : decode prog_1_method_2_code 129 = .ok (.iastore, 1) := by decide +kernel
theorem d_TC_init_130 : decode prog_1_method_2_code 130 = .ok (.aload_n 0, 1) := by decide +kernel
theorem d_TC_init_131 : decode prog_1_method_2_code 131 = .ok (.getfield 29, 3) := by decide +kernel
theorem d_TC_init_134 : decode prog_1_method_2_code 134 = .ok (.iconst 1, 1) := by decide +kernel
theorem d_TC_init_135 : decode prog_1_method_2_code 135 = .ok (.iconst 0, 1) := by decide +kernel
theorem d_TC_init_136 : decode prog_1_method_2_code 136 = .ok (.sipush 9999, 3) := by decide +kernel
theorem d_TC_init_139 : decode prog_1_method_2_code 139 = .ok (.iload 4, 2) := by decide +kernel
theorem d_TC_init_141 : decode prog_1_method_2_code 141 = .ok (.invokestatic 61, 3) := by decide +kernel
theorem d_TC_init_144 : decode prog_1_method_2_code 144 = .ok (.invokestatic 67, 3) := by decide +kernel
theorem d_TC_init_147 : decode prog_1_method_2_code 147 = .ok (.iastore, 1) := by decide +kernel
theorem d_TC_init_148 : decode prog_1_method_2_code 148 = .ok (.aload_n 0, 1) := by decide +kernel
theorem d_TC_init_149 : decode prog_1_method_2_code 149 = .ok (.getfield 35, 3) := by decide +kernel
theorem d_TC_init_152 : decode prog_1_method_2_code 152 = .ok (.new 70, 3) := by decide +kernel
theorem d_TC_init_155 : decode prog_1_method_2_code 155 = .ok (.dup, 1) := by decide +kernel
theorem d_TC_init_156 : decode prog_1_method_2_code 156 = .ok (.iconst 0, 1) := by decide +kernel
theorem d_TC_init_157 : decode prog_1_method_2_code 157 = .ok (.bipush 63, 2) := by decide +kernel
theorem d_TC_init_159 : decode prog_1_method_2_code 159 = .ok (.invokespecial 72, 3) := by decide +kernel
theorem d_TC_init_162 : decode prog_1_method_2_code 162 = .ok (.invokevirtual 75, 3) := by decide +kernel
theorem d_TC_init_165 : decode prog_1_method_2_code 165 = .ok (.pop, 1) := by decide +kernel
theorem d_TC_init_166 : decode prog_1_method_2_code 166 = .ok (.return_, 1) := by decide +kernel
theorem d_TC_isRow_0 : decode prog_1_method_3_code 0 = .ok (.iload_n 0, 1) := by decide +kernel
theorem d_TC_isRow_1 : decode prog_1_method_3_code 1 = .ok (.ifCond .lt 13, 3) := by decide +kernel
theorem d_TC_isRow_4 : decode prog_1_method_3_code 4 = .ok (.iload_n 0, 1) := by decide +kernel
theorem d_TC_isRow_5 : decode prog_1_method_3_code 5 = .ok (.bipush 64, 2) := by decide +kernel
theorem d_TC_isRow_7 : decode prog_1_method_3_code 7 = .ok (.if_icmp .ge 7, 3) := by decide +kernel
theorem d_TC_isRow_10 : decode prog_1_method_3_code 10 = .ok (.iconst 1, 1) := by decide +kernel
theorem d_TC_isRow_11 : decode prog_1_method_3_code 11 = .ok (.goto 4, 3) := by decide +kernel
theorem d_TC_isRow_14 : decode prog_1_method_3_code 14 = .ok (.iconst 0, 1) := by decide +kernel
theorem d_TC_isRow_15 : decode prog_1_method_3_code 15 = .ok (.ireturn, 1) := by decide +kernel
theorem d_TC_isColumn_0 : decode prog_1_method_4_code 0 = .ok (.iload_n 0, 1) := by decide +kernel
theorem d_TC_isColumn_1 : decode prog_1_method_4_code 1 = .ok (.ifCond .lt 13, 3) := by decide +kernel
theorem d_TC_isColumn_4 : decode prog_1_method_4_code 4 = .ok (.iload_n 0, 1) := by decide +kernel
theorem d_TC_isColumn_5 : decode prog_1_method_4_code 5 = .ok (.bipush 8, 2) := by decide +kernel
theorem d_TC_isColumn_7 : decode prog_1_method_4_code 7 = .ok (.if_icmp .ge 7, 3) := by decide +kernel
theorem d_TC_isColumn_10 : decode prog_1_method_4_code 10 = .ok (.iconst 1, 1) := by decide +kernel
theorem d_TC_isColumn_11 : decode prog_1_method_4_code 11 = .ok (.goto 4, 3) := by decide +kernel
theorem d_TC_isColumn_14 : decode prog_1_method_4_code 14 = .ok (.iconst 0, 1) := by decide +kernel
theorem d_TC_isColumn_15 : decode prog_1_method_4_code 15 = .ok (.ireturn, 1) := by decide +kernel
theorem d_TC_tabletAt_0 : decode prog_1_method_5_code 0 = .ok (.iload_n 1, 1) := by decide +kernel
theorem d_TC_tabletAt_1 : decode prog_1_method_5_code 1 = .ok (.ifCond .lt 14, 3) := by decide +kernel
theorem d_TC_tabletAt_4 : decode prog_1_method_5_code 4 = .ok (.iload_n 1, 1) := by decide +kernel
theorem d_TC_tabletAt_5 : decode prog_1_method_5_code 5 = .ok (.aload_n 0, 1) := by decide +kernel
theorem d_TC_tabletAt_6 : decode prog_1_method_5_code 6 = .ok (.getfield 35, 3) := by decide +kernel
theorem d_TC_tabletAt_9 : decode prog_1_method_5_code 9 = .ok (.invokevirtual 79, 3) := by decide +kernel
theorem d_TC_tabletAt_12 : decode prog_1_method_5_code 12 = .ok (.if_icmp .lt 7, 3) := by decide +kernel
theorem d_TC_tabletAt_15 : decode prog_1_method_5_code 15 = .ok (.aconst_null, 1) := by decide +kernel
theorem d_TC_tabletAt_16 : decode prog_1_method_5_code 16 = .ok (.goto 14, 3) := by decide +kernel
theorem d_TC_tabletAt_19 : decode prog_1_method_5_code 19 = .ok (.aload_n 0, 1) := by decide +kernel
theorem d_TC_tabletAt_20 : decode prog_1_method_5_code 20 = .ok (.getfield 35, 3) := by decide +kernel
theorem d_TC_tabletAt_23 : decode prog_1_method_5_code 23 = .ok (.iload_n 1, 1) := by decide +kernel
theorem d_TC_tabletAt_24 : decode prog_1_method_5_code 24 = .ok (.invokevirtual 80, 3) := by decide +kernel
theorem d_TC_tabletAt_27 : decode prog_1_method_5_code 27 = .ok (.checkcast 70, 3) := by decide +kernel
theorem d_TC_tabletAt_30 : decode prog_1_method_5_code 30 = .ok (.areturn, 1) := by decide +kernel
theorem d_TC_tabletOf_0 : decode prog_1_method_6_code 0 = .ok (.iconst 0, 1) := by decide +kernel
theorem d_TC_tabletOf_1 : decode prog_1_method_6_code 1 = .ok (.istore_n 2, 1) := by decide +kernel
theorem d_TC_tabletOf_2 : decode prog_1_method_6_code 2 = .ok (.iload_n 2, 1) := by decide +kernel
theorem d_TC_tabletOf_3 : decode prog_1_method_6_code 3 = .ok (.aload_n 0, 1) := by decide +kernel
theorem d_TC_tabletOf_4 : decode prog_1_method_6_code 4 = .ok (.getfield 35, 3) := by decide +kernel
theorem d_TC_tabletOf_7 : decode prog_1_method_6_code 7 = .ok (.invokevirtual 79, 3) := by decide +kernel
theorem d_TC_tabletOf_10 : decode prog_1_method_6_code 10 = .ok (.iconst 1, 1) := by decide +kernel
theorem d_TC_tabletOf_11 : decode prog_1_method_6_code 11 = .ok (.isub, 1) := by decide +kernel
theorem d_TC_tabletOf_12 : decode prog_1_method_6_code 12 = .ok (.if_icmp .ge 27, 3) := by decide +kernel
theorem d_TC_tabletOf_15 : decode prog_1_method_6_code 15 = .ok (.aload_n 0, 1) := by decide +kernel
theorem d_TC_tabletOf_16 : decode prog_1_method_6_code 16 = .ok (.getfield 35, 3) := by decide +kernel
theorem d_TC_tabletOf_19 : decode prog_1_method_6_code 19 = .ok (.iload_n 2, 1) := by decide +kernel
theorem d_TC_tabletOf_20 : decode prog_1_method_6_code 20 = .ok (.invokevirtual 80, 3) := by decide +kernel
theorem d_TC_tabletOf_23 : decode prog_1_method_6_code 23 = .ok (.checkcast 70, 3) := by decide +kernel
theorem d_TC_tabletOf_26 : decode prog_1_method_6_code 26 = .ok (.getfield 84, 3) := by decide +kernel
theorem d_TC_tabletOf_29 : decode prog_1_method_6_code 29 = .ok (.iload_n 1, 1) := by decide +kernel
theorem d_TC_tabletOf_30 : decode prog_1_method_6_code 30 = .ok (.if_icmp .ge 9, 3) := by decide +kernel
theorem d_TC_tabletOf_33 : decode prog_1_method_6_code 33 = .ok (.iinc 2 1, 3) := by decide +kernel
theorem d_TC_tabletOf_36 : decode prog_1_method_6_code 36 = .ok (.goto (-34), 3) := by decide +kernel
theorem d_TC_tabletOf_39 : decode prog_1_method_6_code 39 = .ok (.aload_n 0, 1) := by decide +kernel
theorem d_TC_tabletOf_40 : decode prog_1_method_6_code 40 = .ok (.getfield 35, 3) := by decide +kernel
theorem d_TC_tabletOf_43 : decode prog_1_method_6_code 43 = .ok (.iload_n 2, 1) := by decide +kernel
theorem d_TC_tabletOf_44 : decode prog_1_method_6_code 44 = .ok (.invokevirtual 80, 3) := by decide +kernel
theorem d_TC_tabletOf_47 : decode prog_1_method_6_code 47 = .ok (.checkcast 70, 3) := by decide +kernel
theorem d_TC_tabletOf_50 : decode prog_1_method_6_code 50 = .ok (.areturn, 1) := by decide +kernel
theorem d_TC_young_0 : decode prog_1_method_7_code 0 = .ok (.aload_n 0, 1) := by decide +kernel
theorem d_TC_young_1 : decode prog_1_method_7_code 1 = .ok (.getfield 29, 3) := by decide +kernel
theorem d_TC_young_4 : decode prog_1_method_7_code 4 = .ok (.aload_n 1, 1) := by decide +kernel
theorem d_TC_young_5 : decode prog_1_method_7_code 5 = .ok (.getfield 87, 3) := by decide +kernel
theorem d_TC_young_8 : decode prog_1_method_7_code 8 = .ok (.iconst (-1), 1) := by decide +kernel
theorem d_TC_young_9 : decode prog_1_method_7_code 9 = .ok (.if_icmp .ne 7, 3) := by decide +kernel
theorem d_TC_young_12 : decode prog_1_method_7_code 12 = .ok (.iconst 0, 1) := by decide +kernel
theorem d_TC_young_13 : decode prog_1_method_7_code 13 = .ok (.goto 9, 3) := by decide +kernel
theorem d_TC_young_16 : decode prog_1_method_7_code 16 = .ok (.aload_n 1, 1) := by decide +kernel
theorem d_TC_young_17 : decode prog_1_method_7_code 17 = .ok (.getfield 87, 3) := by decide +kernel
theorem d_TC_young_20 : decode prog_1_method_7_code 20 = .ok (.iconst 4, 1) := by decide +kernel
theorem d_TC_young_21 : decode prog_1_method_7_code 21 = .ok (.idiv, 1) := by decide +kernel
theorem d_TC_young_22 : decode prog_1_method_7_code 22 = .ok (.iaload, 1) := by decide +kernel
theorem d_TC_young_23 : decode prog_1_method_7_code 23 = .ok (.istore_n 2, 1) := by decide +kernel
theorem d_TC_young_24 : decode prog_1_method_7_code 24 = .ok (.aload_n 1, 1) := by decide +kernel
theorem d_TC_young_25 : decode prog_1_method_7_code 25 = .ok (.getfield 90, 3) := by decide +kernel
theorem d_TC_young_28 : decode prog_1_method_7_code 28 = .ok (.ifCond .eq 24, 3) := by decide +kernel
theorem d_TC_young_31 : decode prog_1_method_7_code 31 = .ok (.iload_n 2, 1) := by decide +kernel
theorem d_TC_young_32 : decode prog_1_method_7_code 32 = .ok (.ifCond .eq 16, 3) := by decide +kernel
theorem d_TC_young_35 : decode prog_1_method_7_code 35 = .ok (.aload_n 1, 1) := by decide +kernel
theorem d_TC_young_36 : decode prog_1_method_7_code 36 = .ok (.getfield 94, 3) := by decide +kernel
theorem d_TC_young_39 : decode prog_1_method_7_code 39 = .ok (.iload_n 2, 1) := by decide +kernel
theorem d_TC_young_40 : decode prog_1_method_7_code 40 = .ok (.iadd, 1) := by decide +kernel
theorem d_TC_young_41 : decode prog_1_method_7_code 41 = .ok (.aload_n 0, 1) := by decide +kernel
theorem d_TC_young_42 : decode prog_1_method_7_code 42 = .ok (.getfield 97, 3) := by decide +kernel
theorem d_TC_young_45 : decode prog_1_method_7_code 45 = .ok (.if_icmp .le 7, 3) := by decide +kernel
theorem d_TC_young_48 : decode prog_1_method_7_code 48 = .ok (.iconst 1, 1) := by decide +kernel
theorem d_TC_young_49 : decode prog_1_method_7_code 49 = .ok (.goto 4, 3) := by decide +kernel
theorem d_TC_young_52 : decode prog_1_method_7_code 52 = .ok (.iconst 0, 1) := by decide +kernel
theorem d_TC_young_53 : decode prog_1_method_7_code 53 = .ok (.ireturn, 1) := by decide +kernel
theorem d_TC_standing_0 : decode prog_1_method_8_code 0 = .ok (.aload_n 0, 1) := by decide +kernel
theorem d_TC_standing_1 : decode prog_1_method_8_code 1 = .ok (.iload_n 1, 1) := by decide +kernel
theorem d_TC_standing_2 : decode prog_1_method_8_code 2 = .ok (.invokevirtual 100, 3) := by decide +kernel
theorem d_TC_standing_5 : decode prog_1_method_8_code 5 = .ok (.astore_n 2, 1) := by decide +kernel
theorem d_TC_standing_6 : decode prog_1_method_8_code 6 = .ok (.aload_n 0, 1) := by decide +kernel
theorem d_TC_standing_7 : decode prog_1_method_8_code 7 = .ok (.getfield 48, 3) := by decide +kernel
theorem d_TC_standing_10 : decode prog_1_method_8_code 10 = .ok (.invokevirtual 104, 3) := by decide +kernel
theorem d_TC_standing_13 : decode prog_1_method_8_code 13 = .ok (.aload_n 0, 1) := by decide +kernel
theorem d_TC_standing_14 : decode prog_1_method_8_code 14 = .ok (.getfield 48, 3) := by decide +kernel
theorem d_TC_standing_17 : decode prog_1_method_8_code 17 = .ok (.aload_n 2, 1) := by decide +kernel
theorem d_TC_standing_18 : decode prog_1_method_8_code 18 = .ok (.getfield 107, 3) := by decide +kernel
theorem d_TC_standing_21 : decode prog_1_method_8_code 21 = .ok (.invokevirtual 111, 3) := by decide +kernel
theorem d_TC_standing_24 : decode prog_1_method_8_code 24 = .ok (.iconst 0, 1) := by decide +kernel
theorem d_TC_standing_25 : decode prog_1_method_8_code 25 = .ok (.istore_n 3, 1) := by decide +kernel
theorem d_TC_standing_26 : decode prog_1_method_8_code 26 = .ok (.iload_n 3, 1) := by decide +kernel
theorem d_TC_standing_27 : decode prog_1_method_8_code 27 = .ok (.aload_n 2, 1) := by decide +kernel
theorem d_TC_standing_28 : decode prog_1_method_8_code 28 = .ok (.getfield 114, 3) := by decide +kernel
theorem d_TC_standing_31 : decode prog_1_method_8_code 31 = .ok (.invokevirtual 79, 3) := by decide +kernel
theorem d_TC_standing_34 : decode prog_1_method_8_code 34 = .ok (.if_icmp .ge 27, 3) := by decide +kernel
theorem d_TC_standing_37 : decode prog_1_method_8_code 37 = .ok (.aload_n 0, 1) := by decide +kernel
theorem d_TC_standing_38 : decode prog_1_method_8_code 38 = .ok (.getfield 48, 3) := by decide +kernel
theorem d_TC_standing_41 : decode prog_1_method_8_code 41 = .ok (.aload_n 2, 1) := by decide +kernel
theorem d_TC_standing_42 : decode prog_1_method_8_code 42 = .ok (.getfield 114, 3) := by decide +kernel
theorem d_TC_standing_45 : decode prog_1_method_8_code 45 = .ok (.iload_n 3, 1) := by decide +kernel
theorem d_TC_standing_46 : decode prog_1_method_8_code 46 = .ok (.invokevirtual 80, 3) := by decide +kernel
theorem d_TC_standing_49 : decode prog_1_method_8_code 49 = .ok (.checkcast 2, 3) := by decide +kernel
theorem d_TC_standing_52 : decode prog_1_method_8_code 52 = .ok (.invokevirtual 111, 3) := by decide +kernel
theorem d_TC_standing_55 : decode prog_1_method_8_code 55 = .ok (.iinc 3 1, 3) := by decide +kernel
theorem d_TC_standing_58 : decode prog_1_method_8_code 58 = .ok (.goto (-32), 3) := by decide +kernel
theorem d_TC_standing_61 : decode prog_1_method_8_code 61 = .ok (.aload_n 0, 1) := by decide +kernel
theorem d_TC_standing_62 : decode prog_1_method_8_code 62 = .ok (.getfield 48, 3) := by decide +kernel
theorem d_TC_standing_65 : decode prog_1_method_8_code 65 = .ok (.iload_n 1, 1) := by decide +kernel
theorem d_TC_standing_66 : decode prog_1_method_8_code 66 = .ok (.iload_n 1, 1) := by decide +kernel
theorem d_TC_standing_67 : decode prog_1_method_8_code 67 = .ok (.iconst 1, 1) := by decide +kernel
theorem d_TC_standing_68 : decode prog_1_method_8_code 68 = .ok (.iadd, 1) := by decide +kernel
theorem d_TC_standing_69 : decode prog_1_method_8_code 69 = .ok (.invokevirtual 117, 3) := by decide +kernel
theorem d_TC_standing_72 : decode prog_1_method_8_code 72 = .ok (.areturn, 1) := by decide +kernel
theorem d_TC_extend_0 : decode prog_1_method_9_code 0 = .ok (.aload_n 0, 1) := by decide +kernel
theorem d_TC_extend_1 : decode prog_1_method_9_code 1 = .ok (.getfield 42, 3) := by decide +kernel
theorem d_TC_extend_4 : decode prog_1_method_9_code 4 = .ok (.invokevirtual 79, 3) := by decide +kernel
theorem d_TC_extend_7 : decode prog_1_method_9_code 7 = .ok (.iconst 4, 1) := by decide +kernel
theorem d_TC_extend_8 : decode prog_1_method_9_code 8 = .ok (.if_icmp .ge 34, 3) := by decide +kernel
theorem d_TC_extend_11 : decode prog_1_method_9_code 11 = .ok (.aload_n 0, 1) := by decide +kernel
theorem d_TC_extend_12 : decode prog_1_method_9_code 12 = .ok (.getfield 42, 3) := by decide +kernel
theorem d_TC_extend_15 : decode prog_1_method_9_code 15 = .ok (.invokevirtual 121, 3) := by decide +kernel
theorem d_TC_extend_18 : decode prog_1_method_9_code 18 = .ok (.ifCond .ne 26, 3) := by decide +kernel
theorem d_TC_extend_21 : decode prog_1_method_9_code 21 = .ok (.aload_n 0, 1) := by decide +kernel
theorem d_TC_extend_22 : decode prog_1_method_9_code 22 = .ok (.getfield 42, 3) := by decide +kernel
theorem d_TC_extend_25 : decode prog_1_method_9_code 25 = .ok (.iconst 0, 1) := by decide +kernel
theorem d_TC_extend_26 : decode prog_1_method_9_code 26 = .ok (.invokevirtual 80, 3) := by decide +kernel
theorem d_TC_extend_29 : decode prog_1_method_9_code 29 = .ok (.checkcast 12, 3) := by decide +kernel
theorem d_TC_extend_32 : decode prog_1_method_9_code 32 = .ok (.getfield 11, 3) := by decide +kernel
theorem d_TC_extend_35 : decode prog_1_method_9_code 35 = .ok (.aload_n 1, 1) := by decide +kernel
theorem d_TC_extend_36 : decode prog_1_method_9_code 36 = .ok (.getfield 11, 3) := by decide +kernel
theorem d_TC_extend_39 : decode prog_1_method_9_code 39 = .ok (.if_icmp .eq 5, 3) := by decide +kernel
theorem d_TC_extend_42 : decode prog_1_method_9_code 42 = .ok (.iconst 0, 1) := by decide +kernel
theorem d_TC_extend_43 : decode prog_1_method_9_code 43 = .ok (.ireturn, 1) := by decide +kernel
theorem d_TC_extend_44 : decode prog_1_method_9_code 44 = .ok (.aload_n 0, 1) := by decide +kernel
theorem d_TC_extend_45 : decode prog_1_method_9_code 45 = .ok (.getfield 42, 3) := by decide +kernel
theorem d_TC_extend_48 : decode prog_1_method_9_code 48 = .ok (.aload_n 1, 1) := by decide +kernel
theorem d_TC_extend_49 : decode prog_1_method_9_code 49 = .ok (.invokevirtual 75, 3) := by decide +kernel
theorem d_TC_extend_52 : decode prog_1_method_9_code 52 = .ok (.pop, 1) := by decide +kernel
theorem d_TC_extend_53 : decode prog_1_method_9_code 53 = .ok (.iconst 1, 1) := by decide +kernel
theorem d_TC_extend_54 : decode prog_1_method_9_code 54 = .ok (.ireturn, 1) := by decide +kernel
theorem d_TC_put_0 : decode prog_1_method_10_code 0 = .ok (.iload_n 1, 1) := by decide +kernel
theorem d_TC_put_1 : decode prog_1_method_10_code 1 = .ok (.invokestatic 125, 3) := by decide +kernel
theorem d_TC_put_4 : decode prog_1_method_10_code 4 = .ok (.ifCond .eq 45, 3) := by decide +kernel
theorem d_TC_put_7 : decode prog_1_method_10_code 7 = .ok (.iload_n 2, 1) := by decide +kernel
theorem d_TC_put_8 : decode prog_1_method_10_code 8 = .ok (.invokestatic 129, 3) := by decide +kernel
theorem d_TC_put_11 : decode prog_1_method_10_code 11 = .ok (.ifCond .eq 38, 3) := by decide +kernel
theorem d_TC_put_14 : decode prog_1_method_10_code 14 = .ok (.iload_n 3, 1) := by decide +kernel
theorem d_TC_put_15 : decode prog_1_method_10_code 15 = .ok (.ifCond .lt 34, 3) := by decide +kernel
theorem d_TC_put_18 : decode prog_1_method_10_code 18 = .ok (.iload_n 3, 1) := by decide +kernel
theorem d_TC_put_19 : decode prog_1_method_10_code 19 = .ok (.sipush 10000, 3) := by decide +kernel
theorem d_TC_put_22 : decode prog_1_method_10_code 22 = .ok (.if_icmp .ge 27, 3) := by decide +kernel
theorem d_TC_put_25 : decode prog_1_method_10_code 25 = .ok (.aload_n 0, 1) := by decide +kernel
theorem d_TC_put_26 : decode prog_1_method_10_code 26 = .ok (.new 12, 3) := by decide +kernel
theorem d_TC_put_29 : decode prog_1_method_10_code 29 = .ok (.dup, 1) := by decide +kernel
theorem d_TC_put_30 : decode prog_1_method_10_code 30 = .ok (.iload_n 1, 1) := by decide +kernel
theorem d_TC_put_31 : decode prog_1_method_10_code 31 = .ok (.iload_n 2, 1) := by decide +kernel
theorem d_TC_put_32 : decode prog_1_method_10_code 32 = .ok (.iload_n 3, 1) := by decide +kernel
theorem d_TC_put_33 : decode prog_1_method_10_code 33 = .ok (.iconst 1, 1) := by decide +kernel
theorem d_TC_put_34 : decode prog_1_method_10_code 34 = .ok (.iload 4, 2) := by decide +kernel
theorem d_TC_put_36 : decode prog_1_method_10_code 36 = .ok (.invokespecial 132, 3) := by decide +kernel
theorem d_TC_put_39 : decode prog_1_method_10_code 39 = .ok (.invokevirtual 135, 3) := by decide +kernel
theorem d_TC_put_42 : decode prog_1_method_10_code 42 = .ok (.ifCond .eq 7, 3) := by decide +kernel
theorem d_TC_put_45 : decode prog_1_method_10_code 45 = .ok (.iconst 1, 1) := by decide +kernel
theorem d_TC_put_46 : decode prog_1_method_10_code 46 = .ok (.goto 4, 3) := by decide +kernel
theorem d_TC_put_49 : decode prog_1_method_10_code 49 = .ok (.iconst 0, 1) := by decide +kernel
theorem d_TC_put_50 : decode prog_1_method_10_code 50 = .ok (.ireturn, 1) := by decide +kernel
theorem d_TC_erase_0 : decode prog_1_method_11_code 0 = .ok (.iload_n 1, 1) := by decide +kernel
theorem d_TC_erase_1 : decode prog_1_method_11_code 1 = .ok (.invokestatic 125, 3) := by decide +kernel
theorem d_TC_erase_4 : decode prog_1_method_11_code 4 = .ok (.ifCond .eq 39, 3) := by decide +kernel
theorem d_TC_erase_7 : decode prog_1_method_11_code 7 = .ok (.iload_n 2, 1) := by decide +kernel
theorem d_TC_erase_8 : decode prog_1_method_11_code 8 = .ok (.iconst (-1), 1) := by decide +kernel
theorem d_TC_erase_9 : decode prog_1_method_11_code 9 = .ok (.if_icmp .ne 11, 3) := by decide +kernel
theorem d_TC_erase_12 : decode prog_1_method_11_code 12 = .ok (.iload_n 3, 1) := by decide +kernel
theorem d_TC_erase_13 : decode prog_1_method_11_code 13 = .ok (.iconst (-1), 1) := by decide +kernel
theorem d_TC_erase_14 : decode prog_1_method_11_code 14 = .ok (.if_icmp .ne 29, 3) := by decide +kernel
theorem d_TC_erase_17 : decode prog_1_method_11_code 17 = .ok (.goto 22, 3) := by decide +kernel
theorem d_TC_erase_20 : decode prog_1_method_11_code 20 = .ok (.iload_n 2, 1) := by decide +kernel
theorem d_TC_erase_21 : decode prog_1_method_11_code 21 = .ok (.invokestatic 129, 3) := by decide +kernel
theorem d_TC_erase_24 : decode prog_1_method_11_code 24 = .ok (.ifCond .eq 19, 3) := by decide +kernel
theorem d_TC_erase_27 : decode prog_1_method_11_code 27 = .ok (.iload_n 3, 1) := by decide +kernel
theorem d_TC_erase_28 : decode prog_1_method_11_code 28 = .ok (.iconst (-1), 1) := by decide +kernel
theorem d_TC_erase_29 : decode prog_1_method_11_code 29 = .ok (.if_icmp .lt 14, 3) := by decide +kernel
theorem d_TC_erase_32 : decode prog_1_method_11_code 32 = .ok (.iload_n 3, 1) := by decide +kernel
theorem d_TC_erase_33 : decode prog_1_method_11_code 33 = .ok (.sipush 10000, 3) := by decide +kernel
theorem d_TC_erase_36 : decode prog_1_method_11_code 36 = .ok (.if_icmp .ge 7, 3) := by decide +kernel
theorem d_TC_erase_39 : decode prog_1_method_11_code 39 = .ok (.iconst 1, 1) := by decide +kernel
theorem d_TC_erase_40 : decode prog_1_method_11_code 40 = .ok (.goto 4, 3) := by decide +kernel
theorem d_TC_erase_43 : decode prog_1_method_11_code 43 = .ok (.iconst 0, 1) := by decide +kernel
theorem d_TC_erase_44 : decode prog_1_method_11_code 44 = .ok (.istore 4, 2) := by decide +kernel
theorem d_TC_erase_46 : decode prog_1_method_11_code 46 = .ok (.iload 4, 2) := by decide +kernel
theorem d_TC_erase_48 : decode prog_1_method_11_code 48 = .ok (.ifCond .eq 26, 3) := by decide +kernel
theorem d_TC_erase_51 : decode prog_1_method_11_code 51 = .ok (.aload_n 0, 1) := by decide +kernel
theorem d_TC_erase_52 : decode prog_1_method_11_code 52 = .ok (.new 12, 3) := by decide +kernel
theorem d_TC_erase_55 : decode prog_1_method_11_code 55 = .ok (.dup, 1) := by decide +kernel
theorem d_TC_erase_56 : decode prog_1_method_11_code 56 = .ok (.iload_n 1, 1) := by decide +kernel
theorem d_TC_erase_57 : decode prog_1_method_11_code 57 = .ok (.iload_n 2, 1) := by decide +kernel
theorem d_TC_erase_58 : decode prog_1_method_11_code 58 = .ok (.iload_n 3, 1) := by decide +kernel
theorem d_TC_erase_59 : decode prog_1_method_11_code 59 = .ok (.iconst 0, 1) := by decide +kernel
theorem d_TC_erase_60 : decode prog_1_method_11_code 60 = .ok (.iconst 0, 1) := by decide +kernel
theorem d_TC_erase_61 : decode prog_1_method_11_code 61 = .ok (.invokespecial 132, 3) := by decide +kernel
theorem d_TC_erase_64 : decode prog_1_method_11_code 64 = .ok (.invokevirtual 135, 3) := by decide +kernel
theorem d_TC_erase_67 : decode prog_1_method_11_code 67 = .ok (.ifCond .eq 7, 3) := by decide +kernel
theorem d_TC_erase_70 : decode prog_1_method_11_code 70 = .ok (.iconst 1, 1) := by decide +kernel
theorem d_TC_erase_71 : decode prog_1_method_11_code 71 = .ok (.goto 4, 3) := by decide +kernel
theorem d_TC_erase_74 : decode prog_1_method_11_code 74 = .ok (.iconst 0, 1) := by decide +kernel
theorem d_TC_erase_75 : decode prog_1_method_11_code 75 = .ok (.ireturn, 1) := by decide +kernel
theorem d_TC_expect_0 : decode prog_1_method_12_code 0 = .ok (.iload_n 1, 1) := by decide +kernel
theorem d_TC_expect_1 : decode prog_1_method_12_code 1 = .ok (.invokestatic 125, 3) := by decide +kernel
theorem d_TC_expect_4 : decode prog_1_method_12_code 4 = .ok (.ifCond .eq 10, 3) := by decide +kernel
theorem d_TC_expect_7 : decode prog_1_method_12_code 7 = .ok (.iload_n 2, 1) := by decide +kernel
theorem d_TC_expect_8 : decode prog_1_method_12_code 8 = .ok (.invokestatic 129, 3) := by decide +kernel
theorem d_TC_expect_11 : decode prog_1_method_12_code 11 = .ok (.ifCond .ne 5, 3) := by decide +kernel
theorem d_TC_expect_14 : decode prog_1_method_12_code 14 = .ok (.iconst 0, 1) := by decide +kernel
theorem d_TC_expect_15 : decode prog_1_method_12_code 15 = .ok (.ireturn, 1) := by decide +kernel
theorem d_TC_expect_16 : decode prog_1_method_12_code 16 = .ok (.aload_n 0, 1) := by decide +kernel
theorem d_TC_expect_17 : decode prog_1_method_12_code 17 = .ok (.iconst 1, 1) := by decide +kernel
theorem d_TC_expect_18 : decode prog_1_method_12_code 18 = .ok (.putfield 139, 3) := by decide +kernel
theorem d_TC_expect_21 : decode prog_1_method_12_code 21 = .ok (.aload_n 0, 1) := by decide +kernel
theorem d_TC_expect_22 : decode prog_1_method_12_code 22 = .ok (.iload_n 1, 1) := by decide +kernel
theorem d_TC_expect_23 : decode prog_1_method_12_code 23 = .ok (.putfield 142, 3) := by decide +kernel
theorem d_TC_expect_26 : decode prog_1_method_12_code 26 = .ok (.aload_n 0, 1) := by decide +kernel
theorem d_TC_expect_27 : decode prog_1_method_12_code 27 = .ok (.iload_n 2, 1) := by decide +kernel
theorem d_TC_expect_28 : decode prog_1_method_12_code 28 = .ok (.putfield 145, 3) := by decide +kernel
theorem d_TC_expect_31 : decode prog_1_method_12_code 31 = .ok (.aload_n 0, 1) := by decide +kernel
theorem d_TC_expect_32 : decode prog_1_method_12_code 32 = .ok (.iload_n 3, 1) := by decide +kernel
theorem d_TC_expect_33 : decode prog_1_method_12_code 33 = .ok (.putfield 148, 3) := by decide +kernel
theorem d_TC_expect_36 : decode prog_1_method_12_code 36 = .ok (.aload_n 0, 1) := by decide +kernel
theorem d_TC_expect_37 : decode prog_1_method_12_code 37 = .ok (.iload 4, 2) := by decide +kernel
theorem d_TC_expect_39 : decode prog_1_method_12_code 39 = .ok (.putfield 151, 3) := by decide +kernel
theorem d_TC_expect_42 : decode prog_1_method_12_code 42 = .ok (.iconst 1, 1) := by decide +kernel
theorem d_TC_expect_43 : decode prog_1_method_12_code 43 = .ok (.ireturn, 1) := by decide +kernel
theorem d_TC_isMet_0 : decode prog_1_method_13_code 0 = .ok (.aload_n 0, 1) := by decide +kernel
theorem d_TC_isMet_1 : decode prog_1_method_13_code 1 = .ok (.getfield 139, 3) := by decide +kernel
theorem d_TC_isMet_4 : decode prog_1_method_13_code 4 = .ok (.ifCond .ne 5, 3) := by decide +kernel
theorem d_TC_isMet_7 : decode prog_1_method_13_code 7 = .ok (.iconst 1, 1) := by decide +kernel
theorem d_TC_isMet_8 : decode prog_1_method_13_code 8 = .ok (.ireturn, 1) := by decide +kernel
theorem d_TC_isMet_9 : decode prog_1_method_13_code 9 = .ok (.aload_n 0, 1) := by decide +kernel
theorem d_TC_isMet_10 : decode prog_1_method_13_code 10 = .ok (.aload_n 0, 1) := by decide +kernel
theorem d_TC_isMet_11 : decode prog_1_method_13_code 11 = .ok (.getfield 142, 3) := by decide +kernel
theorem d_TC_isMet_14 : decode prog_1_method_13_code 14 = .ok (.invokevirtual 154, 3) := by decide +kernel
theorem d_TC_isMet_17 : decode prog_1_method_13_code 17 = .ok (.astore_n 1, 1) := by decide +kernel
theorem d_TC_isMet_18 : decode prog_1_method_13_code 18 = .ok (.iconst 0, 1) := by decide +kernel
theorem d_TC_isMet_19 : decode prog_1_method_13_code 19 = .ok (.istore_n 2, 1) := by decide +kernel
theorem d_TC_isMet_20 : decode prog_1_method_13_code 20 = .ok (.iload_n 2, 1) := by decide +kernel
theorem d_TC_isMet_21 : decode prog_1_method_13_code 21 = .ok (.aload_n 1, 1) := by decide +kernel
theorem d_TC_isMet_22 : decode prog_1_method_13_code 22 = .ok (.invokevirtual 79, 3) := by decide +kernel
theorem d_TC_isMet_25 : decode prog_1_method_13_code 25 = .ok (.if_icmp .ge 61, 3) := by decide +kernel
theorem d_TC_isMet_28 : decode prog_1_method_13_code 28 = .ok (.aload_n 1, 1) := by decide +kernel
theorem d_TC_isMet_29 : decode prog_1_method_13_code 29 = .ok (.iload_n 2, 1) := by decide +kernel
theorem d_TC_isMet_30 : decode prog_1_method_13_code 30 = .ok (.invokevirtual 80, 3) := by decide +kernel
theorem d_TC_isMet_33 : decode prog_1_method_13_code 33 = .ok (.checkcast 12, 3) := by decide +kernel
theorem d_TC_isMet_36 : decode prog_1_method_13_code 36 = .ok (.astore_n 3, 1) := by decide +kernel
theorem d_TC_isMet_37 : decode prog_1_method_13_code 37 = .ok (.aload_n 3, 1) := by decide +kernel
theorem d_TC_isMet_38 : decode prog_1_method_13_code 38 = .ok (.getfield 87, 3) := by decide +kernel
theorem d_TC_isMet_41 : decode prog_1_method_13_code 41 = .ok (.aload_n 0, 1) := by decide +kernel
theorem d_TC_isMet_42 : decode prog_1_method_13_code 42 = .ok (.getfield 145, 3) := by decide +kernel
theorem d_TC_isMet_45 : decode prog_1_method_13_code 45 = .ok (.if_icmp .ne 35, 3) := by decide +kernel
theorem d_TC_isMet_48 : decode prog_1_method_13_code 48 = .ok (.aload_n 0, 1) := by decide +kernel
theorem d_TC_isMet_49 : decode prog_1_method_13_code 49 = .ok (.aload_n 3, 1) := by decide +kernel
theorem d_TC_isMet_50 : decode prog_1_method_13_code 50 = .ok (.invokevirtual 158, 3) := by decide +kernel
theorem d_TC_isMet_53 : decode prog_1_method_13_code 53 = .ok (.ifCond .eq 27, 3) := by decide +kernel
theorem d_TC_isMet_56 : decode prog_1_method_13_code 56 = .ok (.aload_n 0, 1) := by decide +kernel
theorem d_TC_isMet_57 : decode prog_1_method_13_code 57 = .ok (.getfield 148, 3) := by decide +kernel
theorem d_TC_isMet_60 : decode prog_1_method_13_code 60 = .ok (.ifCond .eq 18, 3) := by decide +kernel
theorem d_TC_isMet_63 : decode prog_1_method_13_code 63 = .ok (.aload_n 3, 1) := by decide +kernel
theorem d_TC_isMet_64 : decode prog_1_method_13_code 64 = .ok (.getfield 161, 3) := by decide +kernel
theorem d_TC_isMet_67 : decode prog_1_method_13_code 67 = .ok (.aload_n 0, 1) := by decide +kernel
theorem d_TC_isMet_68 : decode prog_1_method_13_code 68 = .ok (.getfield 151, 3) := by decide +kernel
theorem d_TC_isMet_71 : decode prog_1_method_13_code 71 = .ok (.if_icmp .ne 7, 3) := by decide +kernel
theorem d_TC_isMet_74 : decode prog_1_method_13_code 74 = .ok (.iconst 1, 1) := by decide +kernel
theorem d_TC_isMet_75 : decode prog_1_method_13_code 75 = .ok (.goto 4, 3) := by decide +kernel
theorem d_TC_isMet_78 : decode prog_1_method_13_code 78 = .ok (.iconst 0, 1) := by decide +kernel
theorem d_TC_isMet_79 : decode prog_1_method_13_code 79 = .ok (.ireturn, 1) := by decide +kernel
theorem d_TC_isMet_80 : decode prog_1_method_13_code 80 = .ok (.iinc 2 1, 3) := by decide +kernel
theorem d_TC_isMet_83 : decode prog_1_method_13_code 83 = .ok (.goto (-63), 3) := by decide +kernel
theorem d_TC_isMet_86 : decode prog_1_method_13_code 86 = .ok (.aload_n 0, 1) := by decide +kernel
theorem d_TC_isMet_87 : decode prog_1_method_13_code 87 = .ok (.getfield 148, 3) := by decide +kernel
theorem d_TC_isMet_90 : decode prog_1_method_13_code 90 = .ok (.ifCond .ne 7, 3) := by decide +kernel
theorem d_TC_isMet_93 : decode prog_1_method_13_code 93 = .ok (.iconst 1, 1) := by decide +kernel
theorem d_TC_isMet_94 : decode prog_1_method_13_code 94 = .ok (.goto 4, 3) := by decide +kernel
theorem d_TC_isMet_97 : decode prog_1_method_13_code 97 = .ok (.iconst 0, 1) := by decide +kernel
theorem d_TC_isMet_98 : decode prog_1_method_13_code 98 = .ok (.ireturn, 1) := by decide +kernel
theorem d_TC_enter_0 : decode prog_1_method_14_code 0 = .ok (.aload_n 0, 1) := by decide +kernel
theorem d_TC_enter_1 : decode prog_1_method_14_code 1 = .ok (.dup, 1) := by decide +kernel
theorem d_TC_enter_2 : decode prog_1_method_14_code 2 = .ok (.getfield 164, 3) := by decide +kernel
theorem d_TC_enter_5 : decode prog_1_method_14_code 5 = .ok (.iconst 1, 1) := by decide +kernel
theorem d_TC_enter_6 : decode prog_1_method_14_code 6 = .ok (.iadd, 1) := by decide +kernel
theorem d_TC_enter_7 : decode prog_1_method_14_code 7 = .ok (.putfield 164, 3) := by decide +kernel
theorem d_TC_enter_10 : decode prog_1_method_14_code 10 = .ok (.aload_n 2, 1) := by decide +kernel
theorem d_TC_enter_11 : decode prog_1_method_14_code 11 = .ok (.aload_n 0, 1) := by decide +kernel
theorem d_TC_enter_12 : decode prog_1_method_14_code 12 = .ok (.getfield 164, 3) := by decide +kernel
theorem d_TC_enter_15 : decode prog_1_method_14_code 15 = .ok (.putfield 167, 3) := by decide +kernel
theorem d_TC_enter_18 : decode prog_1_method_14_code 18 = .ok (.aload_n 2, 1) := by decide +kernel
theorem d_TC_enter_19 : decode prog_1_method_14_code 19 = .ok (.aload_n 0, 1) := by decide +kernel
theorem d_TC_enter_20 : decode prog_1_method_14_code 20 = .ok (.getfield 168, 3) := by decide +kernel
theorem d_TC_enter_23 : decode prog_1_method_14_code 23 = .ok (.putfield 171, 3) := by decide +kernel
theorem d_TC_enter_26 : decode prog_1_method_14_code 26 = .ok (.aload_n 0, 1) := by decide +kernel
theorem d_TC_enter_27 : decode prog_1_method_14_code 27 = .ok (.getfield 58, 3) := by decide +kernel
theorem d_TC_enter_30 : decode prog_1_method_14_code 30 = .ok (.aload_n 0, 1) := by decide +kernel
theorem d_TC_enter_31 : decode prog_1_method_14_code 31 = .ok (.getfield 168, 3) := by decide +kernel
theorem d_TC_enter_34 : decode prog_1_method_14_code 34 = .ok (.dup2, 1) := by decide +kernel
theorem d_TC_enter_35 : decode prog_1_method_14_code 35 = .ok (.iaload, 1) := by decide +kernel
theorem d_TC_enter_36 : decode prog_1_method_14_code 36 = .ok (.iconst 1, 1) := by decide +kernel
theorem d_TC_enter_37 : decode prog_1_method_14_code 37 = .ok (.iadd, 1) := by decide +kernel
theorem d_TC_enter_38 : decode prog_1_method_14_code 38 = .ok (.iastore, 1) := by decide +kernel
theorem d_TC_enter_39 : decode prog_1_method_14_code 39 = .ok (.aload_n 1, 1) := by decide +kernel
theorem d_TC_enter_40 : decode prog_1_method_14_code 40 = .ok (.getfield 107, 3) := by decide +kernel
theorem d_TC_enter_43 : decode prog_1_method_14_code 43 = .ok (.aload_n 2, 1) := by decide +kernel
theorem d_TC_enter_44 : decode prog_1_method_14_code 44 = .ok (.invokevirtual 173, 3) := by decide +kernel
theorem d_TC_enter_47 : decode prog_1_method_14_code 47 = .ok (.return_, 1) := by decide +kernel
theorem d_TC_surplus_0 : decode prog_1_method_15_code 0 = .ok (.aload_n 0, 1) := by decide +kernel
theorem d_TC_surplus_1 : decode prog_1_method_15_code 1 = .ok (.getfield 23, 3) := by decide +kernel
theorem d_TC_surplus_4 : decode prog_1_method_15_code 4 = .ok (.aload_n 1, 1) := by decide +kernel
theorem d_TC_surplus_5 : decode prog_1_method_15_code 5 = .ok (.getfield 87, 3) := by decide +kernel
theorem d_TC_surplus_8 : decode prog_1_method_15_code 8 = .ok (.iconst 4, 1) := by decide +kernel
theorem d_TC_surplus_9 : decode prog_1_method_15_code 9 = .ok (.idiv, 1) := by decide +kernel
theorem d_TC_surplus_10 : decode prog_1_method_15_code 10 = .ok (.iaload, 1) := by decide +kernel
theorem d_TC_surplus_11 : decode prog_1_method_15_code 11 = .ok (.istore_n 2, 1) := by decide +kernel
theorem d_TC_surplus_12 : decode prog_1_method_15_code 12 = .ok (.iload_n 2, 1) := by decide +kernel
theorem d_TC_surplus_13 : decode prog_1_method_15_code 13 = .ok (.ifCond .ne 5, 3) := by decide +kernel
theorem d_TC_surplus_16 : decode prog_1_method_15_code 16 = .ok (.aconst_null, 1) := by decide +kernel
theorem d_TC_surplus_17 : decode prog_1_method_15_code 17 = .ok (.areturn, 1) := by decide +kernel
theorem d_TC_surplus_18 : decode prog_1_method_15_code 18 = .ok (.aload_n 0, 1) := by decide +kernel
theorem d_TC_surplus_19 : decode prog_1_method_15_code 19 = .ok (.aload_n 1, 1) := by decide +kernel
theorem d_TC_surplus_20 : decode prog_1_method_15_code 20 = .ok (.getfield 11, 3) := by decide +kernel
theorem d_TC_surplus_23 : decode prog_1_method_15_code 23 = .ok (.invokevirtual 154, 3) := by decide +kernel
theorem d_TC_surplus_26 : decode prog_1_method_15_code 26 = .ok (.astore_n 3, 1) := by decide +kernel
theorem d_TC_surplus_27 : decode prog_1_method_15_code 27 = .ok (.aconst_null, 1) := by decide +kernel
theorem d_TC_surplus_28 : decode prog_1_method_15_code 28 = .ok (.astore 4, 2) := by decide +kernel
theorem d_TC_surplus_30 : decode prog_1_method_15_code 30 = .ok (.iconst 0, 1) := by decide +kernel
theorem d_TC_surplus_31 : decode prog_1_method_15_code 31 = .ok (.istore 5, 2) := by decide +kernel
theorem d_TC_surplus_33 : decode prog_1_method_15_code 33 = .ok (.iconst 0, 1) := by decide +kernel
theorem d_TC_surplus_34 : decode prog_1_method_15_code 34 = .ok (.istore 6, 2) := by decide +kernel
theorem d_TC_surplus_36 : decode prog_1_method_15_code 36 = .ok (.iload 6, 2) := by decide +kernel
theorem d_TC_surplus_38 : decode prog_1_method_15_code 38 = .ok (.aload_n 3, 1) := by decide +kernel
theorem d_TC_surplus_39 : decode prog_1_method_15_code 39 = .ok (.invokevirtual 79, 3) := by decide +kernel
theorem d_TC_surplus_42 : decode prog_1_method_15_code 42 = .ok (.if_icmp .ge 48, 3) := by decide +kernel
theorem d_TC_surplus_45 : decode prog_1_method_15_code 45 = .ok (.aload_n 3, 1) := by decide +kernel
theorem d_TC_surplus_46 : decode prog_1_method_15_code 46 = .ok (.iload 6, 2) := by decide +kernel
theorem d_TC_surplus_48 : decode prog_1_method_15_code 48 = .ok (.invokevirtual 80, 3) := by decide +kernel
theorem d_TC_surplus_51 : decode prog_1_method_15_code 51 = .ok (.checkcast 12, 3) := by decide +kernel
theorem d_TC_surplus_54 : decode prog_1_method_15_code 54 = .ok (.astore 7, 2) := by decide +kernel
theorem d_TC_surplus_56 : decode prog_1_method_15_code 56 = .ok (.aload 7, 2) := by decide +kernel
theorem d_TC_surplus_58 : decode prog_1_method_15_code 58 = .ok (.getfield 87, 3) := by decide +kernel
theorem d_TC_surplus_61 : decode prog_1_method_15_code 61 = .ok (.aload_n 1, 1) := by decide +kernel
theorem d_TC_surplus_62 : decode prog_1_method_15_code 62 = .ok (.getfield 87, 3) := by decide +kernel
theorem d_TC_surplus_65 : decode prog_1_method_15_code 65 = .ok (.if_icmp .ne 19, 3) := by decide +kernel
theorem d_TC_surplus_68 : decode prog_1_method_15_code 68 = .ok (.aload_n 0, 1) := by decide +kernel
theorem d_TC_surplus_69 : decode prog_1_method_15_code 69 = .ok (.aload 7, 2) := by decide +kernel
theorem d_TC_surplus_71 : decode prog_1_method_15_code 71 = .ok (.invokevirtual 158, 3) := by decide +kernel
theorem d_TC_surplus_74 : decode prog_1_method_15_code 74 = .ok (.ifCond .eq 10, 3) := by decide +kernel
theorem d_TC_surplus_77 : decode prog_1_method_15_code 77 = .ok (.aload 7, 2) := by decide +kernel
theorem d_TC_surplus_79 : decode prog_1_method_15_code 79 = .ok (.astore 4, 2) := by decide +kernel
theorem d_TC_surplus_81 : decode prog_1_method_15_code 81 = .ok (.iinc 5 1, 3) := by decide +kernel
theorem d_TC_surplus_84 : decode prog_1_method_15_code 84 = .ok (.iinc 6 1, 3) := by decide +kernel
theorem d_TC_surplus_87 : decode prog_1_method_15_code 87 = .ok (.goto (-51), 3) := by decide +kernel
theorem d_TC_surplus_90 : decode prog_1_method_15_code 90 = .ok (.iload 5, 2) := by decide +kernel
theorem d_TC_surplus_92 : decode prog_1_method_15_code 92 = .ok (.iload_n 2, 1) := by decide +kernel
theorem d_TC_surplus_93 : decode prog_1_method_15_code 93 = .ok (.if_icmp .le 8, 3) := by decide +kernel
theorem d_TC_surplus_96 : decode prog_1_method_15_code 96 = .ok (.aload 4, 2) := by decide +kernel
theorem d_TC_surplus_98 : decode prog_1_method_15_code 98 = .ok (.goto 4, 3) := by decide +kernel
theorem d_TC_surplus_101 : decode prog_1_method_15_code 101 = .ok (.aconst_null, 1) := by decide +kernel
theorem d_TC_surplus_102 : decode prog_1_method_15_code 102 = .ok (.areturn, 1) := by decide +kernel
theorem d_TC_entries_0 : decode prog_1_method_16_code 0 = .ok (.iconst 0, 1) := by decide +kernel
theorem d_TC_entries_1 : decode prog_1_method_16_code 1 = .ok (.istore_n 1, 1) := by decide +kernel
theorem d_TC_entries_2 : decode prog_1_method_16_code 2 = .ok (.iconst 0, 1) := by decide +kernel
theorem d_TC_entries_3 : decode prog_1_method_16_code 3 = .ok (.istore_n 2, 1) := by decide +kernel
theorem d_TC_entries_4 : decode prog_1_method_16_code 4 = .ok (.iload_n 2, 1) := by decide +kernel
theorem d_TC_entries_5 : decode prog_1_method_16_code 5 = .ok (.aload_n 0, 1) := by decide +kernel
theorem d_TC_entries_6 : decode prog_1_method_16_code 6 = .ok (.getfield 35, 3) := by decide +kernel
theorem d_TC_entries_9 : decode prog_1_method_16_code 9 = .ok (.invokevirtual 79, 3) := by decide +kernel
theorem d_TC_entries_12 : decode prog_1_method_16_code 12 = .ok (.if_icmp .ge 26, 3) := by decide +kernel
theorem d_TC_entries_15 : decode prog_1_method_16_code 15 = .ok (.iload_n 1, 1) := by decide +kernel
theorem d_TC_entries_16 : decode prog_1_method_16_code 16 = .ok (.aload_n 0, 1) := by decide +kernel
theorem d_TC_entries_17 : decode prog_1_method_16_code 17 = .ok (.getfield 35, 3) := by decide +kernel
theorem d_TC_entries_20 : decode prog_1_method_16_code 20 = .ok (.iload_n 2, 1) := by decide +kernel
theorem d_TC_entries_21 : decode prog_1_method_16_code 21 = .ok (.invokevirtual 80, 3) := by decide +kernel
theorem d_TC_entries_24 : decode prog_1_method_16_code 24 = .ok (.checkcast 70, 3) := by decide +kernel
theorem d_TC_entries_27 : decode prog_1_method_16_code 27 = .ok (.invokevirtual 179, 3) := by decide +kernel
theorem d_TC_entries_30 : decode prog_1_method_16_code 30 = .ok (.iadd, 1) := by decide +kernel
theorem d_TC_entries_31 : decode prog_1_method_16_code 31 = .ok (.istore_n 1, 1) := by decide +kernel
theorem d_TC_entries_32 : decode prog_1_method_16_code 32 = .ok (.iinc 2 1, 3) := by decide +kernel
theorem d_TC_entries_35 : decode prog_1_method_16_code 35 = .ok (.goto (-31), 3) := by decide +kernel
theorem d_TC_entries_38 : decode prog_1_method_16_code 38 = .ok (.iload_n 1, 1) := by decide +kernel
theorem d_TC_entries_39 : decode prog_1_method_16_code 39 = .ok (.ireturn, 1) := by decide +kernel
theorem d_TC_apply_0 : decode prog_1_method_17_code 0 = .ok (.aload_n 0, 1) := by decide +kernel
theorem d_TC_apply_1 : decode prog_1_method_17_code 1 = .ok (.getfield 42, 3) := by decide +kernel
theorem d_TC_apply_4 : decode prog_1_method_17_code 4 = .ok (.invokevirtual 121, 3) := by decide +kernel
theorem d_TC_apply_7 : decode prog_1_method_17_code 7 = .ok (.ifCond .eq 5, 3) := by decide +kernel
theorem d_TC_apply_10 : decode prog_1_method_17_code 10 = .ok (.iconst (-1), 1) := by decide +kernel
theorem d_TC_apply_11 : decode prog_1_method_17_code 11 = .ok (.ireturn, 1) := by decide +kernel
theorem d_TC_apply_12 : decode prog_1_method_17_code 12 = .ok (.aload_n 0, 1) := by decide +kernel
theorem d_TC_apply_13 : decode prog_1_method_17_code 13 = .ok (.invokevirtual 180, 3) := by decide +kernel
theorem d_TC_apply_16 : decode prog_1_method_17_code 16 = .ok (.sipush 240, 3) := by decide +kernel
theorem d_TC_apply_19 : decode prog_1_method_17_code 19 = .ok (.if_icmp .lt 6, 3) := by decide +kernel
theorem d_TC_apply_22 : decode prog_1_method_17_code 22 = .ok (.bipush (-2), 2) := by decide +kernel
theorem d_TC_apply_24 : decode prog_1_method_17_code 24 = .ok (.ireturn, 1) := by decide +kernel
theorem d_TC_apply_25 : decode prog_1_method_17_code 25 = .ok (.aload_n 0, 1) := by decide +kernel
theorem d_TC_apply_26 : decode prog_1_method_17_code 26 = .ok (.invokevirtual 183, 3) := by decide +kernel
theorem d_TC_apply_29 : decode prog_1_method_17_code 29 = .ok (.istore_n 1, 1) := by decide +kernel
theorem d_TC_apply_30 : decode prog_1_method_17_code 30 = .ok (.aload_n 0, 1) := by decide +kernel
theorem d_TC_apply_31 : decode prog_1_method_17_code 31 = .ok (.getfield 186, 3) := by decide +kernel
theorem d_TC_apply_34 : decode prog_1_method_17_code 34 = .ok (.ifCond .eq 15, 3) := by decide +kernel
theorem d_TC_apply_37 : decode prog_1_method_17_code 37 = .ok (.aload_n 0, 1) := by decide +kernel
theorem d_TC_apply_38 : decode prog_1_method_17_code 38 = .ok (.iconst 0, 1) := by decide +kernel
theorem d_TC_apply_39 : decode prog_1_method_17_code 39 = .ok (.putfield 186, 3) := by decide +kernel
theorem d_TC_apply_42 : decode prog_1_method_17_code 42 = .ok (.aload_n 0, 1) := by decide +kernel
theorem d_TC_apply_43 : decode prog_1_method_17_code 43 = .ok (.invokevirtual 189, 3) := by decide +kernel
theorem d_TC_apply_46 : decode prog_1_method_17_code 46 = .ok (.bipush (-3), 2) := by decide +kernel
theorem d_TC_apply_48 : decode prog_1_method_17_code 48 = .ok (.ireturn, 1) := by decide +kernel
theorem d_TC_apply_49 : decode prog_1_method_17_code 49 = .ok (.aload_n 0, 1) := by decide +kernel
theorem d_TC_apply_50 : decode prog_1_method_17_code 50 = .ok (.getfield 164, 3) := by decide +kernel
theorem d_TC_apply_53 : decode prog_1_method_17_code 53 = .ok (.istore_n 2, 1) := by decide +kernel
theorem d_TC_apply_54 : decode prog_1_method_17_code 54 = .ok (.iload_n 1, 1) := by decide +kernel
theorem d_TC_apply_55 : decode prog_1_method_17_code 55 = .ok (.ifCond .eq 156, 3) := by decide +kernel
theorem d_TC_apply_58 : decode prog_1_method_17_code 58 = .ok (.aload_n 0, 1) := by decide +kernel
theorem d_TC_apply_59 : decode prog_1_method_17_code 59 = .ok (.dup, 1) := by decide +kernel
theorem d_TC_apply_60 : decode prog_1_method_17_code 60 = .ok (.getfield 168, 3) := by decide +kernel
theorem d_TC_apply_63 : decode prog_1_method_17_code 63 = .ok (.iconst 1, 1) := by decide +kernel
theorem d_TC_apply_64 : decode prog_1_method_17_code 64 = .ok (.iadd, 1) := by decide +kernel
theorem d_TC_apply_65 : decode prog_1_method_17_code 65 = .ok (.putfield 168, 3) := by decide +kernel
theorem d_TC_apply_68 : decode prog_1_method_17_code 68 = .ok (.aload_n 0, 1) := by decide +kernel
theorem d_TC_apply_69 : decode prog_1_method_17_code 69 = .ok (.dup, 1) := by decide +kernel
theorem d_TC_apply_70 : decode prog_1_method_17_code 70 = .ok (.getfield 192, 3) := by decide +kernel
theorem d_TC_apply_73 : decode prog_1_method_17_code 73 = .ok (.iconst 1, 1) := by decide +kernel
theorem d_TC_apply_74 : decode prog_1_method_17_code 74 = .ok (.iadd, 1) := by decide +kernel
theorem d_TC_apply_75 : decode prog_1_method_17_code 75 = .ok (.putfield 192, 3) := by decide +kernel
theorem d_TC_apply_78 : decode prog_1_method_17_code 78 = .ok (.aload_n 0, 1) := by decide +kernel
theorem d_TC_apply_79 : decode prog_1_method_17_code 79 = .ok (.aload_n 0, 1) := by decide +kernel
theorem d_TC_apply_80 : decode prog_1_method_17_code 80 = .ok (.getfield 42, 3) := by decide +kernel
theorem d_TC_apply_83 : decode prog_1_method_17_code 83 = .ok (.iconst 0, 1) := by decide +kernel
theorem d_TC_apply_84 : decode prog_1_method_17_code 84 = .ok (.invokevirtual 80, 3) := by decide +kernel
theorem d_TC_apply_87 : decode prog_1_method_17_code 87 = .ok (.checkcast 12, 3) := by decide +kernel
theorem d_TC_apply_90 : decode prog_1_method_17_code 90 = .ok (.getfield 11, 3) := by decide +kernel
theorem d_TC_apply_93 : decode prog_1_method_17_code 93 = .ok (.invokevirtual 100, 3) := by decide +kernel
theorem d_TC_apply_96 : decode prog_1_method_17_code 96 = .ok (.astore_n 3, 1) := by decide +kernel
theorem d_TC_apply_97 : decode prog_1_method_17_code 97 = .ok (.iconst 0, 1) := by decide +kernel
theorem d_TC_apply_98 : decode prog_1_method_17_code 98 = .ok (.istore 4, 2) := by decide +kernel
theorem d_TC_apply_100 : decode prog_1_method_17_code 100 = .ok (.iload 4, 2) := by decide +kernel
theorem d_TC_apply_102 : decode prog_1_method_17_code 102 = .ok (.aload_n 0, 1) := by decide +kernel
theorem d_TC_apply_103 : decode prog_1_method_17_code 103 = .ok (.getfield 42, 3) := by decide +kernel
theorem d_TC_apply_106 : decode prog_1_method_17_code 106 = .ok (.invokevirtual 79, 3) := by decide +kernel
theorem d_TC_apply_109 : decode prog_1_method_17_code 109 = .ok (.if_icmp .ge 84, 3) := by decide +kernel
theorem d_TC_apply_112 : decode prog_1_method_17_code 112 = .ok (.aload_n 0, 1) := by decide +kernel
theorem d_TC_apply_113 : decode prog_1_method_17_code 113 = .ok (.getfield 42, 3) := by decide +kernel
theorem d_TC_apply_116 : decode prog_1_method_17_code 116 = .ok (.iload 4, 2) := by decide +kernel
theorem d_TC_apply_118 : decode prog_1_method_17_code 118 = .ok (.invokevirtual 80, 3) := by decide +kernel
theorem d_TC_apply_121 : decode prog_1_method_17_code 121 = .ok (.checkcast 12, 3) := by decide +kernel
theorem d_TC_apply_124 : decode prog_1_method_17_code 124 = .ok (.astore 5, 2) := by decide +kernel
theorem d_TC_apply_126 : decode prog_1_method_17_code 126 = .ok (.aload_n 0, 1) := by decide +kernel
theorem d_TC_apply_127 : decode prog_1_method_17_code 127 = .ok (.aload_n 3, 1) := by decide +kernel
theorem d_TC_apply_128 : decode prog_1_method_17_code 128 = .ok (.aload 5, 2) := by decide +kernel
theorem d_TC_apply_130 : decode prog_1_method_17_code 130 = .ok (.invokevirtual 195, 3) := by decide +kernel
theorem d_TC_apply_133 : decode prog_1_method_17_code 133 = .ok (.aload 5, 2) := by decide +kernel
theorem d_TC_apply_135 : decode prog_1_method_17_code 135 = .ok (.getfield 90, 3) := by decide +kernel
theorem d_TC_apply_138 : decode prog_1_method_17_code 138 = .ok (.ifCond .eq 12, 3) := by decide +kernel
theorem d_TC_apply_141 : decode prog_1_method_17_code 141 = .ok (.aload_n 0, 1) := by decide +kernel
theorem d_TC_apply_142 : decode prog_1_method_17_code 142 = .ok (.aload 5, 2) := by decide +kernel
theorem d_TC_apply_144 : decode prog_1_method_17_code 144 = .ok (.invokevirtual 199, 3) := by decide +kernel
theorem d_TC_apply_147 : decode prog_1_method_17_code 147 = .ok (.goto 4, 3) := by decide +kernel
theorem d_TC_apply_150 : decode prog_1_method_17_code 150 = .ok (.aconst_null, 1) := by decide +kernel
theorem d_TC_apply_151 : decode prog_1_method_17_code 151 = .ok (.astore 6, 2) := by decide +kernel
theorem d_TC_apply_153 : decode prog_1_method_17_code 153 = .ok (.aload 6, 2) := by decide +kernel
theorem d_TC_apply_155 : decode prog_1_method_17_code 155 = .ok (.ifnull 32, 3) := by decide +kernel
theorem d_TC_apply_158 : decode prog_1_method_17_code 158 = .ok (.aload_n 0, 1) := by decide +kernel
theorem d_TC_apply_159 : decode prog_1_method_17_code 159 = .ok (.aload_n 3, 1) := by decide +kernel
theorem d_TC_apply_160 : decode prog_1_method_17_code 160 = .ok (.new 12, 3) := by decide +kernel
theorem d_TC_apply_163 : decode prog_1_method_17_code 163 = .ok (.dup, 1) := by decide +kernel
theorem d_TC_apply_164 : decode prog_1_method_17_code 164 = .ok (.aload 6, 2) := by decide +kernel
theorem d_TC_apply_166 : decode prog_1_method_17_code 166 = .ok (.getfield 11, 3) := by decide +kernel
theorem d_TC_apply_169 : decode prog_1_method_17_code 169 = .ok (.aload 6, 2) := by decide +kernel
theorem d_TC_apply_171 : decode prog_1_method_17_code 171 = .ok (.getfield 87, 3) := by decide +kernel
theorem d_TC_apply_174 : decode prog_1_method_17_code 174 = .ok (.aload 6, 2) := by decide +kernel
theorem d_TC_apply_176 : decode prog_1_method_17_code 176 = .ok (.getfield 94, 3) := by decide +kernel
theorem d_TC_apply_179 : decode prog_1_method_17_code 179 = .ok (.iconst 0, 1) := by decide +kernel
theorem d_TC_apply_180 : decode prog_1_method_17_code 180 = .ok (.iconst 0, 1) := by decide +kernel
theorem d_TC_apply_181 : decode prog_1_method_17_code 181 = .ok (.invokespecial 132, 3) := by decide +kernel
theorem d_TC_apply_184 : decode prog_1_method_17_code 184 = .ok (.invokevirtual 195, 3) := by decide +kernel
theorem d_TC_apply_187 : decode prog_1_method_17_code 187 = .ok (.iinc 4 1, 3) := by decide +kernel
theorem d_TC_apply_190 : decode prog_1_method_17_code 190 = .ok (.goto (-90), 3) := by decide +kernel
theorem d_TC_apply_193 : decode prog_1_method_17_code 193 = .ok (.aload_n 3, 1) := by decide +kernel
theorem d_TC_apply_194 : decode prog_1_method_17_code 194 = .ok (.getfield 107, 3) := by decide +kernel
theorem d_TC_apply_197 : decode prog_1_method_17_code 197 = .ok (.invokevirtual 203, 3) := by decide +kernel
theorem d_TC_apply_200 : decode prog_1_method_17_code 200 = .ok (.bipush 16, 2) := by decide +kernel
theorem d_TC_apply_202 : decode prog_1_method_17_code 202 = .ok (.if_icmp .lt 9, 3) := by decide +kernel
theorem d_TC_apply_205 : decode prog_1_method_17_code 205 = .ok (.aload_n 0, 1) := by decide +kernel
theorem d_TC_apply_206 : decode prog_1_method_17_code 206 = .ok (.aload_n 3, 1) := by decide +kernel
theorem d_TC_apply_207 : decode prog_1_method_17_code 207 = .ok (.invokevirtual 204, 3) := by decide +kernel
theorem d_TC_apply_210 : decode prog_1_method_17_code 210 = .ok (.pop, 1) := by decide +kernel
theorem d_TC_apply_211 : decode prog_1_method_17_code 211 = .ok (.aload_n 0, 1) := by decide +kernel
theorem d_TC_apply_212 : decode prog_1_method_17_code 212 = .ok (.invokevirtual 189, 3) := by decide +kernel
theorem d_TC_apply_215 : decode prog_1_method_17_code 215 = .ok (.aload_n 0, 1) := by decide +kernel
theorem d_TC_apply_216 : decode prog_1_method_17_code 216 = .ok (.getfield 164, 3) := by decide +kernel
theorem d_TC_apply_219 : decode prog_1_method_17_code 219 = .ok (.iload_n 2, 1) := by decide +kernel
theorem d_TC_apply_220 : decode prog_1_method_17_code 220 = .ok (.isub, 1) := by decide +kernel
theorem d_TC_apply_221 : decode prog_1_method_17_code 221 = .ok (.ireturn, 1) := by decide +kernel
theorem d_TC_tear_0 : decode prog_1_method_18_code 0 = .ok (.aload_n 0, 1) := by decide +kernel
theorem d_TC_tear_1 : decode prog_1_method_18_code 1 = .ok (.iconst 1, 1) := by decide +kernel
theorem d_TC_tear_2 : decode prog_1_method_18_code 2 = .ok (.putfield 186, 3) := by decide +kernel
theorem d_TC_tear_5 : decode prog_1_method_18_code 5 = .ok (.return_, 1) := by decide +kernel
theorem d_TC_crash_0 : decode prog_1_method_19_code 0 = .ok (.aload_n 0, 1) := by decide +kernel
theorem d_TC_crash_1 : decode prog_1_method_19_code 1 = .ok (.getfield 42, 3) := by decide +kernel
theorem d_TC_crash_4 : decode prog_1_method_19_code 4 = .ok (.invokevirtual 208, 3) := by decide +kernel
theorem d_TC_crash_7 : decode prog_1_method_19_code 7 = .ok (.aload_n 0, 1) := by decide +kernel
theorem d_TC_crash_8 : decode prog_1_method_19_code 8 = .ok (.iconst 0, 1) := by decide +kernel
theorem d_TC_crash_9 : decode prog_1_method_19_code 9 = .ok (.putfield 139, 3) := by decide +kernel
theorem d_TC_crash_12 : decode prog_1_method_19_code 12 = .ok (.return_, 1) := by decide +kernel
theorem d_TC_tick_0 : decode prog_1_method_20_code 0 = .ok (.aload_n 0, 1) := by decide +kernel
theorem d_TC_tick_1 : decode prog_1_method_20_code 1 = .ok (.dup, 1) := by decide +kernel
theorem d_TC_tick_2 : decode prog_1_method_20_code 2 = .ok (.getfield 97, 3) := by decide +kernel
theorem d_TC_tick_5 : decode prog_1_method_20_code 5 = .ok (.iload_n 1, 1) := by decide +kernel
theorem d_TC_tick_6 : decode prog_1_method_20_code 6 = .ok (.ifCond .lt 14, 3) := by decide +kernel
theorem d_TC_tick_9 : decode prog_1_method_20_code 9 = .ok (.iload_n 1, 1) := by decide +kernel
theorem d_TC_tick_10 : decode prog_1_method_20_code 10 = .ok (.sipush 5000, 3) := by decide +kernel
theorem d_TC_tick_13 : decode prog_1_method_20_code 13 = .ok (.if_icmp .gt 7, 3) := by decide +kernel
theorem d_TC_tick_16 : decode prog_1_method_20_code 16 = .ok (.iload_n 1, 1) := by decide +kernel
theorem d_TC_tick_17 : decode prog_1_method_20_code 17 = .ok (.goto 4, 3) := by decide +kernel
theorem d_TC_tick_20 : decode prog_1_method_20_code 20 = .ok (.iconst 0, 1) := by decide +kernel
theorem d_TC_tick_21 : decode prog_1_method_20_code 21 = .ok (.iadd, 1) := by decide +kernel
theorem d_TC_tick_22 : decode prog_1_method_20_code 22 = .ok (.putfield 97, 3) := by decide +kernel
theorem d_TC_tick_25 : decode prog_1_method_20_code 25 = .ok (.aload_n 0, 1) := by decide +kernel
theorem d_TC_tick_26 : decode prog_1_method_20_code 26 = .ok (.getfield 97, 3) := by decide +kernel
theorem d_TC_tick_29 : decode prog_1_method_20_code 29 = .ok (.ireturn, 1) := by decide +kernel
theorem d_TC_look_0 : decode prog_1_method_21_code 0 = .ok (.aload_n 0, 1) := by decide +kernel
theorem d_TC_look_1 : decode prog_1_method_21_code 1 = .ok (.iload_n 1, 1) := by decide +kernel
theorem d_TC_look_2 : decode prog_1_method_21_code 2 = .ok (.invokevirtual 100, 3) := by decide +kernel
theorem d_TC_look_5 : decode prog_1_method_21_code 5 = .ok (.astore_n 2, 1) := by decide +kernel
theorem d_TC_look_6 : decode prog_1_method_21_code 6 = .ok (.iconst 0, 1) := by decide +kernel
theorem d_TC_look_7 : decode prog_1_method_21_code 7 = .ok (.istore_n 3, 1) := by decide +kernel
theorem d_TC_look_8 : decode prog_1_method_21_code 8 = .ok (.iload_n 3, 1) := by decide +kernel
theorem d_TC_look_9 : decode prog_1_method_21_code 9 = .ok (.aload_n 2, 1) := by decide +kernel
theorem d_TC_look_10 : decode prog_1_method_21_code 10 = .ok (.getfield 114, 3) := by decide +kernel
theorem d_TC_look_13 : decode prog_1_method_21_code 13 = .ok (.invokevirtual 79, 3) := by decide +kernel
theorem d_TC_look_16 : decode prog_1_method_21_code 16 = .ok (.if_icmp .ge 33, 3) := by decide +kernel
theorem d_TC_look_19 : decode prog_1_method_21_code 19 = .ok (.aload_n 0, 1) := by decide +kernel
theorem d_TC_look_20 : decode prog_1_method_21_code 20 = .ok (.dup, 1) := by decide +kernel
theorem d_TC_look_21 : decode prog_1_method_21_code 21 = .ok (.getfield 211, 3) := by decide +kernel
theorem d_TC_look_24 : decode prog_1_method_21_code 24 = .ok (.aload_n 2, 1) := by decide +kernel
theorem d_TC_look_25 : decode prog_1_method_21_code 25 = .ok (.getfield 114, 3) := by decide +kernel
theorem d_TC_look_28 : decode prog_1_method_21_code 28 = .ok (.iload_n 3, 1) := by decide +kernel
theorem d_TC_look_29 : decode prog_1_method_21_code 29 = .ok (.invokevirtual 80, 3) := by decide +kernel
theorem d_TC_look_32 : decode prog_1_method_21_code 32 = .ok (.checkcast 214, 3) := by decide +kernel
theorem d_TC_look_35 : decode prog_1_method_21_code 35 = .ok (.iload_n 1, 1) := by decide +kernel
theorem d_TC_look_36 : decode prog_1_method_21_code 36 = .ok (.invokevirtual 216, 3) := by decide +kernel
theorem d_TC_look_39 : decode prog_1_method_21_code 39 = .ok (.iadd, 1) := by decide +kernel
theorem d_TC_look_40 : decode prog_1_method_21_code 40 = .ok (.putfield 211, 3) := by decide +kernel
theorem d_TC_look_43 : decode prog_1_method_21_code 43 = .ok (.iinc 3 1, 3) := by decide +kernel
theorem d_TC_look_46 : decode prog_1_method_21_code 46 = .ok (.goto (-38), 3) := by decide +kernel
theorem d_TC_look_49 : decode prog_1_method_21_code 49 = .ok (.return_, 1) := by decide +kernel
theorem d_TC_get_0 : decode prog_1_method_22_code 0 = .ok (.iload_n 1, 1) := by decide +kernel
theorem d_TC_get_1 : decode prog_1_method_22_code 1 = .ok (.invokestatic 125, 3) := by decide +kernel
theorem d_TC_get_4 : decode prog_1_method_22_code 4 = .ok (.ifCond .eq 10, 3) := by decide +kernel
theorem d_TC_get_7 : decode prog_1_method_22_code 7 = .ok (.iload_n 2, 1) := by decide +kernel
theorem d_TC_get_8 : decode prog_1_method_22_code 8 = .ok (.invokestatic 129, 3) := by decide +kernel
theorem d_TC_get_11 : decode prog_1_method_22_code 11 = .ok (.ifCond .ne 7, 3) := by decide +kernel
theorem d_TC_get_14 : decode prog_1_method_22_code 14 = .ok (.ldc2_w 220, 3) := by decide +kernel
theorem d_TC_get_17 : decode prog_1_method_22_code 17 = .ok (.lreturn, 1) := by decide +kernel
theorem d_TC_get_18 : decode prog_1_method_22_code 18 = .ok (.aload_n 0, 1) := by decide +kernel
theorem d_TC_get_19 : decode prog_1_method_22_code 19 = .ok (.iload_n 1, 1) := by decide +kernel
theorem d_TC_get_20 : decode prog_1_method_22_code 20 = .ok (.invokevirtual 222, 3) := by decide +kernel
theorem d_TC_get_23 : decode prog_1_method_22_code 23 = .ok (.aload_n 0, 1) := by decide +kernel
theorem d_TC_get_24 : decode prog_1_method_22_code 24 = .ok (.iload_n 1, 1) := by decide +kernel
theorem d_TC_get_25 : decode prog_1_method_22_code 25 = .ok (.invokevirtual 154, 3) := by decide +kernel
theorem d_TC_get_28 : decode prog_1_method_22_code 28 = .ok (.astore 5, 2) := by decide +kernel
theorem d_TC_get_30 : decode prog_1_method_22_code 30 = .ok (.iload 4, 2) := by decide +kernel
theorem d_TC_get_32 : decode prog_1_method_22_code 32 = .ok (.istore 6, 2) := by decide +kernel
theorem d_TC_get_34 : decode prog_1_method_22_code 34 = .ok (.iconst 0, 1) := by decide +kernel
theorem d_TC_get_35 : decode prog_1_method_22_code 35 = .ok (.istore 7, 2) := by decide +kernel
theorem d_TC_get_37 : decode prog_1_method_22_code 37 = .ok (.iload 7, 2) := by decide +kernel
theorem d_TC_get_39 : decode prog_1_method_22_code 39 = .ok (.aload 5, 2) := by decide +kernel
theorem d_TC_get_41 : decode prog_1_method_22_code 41 = .ok (.invokevirtual 79, 3) := by decide +kernel
theorem d_TC_get_44 : decode prog_1_method_22_code 44 = .ok (.if_icmp .ge 78, 3) := by decide +kernel
theorem d_TC_get_47 : decode prog_1_method_22_code 47 = .ok (.iload 6, 2) := by decide +kernel
theorem d_TC_get_49 : decode prog_1_method_22_code 49 = .ok (.ifCond .lt 73, 3) := by decide +kernel
theorem d_TC_get_52 : decode prog_1_method_22_code 52 = .ok (.aload 5, 2) := by decide +kernel
theorem d_TC_get_54 : decode prog_1_method_22_code 54 = .ok (.iload 7, 2) := by decide +kernel
theorem d_TC_get_56 : decode prog_1_method_22_code 56 = .ok (.invokevirtual 80, 3) := by decide +kernel
theorem d_TC_get_59 : decode prog_1_method_22_code 59 = .ok (.checkcast 12, 3) := by decide +kernel
theorem d_TC_get_62 : decode prog_1_method_22_code 62 = .ok (.astore 8, 2) := by decide +kernel
theorem d_TC_get_64 : decode prog_1_method_22_code 64 = .ok (.aload 8, 2) := by decide +kernel
theorem d_TC_get_66 : decode prog_1_method_22_code 66 = .ok (.getfield 87, 3) := by decide +kernel
theorem d_TC_get_69 : decode prog_1_method_22_code 69 = .ok (.iload_n 2, 1) := by decide +kernel
theorem d_TC_get_70 : decode prog_1_method_22_code 70 = .ok (.if_icmp .ne 46, 3) := by decide +kernel
theorem d_TC_get_73 : decode prog_1_method_22_code 73 = .ok (.aload_n 0, 1) := by decide +kernel
theorem d_TC_get_74 : decode prog_1_method_22_code 74 = .ok (.aload 8, 2) := by decide +kernel
theorem d_TC_get_76 : decode prog_1_method_22_code 76 = .ok (.invokevirtual 158, 3) := by decide +kernel
theorem d_TC_get_79 : decode prog_1_method_22_code 79 = .ok (.ifCond .eq 37, 3) := by decide +kernel
theorem d_TC_get_82 : decode prog_1_method_22_code 82 = .ok (.aload 8, 2) := by decide +kernel
theorem d_TC_get_84 : decode prog_1_method_22_code 84 = .ok (.getfield 94, 3) := by decide +kernel
theorem d_TC_get_87 : decode prog_1_method_22_code 87 = .ok (.iload_n 3, 1) := by decide +kernel
theorem d_TC_get_88 : decode prog_1_method_22_code 88 = .ok (.if_icmp .gt 28, 3) := by decide +kernel
theorem d_TC_get_91 : decode prog_1_method_22_code 91 = .ok (.iload 6, 2) := by decide +kernel
theorem d_TC_get_93 : decode prog_1_method_22_code 93 = .ok (.ifCond .ne 20, 3) := by decide +kernel
theorem d_TC_get_96 : decode prog_1_method_22_code 96 = .ok (.ldc2_w 225, 3) := by decide +kernel
theorem d_TC_get_99 : decode prog_1_method_22_code 99 = .ok (.aload 8, 2) := by decide +kernel
theorem d_TC_get_101 : decode prog_1_method_22_code 101 = .ok (.getfield 94, 3) := by decide +kernel
theorem d_TC_get_104 : decode prog_1_method_22_code 104 = .ok (.i2l, 1) := by decide +kernel
theorem d_TC_get_105 : decode prog_1_method_22_code 105 = .ok (.lmul, 1) := by decide +kernel
theorem d_TC_get_106 : decode prog_1_method_22_code 106 = .ok (.aload 8, 2) := by decide +kernel
theorem d_TC_get_108 : decode prog_1_method_22_code 108 = .ok (.invokevirtual 227, 3) := by decide +kernel
theorem d_TC_get_111 : decode prog_1_method_22_code 111 = .ok (.ladd, 1) := by decide +kernel
theorem d_TC_get_112 : decode prog_1_method_22_code 112 = .ok (.lreturn, 1) := by decide +kernel
theorem d_TC_get_113 : decode prog_1_method_22_code 113 = .ok (.iinc 6 (-1), 3) := by decide +kernel
theorem d_TC_get_116 : decode prog_1_method_22_code 116 = .ok (.iinc 7 1, 3) := by decide +kernel
theorem d_TC_get_119 : decode prog_1_method_22_code 119 = .ok (.goto (-82), 3) := by decide +kernel
theorem d_TC_get_122 : decode prog_1_method_22_code 122 = .ok (.ldc2_w 220, 3) := by decide +kernel
theorem d_TC_get_125 : decode prog_1_method_22_code 125 = .ok (.lreturn, 1) := by decide +kernel
theorem d_TC_scan_0 : decode prog_1_method_23_code 0 = .ok (.iload_n 3, 1) := by decide +kernel
theorem d_TC_scan_1 : decode prog_1_method_23_code 1 = .ok (.iconst (-1), 1) := by decide +kernel
theorem d_TC_scan_2 : decode prog_1_method_23_code 2 = .ok (.if_icmp .lt 9, 3) := by decide +kernel
theorem d_TC_scan_5 : decode prog_1_method_23_code 5 = .ok (.iload_n 3, 1) := by decide +kernel
theorem d_TC_scan_6 : decode prog_1_method_23_code 6 = .ok (.bipush 8, 2) := by decide +kernel
theorem d_TC_scan_8 : decode prog_1_method_23_code 8 = .ok (.if_icmp .lt 5, 3) := by decide +kernel
theorem d_TC_scan_11 : decode prog_1_method_23_code 11 = .ok (.iconst (-1), 1) := by decide +kernel
theorem d_TC_scan_12 : decode prog_1_method_23_code 12 = .ok (.ireturn, 1) := by decide +kernel
theorem d_TC_scan_13 : decode prog_1_method_23_code 13 = .ok (.aload_n 0, 1) := by decide +kernel
theorem d_TC_scan_14 : decode prog_1_method_23_code 14 = .ok (.getfield 55, 3) := by decide +kernel
theorem d_TC_scan_17 : decode prog_1_method_23_code 17 = .ok (.invokevirtual 208, 3) := by decide +kernel
theorem d_TC_scan_20 : decode prog_1_method_23_code 20 = .ok (.iconst 0, 1) := by decide +kernel
theorem d_TC_scan_21 : decode prog_1_method_23_code 21 = .ok (.iload_n 1, 1) := by decide +kernel
theorem d_TC_scan_22 : decode prog_1_method_23_code 22 = .ok (.invokestatic 67, 3) := by decide +kernel
theorem d_TC_scan_25 : decode prog_1_method_23_code 25 = .ok (.istore 6, 2) := by decide +kernel
theorem d_TC_scan_27 : decode prog_1_method_23_code 27 = .ok (.iload 6, 2) := by decide +kernel
theorem d_TC_scan_29 : decode prog_1_method_23_code 29 = .ok (.bipush 63, 2) := by decide +kernel
theorem d_TC_scan_31 : decode prog_1_method_23_code 31 = .ok (.iload_n 2, 1) := by decide +kernel
theorem d_TC_scan_32 : decode prog_1_method_23_code 32 = .ok (.invokestatic 61, 3) := by decide +kernel
theorem d_TC_scan_35 : decode prog_1_method_23_code 35 = .ok (.if_icmp .gt 107, 3) := by decide +kernel
theorem d_TC_scan_38 : decode prog_1_method_23_code 38 = .ok (.aload_n 0, 1) := by decide +kernel
theorem d_TC_scan_39 : decode prog_1_method_23_code 39 = .ok (.iload 6, 2) := by decide +kernel
theorem d_TC_scan_41 : decode prog_1_method_23_code 41 = .ok (.invokevirtual 222, 3) := by decide +kernel
theorem d_TC_scan_44 : decode prog_1_method_23_code 44 = .ok (.aload_n 0, 1) := by decide +kernel
theorem d_TC_scan_45 : decode prog_1_method_23_code 45 = .ok (.iload 6, 2) := by decide +kernel
theorem d_TC_scan_47 : decode prog_1_method_23_code 47 = .ok (.invokevirtual 154, 3) := by decide +kernel
theorem d_TC_scan_50 : decode prog_1_method_23_code 50 = .ok (.astore 7, 2) := by decide +kernel
theorem d_TC_scan_52 : decode prog_1_method_23_code 52 = .ok (.iconst 0, 1) := by decide +kernel
theorem d_TC_scan_53 : decode prog_1_method_23_code 53 = .ok (.istore 8, 2) := by decide +kernel
theorem d_TC_scan_55 : decode prog_1_method_23_code 55 = .ok (.iload 8, 2) := by decide +kernel
theorem d_TC_scan_57 : decode prog_1_method_23_code 57 = .ok (.aload 7, 2) := by decide +kernel
theorem d_TC_scan_59 : decode prog_1_method_23_code 59 = .ok (.invokevirtual 79, 3) := by decide +kernel
theorem d_TC_scan_62 : decode prog_1_method_23_code 62 = .ok (.if_icmp .ge 74, 3) := by decide +kernel
theorem d_TC_scan_65 : decode prog_1_method_23_code 65 = .ok (.aload 7, 2) := by decide +kernel
theorem d_TC_scan_67 : decode prog_1_method_23_code 67 = .ok (.iload 8, 2) := by decide +kernel
theorem d_TC_scan_69 : decode prog_1_method_23_code 69 = .ok (.invokevirtual 80, 3) := by decide +kernel
theorem d_TC_scan_72 : decode prog_1_method_23_code 72 = .ok (.checkcast 12, 3) := by decide +kernel
theorem d_TC_scan_75 : decode prog_1_method_23_code 75 = .ok (.astore 9, 2) := by decide +kernel
theorem d_TC_scan_77 : decode prog_1_method_23_code 77 = .ok (.aload_n 0, 1) := by decide +kernel
theorem d_TC_scan_78 : decode prog_1_method_23_code 78 = .ok (.aload 9, 2) := by decide +kernel
theorem d_TC_scan_80 : decode prog_1_method_23_code 80 = .ok (.invokevirtual 158, 3) := by decide +kernel
theorem d_TC_scan_83 : decode prog_1_method_23_code 83 = .ok (.ifCond .eq 47, 3) := by decide +kernel
theorem d_TC_scan_86 : decode prog_1_method_23_code 86 = .ok (.iload_n 3, 1) := by decide +kernel
theorem d_TC_scan_87 : decode prog_1_method_23_code 87 = .ok (.iconst (-1), 1) := by decide +kernel
theorem d_TC_scan_88 : decode prog_1_method_23_code 88 = .ok (.if_icmp .eq 12, 3) := by decide +kernel
theorem d_TC_scan_91 : decode prog_1_method_23_code 91 = .ok (.aload 9, 2) := by decide +kernel
theorem d_TC_scan_93 : decode prog_1_method_23_code 93 = .ok (.getfield 87, 3) := by decide +kernel
theorem d_TC_scan_96 : decode prog_1_method_23_code 96 = .ok (.iload_n 3, 1) := by decide +kernel
theorem d_TC_scan_97 : decode prog_1_method_23_code 97 = .ok (.if_icmp .ne 33, 3) := by decide +kernel
theorem d_TC_scan_100 : decode prog_1_method_23_code 100 = .ok (.aload 9, 2) := by decide +kernel
theorem d_TC_scan_102 : decode prog_1_method_23_code 102 = .ok (.getfield 94, 3) := by decide +kernel
theorem d_TC_scan_105 : decode prog_1_method_23_code 105 = .ok (.iload 4, 2) := by decide +kernel
theorem d_TC_scan_107 : decode prog_1_method_23_code 107 = .ok (.if_icmp .lt 23, 3) := by decide +kernel
theorem d_TC_scan_110 : decode prog_1_method_23_code 110 = .ok (.aload 9, 2) := by decide +kernel
theorem d_TC_scan_112 : decode prog_1_method_23_code 112 = .ok (.getfield 94, 3) := by decide +kernel
theorem d_TC_scan_115 : decode prog_1_method_23_code 115 = .ok (.iload 5, 2) := by decide +kernel
theorem d_TC_scan_117 : decode prog_1_method_23_code 117 = .ok (.if_icmp .gt 13, 3) := by decide +kernel
theorem d_TC_scan_120 : decode prog_1_method_23_code 120 = .ok (.aload_n 0, 1) := by decide +kernel
theorem d_TC_scan_121 : decode prog_1_method_23_code 121 = .ok (.getfield 55, 3) := by decide +kernel
theorem d_TC_scan_124 : decode prog_1_method_23_code 124 = .ok (.aload 9, 2) := by decide +kernel
theorem d_TC_scan_126 : decode prog_1_method_23_code 126 = .ok (.invokevirtual 75, 3) := by decide +kernel
theorem d_TC_scan_129 : decode prog_1_method_23_code 129 = .ok (.pop, 1) := by decide +kernel
theorem d_TC_scan_130 : decode prog_1_method_23_code 130 = .ok (.iinc 8 1, 3) := by decide +kernel
theorem d_TC_scan_133 : decode prog_1_method_23_code 133 = .ok (.goto (-78), 3) := by decide +kernel
theorem d_TC_scan_136 : decode prog_1_method_23_code 136 = .ok (.iinc 6 1, 3) := by decide +kernel
theorem d_TC_scan_139 : decode prog_1_method_23_code 139 = .ok (.goto (-112), 3) := by decide +kernel
theorem d_TC_scan_142 : decode prog_1_method_23_code 142 = .ok (.aload_n 0, 1) := by decide +kernel
theorem d_TC_scan_143 : decode prog_1_method_23_code 143 = .ok (.getfield 55, 3) := by decide +kernel
theorem d_TC_scan_146 : decode prog_1_method_23_code 146 = .ok (.invokevirtual 79, 3) := by decide +kernel
theorem d_TC_scan_149 : decode prog_1_method_23_code 149 = .ok (.ireturn, 1) := by decide +kernel
theorem d_TC_found_0 : decode prog_1_method_24_code 0 = .ok (.iload_n 1, 1) := by decide +kernel
theorem d_TC_found_1 : decode prog_1_method_24_code 1 = .ok (.ifCond .lt 14, 3) := by decide +kernel
theorem d_TC_found_4 : decode prog_1_method_24_code 4 = .ok (.iload_n 1, 1) := by decide +kernel
theorem d_TC_found_5 : decode prog_1_method_24_code 5 = .ok (.aload_n 0, 1) := by decide +kernel
theorem d_TC_found_6 : decode prog_1_method_24_code 6 = .ok (.getfield 55, 3) := by decide +kernel
theorem d_TC_found_9 : decode prog_1_method_24_code 9 = .ok (.invokevirtual 79, 3) := by decide +kernel
theorem d_TC_found_12 : decode prog_1_method_24_code 12 = .ok (.if_icmp .lt 7, 3) := by decide +kernel
theorem d_TC_found_15 : decode prog_1_method_24_code 15 = .ok (.ldc2_w 220, 3) := by decide +kernel
theorem d_TC_found_18 : decode prog_1_method_24_code 18 = .ok (.lreturn, 1) := by decide +kernel
theorem d_TC_found_19 : decode prog_1_method_24_code 19 = .ok (.aload_n 0, 1) := by decide +kernel
theorem d_TC_found_20 : decode prog_1_method_24_code 20 = .ok (.getfield 55, 3) := by decide +kernel
theorem d_TC_found_23 : decode prog_1_method_24_code 23 = .ok (.iload_n 1, 1) := by decide +kernel
theorem d_TC_found_24 : decode prog_1_method_24_code 24 = .ok (.invokevirtual 80, 3) := by decide +kernel
theorem d_TC_found_27 : decode prog_1_method_24_code 27 = .ok (.checkcast 12, 3) := by decide +kernel
theorem d_TC_found_30 : decode prog_1_method_24_code 30 = .ok (.astore_n 2, 1) := by decide +kernel
theorem d_TC_found_31 : decode prog_1_method_24_code 31 = .ok (.ldc2_w 225, 3) := by decide +kernel
theorem d_TC_found_34 : decode prog_1_method_24_code 34 = .ok (.ldc2_w 231, 3) := by decide +kernel
theorem d_TC_found_37 : decode prog_1_method_24_code 37 = .ok (.aload_n 2, 1) := by decide +kernel
theorem d_TC_found_38 : decode prog_1_method_24_code 38 = .ok (.getfield 11, 3) := by decide +kernel
theorem d_TC_found_41 : decode prog_1_method_24_code 41 = .ok (.i2l, 1) := by decide +kernel
theorem d_TC_found_42 : decode prog_1_method_24_code 42 = .ok (.lmul, 1) := by decide +kernel
theorem d_TC_found_43 : decode prog_1_method_24_code 43 = .ok (.ldc2_w 233, 3) := by decide +kernel
theorem d_TC_found_46 : decode prog_1_method_24_code 46 = .ok (.aload_n 2, 1) := by decide +kernel
theorem d_TC_found_47 : decode prog_1_method_24_code 47 = .ok (.getfield 87, 3) := by decide +kernel
theorem d_TC_found_50 : decode prog_1_method_24_code 50 = .ok (.i2l, 1) := by decide +kernel
theorem d_TC_found_51 : decode prog_1_method_24_code 51 = .ok (.lmul, 1) := by decide +kernel
theorem d_TC_found_52 : decode prog_1_method_24_code 52 = .ok (.ladd, 1) := by decide +kernel
theorem d_TC_found_53 : decode prog_1_method_24_code 53 = .ok (.aload_n 2, 1) := by decide +kernel
theorem d_TC_found_54 : decode prog_1_method_24_code 54 = .ok (.getfield 94, 3) := by decide +kernel
theorem d_TC_found_57 : decode prog_1_method_24_code 57 = .ok (.i2l, 1) := by decide +kernel
theorem d_TC_found_58 : decode prog_1_method_24_code 58 = .ok (.ladd, 1) := by decide +kernel
theorem d_TC_found_59 : decode prog_1_method_24_code 59 = .ok (.lmul, 1) := by decide +kernel
theorem d_TC_found_60 : decode prog_1_method_24_code 60 = .ok (.aload_n 2, 1) := by decide +kernel
theorem d_TC_found_61 : decode prog_1_method_24_code 61 = .ok (.invokevirtual 227, 3) := by decide +kernel
theorem d_TC_found_64 : decode prog_1_method_24_code 64 = .ok (.ladd, 1) := by decide +kernel
theorem d_TC_found_65 : decode prog_1_method_24_code 65 = .ok (.lreturn, 1) := by decide +kernel
theorem d_TC_leaveLog_0 : decode prog_1_method_25_code 0 = .ok (.aload_n 0, 1) := by decide +kernel
theorem d_TC_leaveLog_1 : decode prog_1_method_25_code 1 = .ok (.getfield 58, 3) := by decide +kernel
theorem d_TC_leaveLog_4 : decode prog_1_method_25_code 4 = .ok (.aload_n 1, 1) := by decide +kernel
theorem d_TC_leaveLog_5 : decode prog_1_method_25_code 5 = .ok (.getfield 171, 3) := by decide +kernel
theorem d_TC_leaveLog_8 : decode prog_1_method_25_code 8 = .ok (.dup2, 1) := by decide +kernel
theorem d_TC_leaveLog_9 : decode prog_1_method_25_code 9 = .ok (.iaload, 1) := by decide +kernel
theorem d_TC_leaveLog_10 : decode prog_1_method_25_code 10 = .ok (.iconst 1, 1) := by decide +kernel
theorem d_TC_leaveLog_11 : decode prog_1_method_25_code 11 = .ok (.isub, 1) := by decide +kernel
theorem d_TC_leaveLog_12 : decode prog_1_method_25_code 12 = .ok (.iastore, 1) := by decide +kernel
theorem d_TC_leaveLog_13 : decode prog_1_method_25_code 13 = .ok (.aload_n 0, 1) := by decide +kernel
theorem d_TC_leaveLog_14 : decode prog_1_method_25_code 14 = .ok (.dup, 1) := by decide +kernel
theorem d_TC_leaveLog_15 : decode prog_1_method_25_code 15 = .ok (.getfield 192, 3) := by decide +kernel
theorem d_TC_leaveLog_18 : decode prog_1_method_25_code 18 = .ok (.aload_n 0, 1) := by decide +kernel
theorem d_TC_leaveLog_19 : decode prog_1_method_25_code 19 = .ok (.getfield 58, 3) := by decide +kernel
theorem d_TC_leaveLog_22 : decode prog_1_method_25_code 22 = .ok (.aload_n 1, 1) := by decide +kernel
theorem d_TC_leaveLog_23 : decode prog_1_method_25_code 23 = .ok (.getfield 171, 3) := by decide +kernel
theorem d_TC_leaveLog_26 : decode prog_1_method_25_code 26 = .ok (.iaload, 1) := by decide +kernel
theorem d_TC_leaveLog_27 : decode prog_1_method_25_code 27 = .ok (.ifCond .ne 7, 3) := by decide +kernel
theorem d_TC_leaveLog_30 : decode prog_1_method_25_code 30 = .ok (.iconst 1, 1) := by decide +kernel
theorem d_TC_leaveLog_31 : decode prog_1_method_25_code 31 = .ok (.goto 4, 3) := by decide +kernel
theorem d_TC_leaveLog_34 : decode prog_1_method_25_code 34 = .ok (.iconst 0, 1) := by decide +kernel
theorem d_TC_leaveLog_35 : decode prog_1_method_25_code 35 = .ok (.isub, 1) := by decide +kernel
theorem d_TC_leaveLog_36 : decode prog_1_method_25_code 36 = .ok (.putfield 192, 3) := by decide +kernel
theorem d_TC_leaveLog_39 : decode prog_1_method_25_code 39 = .ok (.return_, 1) := by decide +kernel
theorem d_TC_drain_0 : decode prog_1_method_26_code 0 = .ok (.aload_n 1, 1) := by decide +kernel
theorem d_TC_drain_1 : decode prog_1_method_26_code 1 = .ok (.getfield 107, 3) := by decide +kernel
theorem d_TC_drain_4 : decode prog_1_method_26_code 4 = .ok (.invokevirtual 203, 3) := by decide +kernel
theorem d_TC_drain_7 : decode prog_1_method_26_code 7 = .ok (.istore_n 2, 1) := by decide +kernel
theorem d_TC_drain_8 : decode prog_1_method_26_code 8 = .ok (.iload_n 2, 1) := by decide +kernel
theorem d_TC_drain_9 : decode prog_1_method_26_code 9 = .ok (.ifCond .ne 5, 3) := by decide +kernel
theorem d_TC_drain_12 : decode prog_1_method_26_code 12 = .ok (.iconst 0, 1) := by decide +kernel
theorem d_TC_drain_13 : decode prog_1_method_26_code 13 = .ok (.ireturn, 1) := by decide +kernel
theorem d_TC_drain_14 : decode prog_1_method_26_code 14 = .ok (.iconst 0, 1) := by decide +kernel
theorem d_TC_drain_15 : decode prog_1_method_26_code 15 = .ok (.istore_n 3, 1) := by decide +kernel
theorem d_TC_drain_16 : decode prog_1_method_26_code 16 = .ok (.iload_n 3, 1) := by decide +kernel
theorem d_TC_drain_17 : decode prog_1_method_26_code 17 = .ok (.iload_n 2, 1) := by decide +kernel
theorem d_TC_drain_18 : decode prog_1_method_26_code 18 = .ok (.if_icmp .ge 21, 3) := by decide +kernel
theorem d_TC_drain_21 : decode prog_1_method_26_code 21 = .ok (.aload_n 0, 1) := by decide +kernel
theorem d_TC_drain_22 : decode prog_1_method_26_code 22 = .ok (.aload_n 1, 1) := by decide +kernel
theorem d_TC_drain_23 : decode prog_1_method_26_code 23 = .ok (.getfield 107, 3) := by decide +kernel
theorem d_TC_drain_26 : decode prog_1_method_26_code 26 = .ok (.iload_n 3, 1) := by decide +kernel
theorem d_TC_drain_27 : decode prog_1_method_26_code 27 = .ok (.invokevirtual 235, 3) := by decide +kernel
theorem d_TC_drain_30 : decode prog_1_method_26_code 30 = .ok (.invokevirtual 236, 3) := by decide +kernel
theorem d_TC_drain_33 : decode prog_1_method_26_code 33 = .ok (.iinc 3 1, 3) := by decide +kernel
theorem d_TC_drain_36 : decode prog_1_method_26_code 36 = .ok (.goto (-20), 3) := by decide +kernel
theorem d_TC_drain_39 : decode prog_1_method_26_code 39 = .ok (.aload_n 1, 1) := by decide +kernel
theorem d_TC_drain_40 : decode prog_1_method_26_code 40 = .ok (.getfield 114, 3) := by decide +kernel
theorem d_TC_drain_43 : decode prog_1_method_26_code 43 = .ok (.new 214, 3) := by decide +kernel
theorem d_TC_drain_46 : decode prog_1_method_26_code 46 = .ok (.dup, 1) := by decide +kernel
theorem d_TC_drain_47 : decode prog_1_method_26_code 47 = .ok (.aload_n 1, 1) := by decide +kernel
theorem d_TC_drain_48 : decode prog_1_method_26_code 48 = .ok (.getfield 107, 3) := by decide +kernel
theorem d_TC_drain_51 : decode prog_1_method_26_code 51 = .ok (.getfield 239, 3) := by decide +kernel
theorem d_TC_drain_54 : decode prog_1_method_26_code 54 = .ok (.invokespecial 241, 3) := by decide +kernel
theorem d_TC_drain_57 : decode prog_1_method_26_code 57 = .ok (.invokevirtual 75, 3) := by decide +kernel
theorem d_TC_drain_60 : decode prog_1_method_26_code 60 = .ok (.pop, 1) := by decide +kernel
theorem d_TC_drain_61 : decode prog_1_method_26_code 61 = .ok (.aload_n 1, 1) := by decide +kernel
theorem d_TC_drain_62 : decode prog_1_method_26_code 62 = .ok (.new 174, 3) := by decide +kernel
theorem d_TC_drain_65 : decode prog_1_method_26_code 65 = .ok (.dup, 1) := by decide +kernel
theorem d_TC_drain_66 : decode prog_1_method_26_code 66 = .ok (.invokespecial 244, 3) := by decide +kernel
theorem d_TC_drain_69 : decode prog_1_method_26_code 69 = .ok (.putfield 107, 3) := by decide +kernel
theorem d_TC_drain_72 : decode prog_1_method_26_code 72 = .ok (.iload_n 2, 1) := by decide +kernel
theorem d_TC_drain_73 : decode prog_1_method_26_code 73 = .ok (.ireturn, 1) := by decide +kernel
theorem d_TC_flush_0 : decode prog_1_method_27_code 0 = .ok (.aload_n 0, 1) := by decide +kernel
theorem d_TC_flush_1 : decode prog_1_method_27_code 1 = .ok (.iload_n 1, 1) := by decide +kernel
theorem d_TC_flush_2 : decode prog_1_method_27_code 2 = .ok (.invokevirtual 245, 3) := by decide +kernel
theorem d_TC_flush_5 : decode prog_1_method_27_code 5 = .ok (.astore_n 2, 1) := by decide +kernel
theorem d_TC_flush_6 : decode prog_1_method_27_code 6 = .ok (.aload_n 2, 1) := by decide +kernel
theorem d_TC_flush_7 : decode prog_1_method_27_code 7 = .ok (.ifnonnull 7, 3) := by decide +kernel
theorem d_TC_flush_10 : decode prog_1_method_27_code 10 = .ok (.iconst (-1), 1) := by decide +kernel
theorem d_TC_flush_11 : decode prog_1_method_27_code 11 = .ok (.goto 8, 3) := by decide +kernel
theorem d_TC_flush_14 : decode prog_1_method_27_code 14 = .ok (.aload_n 0, 1) := by decide +kernel
theorem d_TC_flush_15 : decode prog_1_method_27_code 15 = .ok (.aload_n 2, 1) := by decide +kernel
theorem d_TC_flush_16 : decode prog_1_method_27_code 16 = .ok (.invokevirtual 204, 3) := by decide +kernel
theorem d_TC_flush_19 : decode prog_1_method_27_code 19 = .ok (.ireturn, 1) := by decide +kernel
theorem d_TC_unite_0 : decode prog_1_method_28_code 0 = .ok (.aload_n 1, 1) := by decide +kernel
theorem d_TC_unite_1 : decode prog_1_method_28_code 1 = .ok (.getfield 114, 3) := by decide +kernel
theorem d_TC_unite_4 : decode prog_1_method_28_code 4 = .ok (.invokevirtual 79, 3) := by decide +kernel
theorem d_TC_unite_7 : decode prog_1_method_28_code 7 = .ok (.iload_n 2, 1) := by decide +kernel
theorem d_TC_unite_8 : decode prog_1_method_28_code 8 = .ok (.isub, 1) := by decide +kernel
theorem d_TC_unite_9 : decode prog_1_method_28_code 9 = .ok (.istore 4, 2) := by decide +kernel
theorem d_TC_unite_11 : decode prog_1_method_28_code 11 = .ok (.aload_n 0, 1) := by decide +kernel
theorem d_TC_unite_12 : decode prog_1_method_28_code 12 = .ok (.getfield 48, 3) := by decide +kernel
theorem d_TC_unite_15 : decode prog_1_method_28_code 15 = .ok (.invokevirtual 104, 3) := by decide +kernel
theorem d_TC_unite_18 : decode prog_1_method_28_code 18 = .ok (.iload 4, 2) := by decide +kernel
theorem d_TC_unite_20 : decode prog_1_method_28_code 20 = .ok (.istore 5, 2) := by decide +kernel
theorem d_TC_unite_22 : decode prog_1_method_28_code 22 = .ok (.iload 5, 2) := by decide +kernel
theorem d_TC_unite_24 : decode prog_1_method_28_code 24 = .ok (.aload_n 1, 1) := by decide +kernel
theorem d_TC_unite_25 : decode prog_1_method_28_code 25 = .ok (.getfield 114, 3) := by decide +kernel
theorem d_TC_unite_28 : decode prog_1_method_28_code 28 = .ok (.invokevirtual 79, 3) := by decide +kernel
theorem d_TC_unite_31 : decode prog_1_method_28_code 31 = .ok (.if_icmp .ge 28, 3) := by decide +kernel
theorem d_TC_unite_34 : decode prog_1_method_28_code 34 = .ok (.aload_n 0, 1) := by decide +kernel
theorem d_TC_unite_35 : decode prog_1_method_28_code 35 = .ok (.getfield 48, 3) := by decide +kernel
theorem d_TC_unite_38 : decode prog_1_method_28_code 38 = .ok (.aload_n 1, 1) := by decide +kernel
theorem d_TC_unite_39 : decode prog_1_method_28_code 39 = .ok (.getfield 114, 3) := by decide +kernel
theorem d_TC_unite_42 : decode prog_1_method_28_code 42 = .ok (.iload 5, 2) := by decide +kernel
theorem d_TC_unite_44 : decode prog_1_method_28_code 44 = .ok (.invokevirtual 80, 3) := by decide +kernel
theorem d_TC_unite_47 : decode prog_1_method_28_code 47 = .ok (.checkcast 2, 3) := by decide +kernel
theorem d_TC_unite_50 : decode prog_1_method_28_code 50 = .ok (.invokevirtual 111, 3) := by decide +kernel
theorem d_TC_unite_53 : decode prog_1_method_28_code 53 = .ok (.iinc 5 1, 3) := by decide +kernel
theorem d_TC_unite_56 : decode prog_1_method_28_code 56 = .ok (.goto (-34), 3) := by decide +kernel
theorem d_TC_unite_59 : decode prog_1_method_28_code 59 = .ok (.aload_n 0, 1) := by decide +kernel
theorem d_TC_unite_60 : decode prog_1_method_28_code 60 = .ok (.getfield 48, 3) := by decide +kernel
theorem d_TC_unite_63 : decode prog_1_method_28_code 63 = .ok (.iconst 0, 1) := by decide +kernel
theorem d_TC_unite_64 : decode prog_1_method_28_code 64 = .ok (.bipush 64, 2) := by decide +kernel
theorem d_TC_unite_66 : decode prog_1_method_28_code 66 = .ok (.invokevirtual 117, 3) := by decide +kernel
theorem d_TC_unite_69 : decode prog_1_method_28_code 69 = .ok (.astore 5, 2) := by decide +kernel
theorem d_TC_unite_71 : decode prog_1_method_28_code 71 = .ok (.aload_n 0, 1) := by decide +kernel
theorem d_TC_unite_72 : decode prog_1_method_28_code 72 = .ok (.getfield 52, 3) := by decide +kernel
theorem d_TC_unite_75 : decode prog_1_method_28_code 75 = .ok (.invokevirtual 208, 3) := by decide +kernel
theorem d_TC_unite_78 : decode prog_1_method_28_code 78 = .ok (.iconst 0, 1) := by decide +kernel
theorem d_TC_unite_79 : decode prog_1_method_28_code 79 = .ok (.istore 6, 2) := by decide +kernel
theorem d_TC_unite_81 : decode prog_1_method_28_code 81 = .ok (.iload 6, 2) := by decide +kernel
theorem d_TC_unite_83 : decode prog_1_method_28_code 83 = .ok (.aload 5, 2) := by decide +kernel
theorem d_TC_unite_85 : decode prog_1_method_28_code 85 = .ok (.invokevirtual 79, 3) := by decide +kernel
theorem d_TC_unite_88 : decode prog_1_method_28_code 88 = .ok (.if_icmp .ge 55, 3) := by decide +kernel
theorem d_TC_unite_91 : decode prog_1_method_28_code 91 = .ok (.aload 5, 2) := by decide +kernel
theorem d_TC_unite_93 : decode prog_1_method_28_code 93 = .ok (.iload 6, 2) := by decide +kernel
theorem d_TC_unite_95 : decode prog_1_method_28_code 95 = .ok (.invokevirtual 80, 3) := by decide +kernel
theorem d_TC_unite_98 : decode prog_1_method_28_code 98 = .ok (.checkcast 12, 3) := by decide +kernel
theorem d_TC_unite_101 : decode prog_1_method_28_code 101 = .ok (.astore 7, 2) := by decide +kernel
theorem d_TC_unite_103 : decode prog_1_method_28_code 103 = .ok (.aload 7, 2) := by decide +kernel
theorem d_TC_unite_105 : decode prog_1_method_28_code 105 = .ok (.getfield 90, 3) := by decide +kernel
theorem d_TC_unite_108 : decode prog_1_method_28_code 108 = .ok (.ifCond .eq 15, 3) := by decide +kernel
theorem d_TC_unite_111 : decode prog_1_method_28_code 111 = .ok (.aload_n 0, 1) := by decide +kernel
theorem d_TC_unite_112 : decode prog_1_method_28_code 112 = .ok (.aload 7, 2) := by decide +kernel
theorem d_TC_unite_114 : decode prog_1_method_28_code 114 = .ok (.invokevirtual 158, 3) := by decide +kernel
theorem d_TC_unite_117 : decode prog_1_method_28_code 117 = .ok (.ifCond .eq 20, 3) := by decide +kernel
theorem d_TC_unite_120 : decode prog_1_method_28_code 120 = .ok (.goto 7, 3) := by decide +kernel
theorem d_TC_unite_123 : decode prog_1_method_28_code 123 = .ok (.iload_n 3, 1) := by decide +kernel
theorem d_TC_unite_124 : decode prog_1_method_28_code 124 = .ok (.ifCond .ne 13, 3) := by decide +kernel
theorem d_TC_unite_127 : decode prog_1_method_28_code 127 = .ok (.aload_n 0, 1) := by decide +kernel
theorem d_TC_unite_128 : decode prog_1_method_28_code 128 = .ok (.getfield 52, 3) := by decide +kernel
theorem d_TC_unite_131 : decode prog_1_method_28_code 131 = .ok (.aload 7, 2) := by decide +kernel
theorem d_TC_unite_133 : decode prog_1_method_28_code 133 = .ok (.invokevirtual 75, 3) := by decide +kernel
theorem d_TC_unite_136 : decode prog_1_method_28_code 136 = .ok (.pop, 1) := by decide +kernel
theorem d_TC_unite_137 : decode prog_1_method_28_code 137 = .ok (.iinc 6 1, 3) := by decide +kernel
theorem d_TC_unite_140 : decode prog_1_method_28_code 140 = .ok (.goto (-59), 3) := by decide +kernel
theorem d_TC_unite_143 : decode prog_1_method_28_code 143 = .ok (.aload_n 1, 1) := by decide +kernel
theorem d_TC_unite_144 : decode prog_1_method_28_code 144 = .ok (.getfield 114, 3) := by decide +kernel
theorem d_TC_unite_147 : decode prog_1_method_28_code 147 = .ok (.invokevirtual 79, 3) := by decide +kernel
theorem d_TC_unite_150 : decode prog_1_method_28_code 150 = .ok (.iconst 1, 1) := by decide +kernel
theorem d_TC_unite_151 : decode prog_1_method_28_code 151 = .ok (.isub, 1) := by decide +kernel
theorem d_TC_unite_152 : decode prog_1_method_28_code 152 = .ok (.istore 6, 2) := by decide +kernel
theorem d_TC_unite_154 : decode prog_1_method_28_code 154 = .ok (.iload 6, 2) := by decide +kernel
theorem d_TC_unite_156 : decode prog_1_method_28_code 156 = .ok (.iload 4, 2) := by decide +kernel
theorem d_TC_unite_158 : decode prog_1_method_28_code 158 = .ok (.if_icmp .lt 19, 3) := by decide +kernel
theorem d_TC_unite_161 : decode prog_1_method_28_code 161 = .ok (.aload_n 1, 1) := by decide +kernel
theorem d_TC_unite_162 : decode prog_1_method_28_code 162 = .ok (.getfield 114, 3) := by decide +kernel
theorem d_TC_unite_165 : decode prog_1_method_28_code 165 = .ok (.iload 6, 2) := by decide +kernel
theorem d_TC_unite_167 : decode prog_1_method_28_code 167 = .ok (.invokevirtual 248, 3) := by decide +kernel
theorem d_TC_unite_170 : decode prog_1_method_28_code 170 = .ok (.pop, 1) := by decide +kernel
theorem d_TC_unite_171 : decode prog_1_method_28_code 171 = .ok (.iinc 6 (-1), 3) := by decide +kernel
theorem d_TC_unite_174 : decode prog_1_method_28_code 174 = .ok (.goto (-20), 3) := by decide +kernel
theorem d_TC_unite_177 : decode prog_1_method_28_code 177 = .ok (.aload_n 0, 1) := by decide +kernel
theorem d_TC_unite_178 : decode prog_1_method_28_code 178 = .ok (.getfield 52, 3) := by decide +kernel
theorem d_TC_unite_181 : decode prog_1_method_28_code 181 = .ok (.invokevirtual 121, 3) := by decide +kernel
theorem d_TC_unite_184 : decode prog_1_method_28_code 184 = .ok (.ifCond .ne 22, 3) := by decide +kernel
theorem d_TC_unite_187 : decode prog_1_method_28_code 187 = .ok (.aload_n 1, 1) := by decide +kernel
theorem d_TC_unite_188 : decode prog_1_method_28_code 188 = .ok (.getfield 114, 3) := by decide +kernel
theorem d_TC_unite_191 : decode prog_1_method_28_code 191 = .ok (.new 214, 3) := by decide +kernel
theorem d_TC_unite_194 : decode prog_1_method_28_code 194 = .ok (.dup, 1) := by decide +kernel
theorem d_TC_unite_195 : decode prog_1_method_28_code 195 = .ok (.aload_n 0, 1) := by decide +kernel
theorem d_TC_unite_196 : decode prog_1_method_28_code 196 = .ok (.getfield 52, 3) := by decide +kernel
theorem d_TC_unite_199 : decode prog_1_method_28_code 199 = .ok (.invokespecial 241, 3) := by decide +kernel
theorem d_TC_unite_202 : decode prog_1_method_28_code 202 = .ok (.invokevirtual 75, 3) := by decide +kernel
theorem d_TC_unite_205 : decode prog_1_method_28_code 205 = .ok (.pop, 1) := by decide +kernel
theorem d_TC_unite_206 : decode prog_1_method_28_code 206 = .ok (.aload_n 0, 1) := by decide +kernel
theorem d_TC_unite_207 : decode prog_1_method_28_code 207 = .ok (.getfield 52, 3) := by decide +kernel
theorem d_TC_unite_210 : decode prog_1_method_28_code 210 = .ok (.invokevirtual 79, 3) := by decide +kernel
theorem d_TC_unite_213 : decode prog_1_method_28_code 213 = .ok (.ireturn, 1) := by decide +kernel
theorem d_TC_compact_0 : decode prog_1_method_29_code 0 = .ok (.aload_n 0, 1) := by decide +kernel
theorem d_TC_compact_1 : decode prog_1_method_29_code 1 = .ok (.iload_n 1, 1) := by decide +kernel
theorem d_TC_compact_2 : decode prog_1_method_29_code 2 = .ok (.invokevirtual 245, 3) := by decide +kernel
theorem d_TC_compact_5 : decode prog_1_method_29_code 5 = .ok (.astore_n 3, 1) := by decide +kernel
theorem d_TC_compact_6 : decode prog_1_method_29_code 6 = .ok (.aload_n 3, 1) := by decide +kernel
theorem d_TC_compact_7 : decode prog_1_method_29_code 7 = .ok (.ifnull 19, 3) := by decide +kernel
theorem d_TC_compact_10 : decode prog_1_method_29_code 10 = .ok (.iload_n 2, 1) := by decide +kernel
theorem d_TC_compact_11 : decode prog_1_method_29_code 11 = .ok (.iconst 2, 1) := by decide +kernel
theorem d_TC_compact_12 : decode prog_1_method_29_code 12 = .ok (.if_icmp .lt 14, 3) := by decide +kernel
theorem d_TC_compact_15 : decode prog_1_method_29_code 15 = .ok (.iload_n 2, 1) := by decide +kernel
theorem d_TC_compact_16 : decode prog_1_method_29_code 16 = .ok (.aload_n 3, 1) := by decide +kernel
theorem d_TC_compact_17 : decode prog_1_method_29_code 17 = .ok (.getfield 114, 3) := by decide +kernel
theorem d_TC_compact_20 : decode prog_1_method_29_code 20 = .ok (.invokevirtual 79, 3) := by decide +kernel
theorem d_TC_compact_23 : decode prog_1_method_29_code 23 = .ok (.if_icmp .le 7, 3) := by decide +kernel
theorem d_TC_compact_26 : decode prog_1_method_29_code 26 = .ok (.iconst (-1), 1) := by decide +kernel
theorem d_TC_compact_27 : decode prog_1_method_29_code 27 = .ok (.goto 10, 3) := by decide +kernel
theorem d_TC_compact_30 : decode prog_1_method_29_code 30 = .ok (.aload_n 0, 1) := by decide +kernel
theorem d_TC_compact_31 : decode prog_1_method_29_code 31 = .ok (.aload_n 3, 1) := by decide +kernel
theorem d_TC_compact_32 : decode prog_1_method_29_code 32 = .ok (.iload_n 2, 1) := by decide +kernel
theorem d_TC_compact_33 : decode prog_1_method_29_code 33 = .ok (.iconst 0, 1) := by decide +kernel
theorem d_TC_compact_34 : decode prog_1_method_29_code 34 = .ok (.invokevirtual 251, 3) := by decide +kernel
theorem d_TC_compact_37 : decode prog_1_method_29_code 37 = .ok (.ireturn, 1) := by decide +kernel
theorem d_TC_major_0 : decode prog_1_method_30_code 0 = .ok (.aload_n 0, 1) := by decide +kernel
theorem d_TC_major_1 : decode prog_1_method_30_code 1 = .ok (.iload_n 1, 1) := by decide +kernel
theorem d_TC_major_2 : decode prog_1_method_30_code 2 = .ok (.invokevirtual 245, 3) := by decide +kernel
theorem d_TC_major_5 : decode prog_1_method_30_code 5 = .ok (.astore_n 2, 1) := by decide +kernel
theorem d_TC_major_6 : decode prog_1_method_30_code 6 = .ok (.aload_n 2, 1) := by decide +kernel
theorem d_TC_major_7 : decode prog_1_method_30_code 7 = .ok (.ifnonnull 5, 3) := by decide +kernel
theorem d_TC_major_10 : decode prog_1_method_30_code 10 = .ok (.iconst (-1), 1) := by decide +kernel
theorem d_TC_major_11 : decode prog_1_method_30_code 11 = .ok (.ireturn, 1) := by decide +kernel
theorem d_TC_major_12 : decode prog_1_method_30_code 12 = .ok (.aload_n 0, 1) := by decide +kernel
theorem d_TC_major_13 : decode prog_1_method_30_code 13 = .ok (.aload_n 2, 1) := by decide +kernel
theorem d_TC_major_14 : decode prog_1_method_30_code 14 = .ok (.invokevirtual 204, 3) := by decide +kernel
theorem d_TC_major_17 : decode prog_1_method_30_code 17 = .ok (.pop, 1) := by decide +kernel
theorem d_TC_major_18 : decode prog_1_method_30_code 18 = .ok (.aload_n 0, 1) := by decide +kernel
theorem d_TC_major_19 : decode prog_1_method_30_code 19 = .ok (.aload_n 2, 1) := by decide +kernel
theorem d_TC_major_20 : decode prog_1_method_30_code 20 = .ok (.aload_n 2, 1) := by decide +kernel
theorem d_TC_major_21 : decode prog_1_method_30_code 21 = .ok (.getfield 114, 3) := by decide +kernel
theorem d_TC_major_24 : decode prog_1_method_30_code 24 = .ok (.invokevirtual 79, 3) := by decide +kernel
theorem d_TC_major_27 : decode prog_1_method_30_code 27 = .ok (.iconst 1, 1) := by decide +kernel
theorem d_TC_major_28 : decode prog_1_method_30_code 28 = .ok (.invokevirtual 251, 3) := by decide +kernel
theorem d_TC_major_31 : decode prog_1_method_30_code 31 = .ok (.ireturn, 1) := by decide +kernel
theorem d_TC_addPart_0 : decode prog_1_method_31_code 0 = .ok (.aload_n 2, 1) := by decide +kernel
theorem d_TC_addPart_1 : decode prog_1_method_31_code 1 = .ok (.iload_n 3, 1) := by decide +kernel
theorem d_TC_addPart_2 : decode prog_1_method_31_code 2 = .ok (.invokestatic 255, 3) := by decide +kernel
theorem d_TC_addPart_5 : decode prog_1_method_31_code 5 = .ok (.istore 5, 2) := by decide +kernel
theorem d_TC_addPart_7 : decode prog_1_method_31_code 7 = .ok (.aload_n 2, 1) := by decide +kernel
theorem d_TC_addPart_8 : decode prog_1_method_31_code 8 = .ok (.iload 4, 2) := by decide +kernel
theorem d_TC_addPart_10 : decode prog_1_method_31_code 10 = .ok (.iconst 1, 1) := by decide +kernel
theorem d_TC_addPart_11 : decode prog_1_method_31_code 11 = .ok (.iadd, 1) := by decide +kernel
theorem d_TC_addPart_12 : decode prog_1_method_31_code 12 = .ok (.invokestatic 255, 3) := by decide +kernel
theorem d_TC_addPart_15 : decode prog_1_method_31_code 15 = .ok (.istore 6, 2) := by decide +kernel
theorem d_TC_addPart_17 : decode prog_1_method_31_code 17 = .ok (.iload 5, 2) := by decide +kernel
theorem d_TC_addPart_19 : decode prog_1_method_31_code 19 = .ok (.ifCond .ne 22, 3) := by decide +kernel
theorem d_TC_addPart_22 : decode prog_1_method_31_code 22 = .ok (.iload 6, 2) := by decide +kernel
theorem d_TC_addPart_24 : decode prog_1_method_31_code 24 = .ok (.aload_n 2, 1) := by decide +kernel
theorem d_TC_addPart_25 : decode prog_1_method_31_code 25 = .ok (.invokevirtual 259, 3) := by decide +kernel
theorem d_TC_addPart_28 : decode prog_1_method_31_code 28 = .ok (.if_icmp .ne 13, 3) := by decide +kernel
theorem d_TC_addPart_31 : decode prog_1_method_31_code 31 = .ok (.aload_n 1, 1) := by decide +kernel
theorem d_TC_addPart_32 : decode prog_1_method_31_code 32 = .ok (.getfield 114, 3) := by decide +kernel
theorem d_TC_addPart_35 : decode prog_1_method_31_code 35 = .ok (.aload_n 2, 1) := by decide +kernel
theorem d_TC_addPart_36 : decode prog_1_method_31_code 36 = .ok (.invokevirtual 75, 3) := by decide +kernel
theorem d_TC_addPart_39 : decode prog_1_method_31_code 39 = .ok (.pop, 1) := by decide +kernel
theorem d_TC_addPart_40 : decode prog_1_method_31_code 40 = .ok (.return_, 1) := by decide +kernel
theorem d_TC_addPart_41 : decode prog_1_method_31_code 41 = .ok (.aload_n 0, 1) := by decide +kernel
theorem d_TC_addPart_42 : decode prog_1_method_31_code 42 = .ok (.getfield 52, 3) := by decide +kernel
theorem d_TC_addPart_45 : decode prog_1_method_31_code 45 = .ok (.invokevirtual 208, 3) := by decide +kernel
theorem d_TC_addPart_48 : decode prog_1_method_31_code 48 = .ok (.iload 5, 2) := by decide +kernel
theorem d_TC_addPart_50 : decode prog_1_method_31_code 50 = .ok (.istore 7, 2) := by decide +kernel
theorem d_TC_addPart_52 : decode prog_1_method_31_code 52 = .ok (.iload 7, 2) := by decide +kernel
theorem d_TC_addPart_54 : decode prog_1_method_31_code 54 = .ok (.iload 6, 2) := by decide +kernel
theorem d_TC_addPart_56 : decode prog_1_method_31_code 56 = .ok (.if_icmp .ge 23, 3) := by decide +kernel
theorem d_TC_addPart_59 : decode prog_1_method_31_code 59 = .ok (.aload_n 0, 1) := by decide +kernel
theorem d_TC_addPart_60 : decode prog_1_method_31_code 60 = .ok (.getfield 52, 3) := by decide +kernel
theorem d_TC_addPart_63 : decode prog_1_method_31_code 63 = .ok (.aload_n 2, 1) := by decide +kernel
theorem d_TC_addPart_64 : decode prog_1_method_31_code 64 = .ok (.iload 7, 2) := by decide +kernel
theorem d_TC_addPart_66 : decode prog_1_method_31_code 66 = .ok (.invokevirtual 260, 3) := by decide +kernel
theorem d_TC_addPart_69 : decode prog_1_method_31_code 69 = .ok (.invokevirtual 75, 3) := by decide +kernel
theorem d_TC_addPart_72 : decode prog_1_method_31_code 72 = .ok (.pop, 1) := by decide +kernel
theorem d_TC_addPart_73 : decode prog_1_method_31_code 73 = .ok (.iinc 7 1, 3) := by decide +kernel
theorem d_TC_addPart_76 : decode prog_1_method_31_code 76 = .ok (.goto (-24), 3) := by decide +kernel
theorem d_TC_addPart_79 : decode prog_1_method_31_code 79 = .ok (.aload_n 0, 1) := by decide +kernel
theorem d_TC_addPart_80 : decode prog_1_method_31_code 80 = .ok (.getfield 52, 3) := by decide +kernel
theorem d_TC_addPart_83 : decode prog_1_method_31_code 83 = .ok (.invokevirtual 121, 3) := by decide +kernel
theorem d_TC_addPart_86 : decode prog_1_method_31_code 86 = .ok (.ifCond .ne 22, 3) := by decide +kernel
theorem d_TC_addPart_89 : decode prog_1_method_31_code 89 = .ok (.aload_n 1, 1) := by decide +kernel
theorem d_TC_addPart_90 : decode prog_1_method_31_code 90 = .ok (.getfield 114, 3) := by decide +kernel
theorem d_TC_addPart_93 : decode prog_1_method_31_code 93 = .ok (.new 214, 3) := by decide +kernel
theorem d_TC_addPart_96 : decode prog_1_method_31_code 96 = .ok (.dup, 1) := by decide +kernel
theorem d_TC_addPart_97 : decode prog_1_method_31_code 97 = .ok (.aload_n 0, 1) := by decide +kernel
theorem d_TC_addPart_98 : decode prog_1_method_31_code 98 = .ok (.getfield 52, 3) := by decide +kernel
theorem d_TC_addPart_101 : decode prog_1_method_31_code 101 = .ok (.invokespecial 241, 3) := by decide +kernel
theorem d_TC_addPart_104 : decode prog_1_method_31_code 104 = .ok (.invokevirtual 75, 3) := by decide +kernel
theorem d_TC_addPart_107 : decode prog_1_method_31_code 107 = .ok (.pop, 1) := by decide +kernel
theorem d_TC_addPart_108 : decode prog_1_method_31_code 108 = .ok (.return_, 1) := by decide +kernel
theorem d_TC_split_0 : decode prog_1_method_32_code 0 = .ok (.aload_n 0, 1) := by decide +kernel
theorem d_TC_split_1 : decode prog_1_method_32_code 1 = .ok (.iload_n 1, 1) := by decide +kernel
theorem d_TC_split_2 : decode prog_1_method_32_code 2 = .ok (.invokevirtual 245, 3) := by decide +kernel
theorem d_TC_split_5 : decode prog_1_method_32_code 5 = .ok (.astore_n 3, 1) := by decide +kernel
theorem d_TC_split_6 : decode prog_1_method_32_code 6 = .ok (.aload_n 3, 1) := by decide +kernel
theorem d_TC_split_7 : decode prog_1_method_32_code 7 = .ok (.ifnull 31, 3) := by decide +kernel
theorem d_TC_split_10 : decode prog_1_method_32_code 10 = .ok (.iload_n 2, 1) := by decide +kernel
theorem d_TC_split_11 : decode prog_1_method_32_code 11 = .ok (.aload_n 3, 1) := by decide +kernel
theorem d_TC_split_12 : decode prog_1_method_32_code 12 = .ok (.getfield 261, 3) := by decide +kernel
theorem d_TC_split_15 : decode prog_1_method_32_code 15 = .ok (.if_icmp .le 23, 3) := by decide +kernel
theorem d_TC_split_18 : decode prog_1_method_32_code 18 = .ok (.iload_n 2, 1) := by decide +kernel
theorem d_TC_split_19 : decode prog_1_method_32_code 19 = .ok (.aload_n 3, 1) := by decide +kernel
theorem d_TC_split_20 : decode prog_1_method_32_code 20 = .ok (.getfield 84, 3) := by decide +kernel
theorem d_TC_split_23 : decode prog_1_method_32_code 23 = .ok (.if_icmp .gt 15, 3) := by decide +kernel
theorem d_TC_split_26 : decode prog_1_method_32_code 26 = .ok (.aload_n 0, 1) := by decide +kernel
theorem d_TC_split_27 : decode prog_1_method_32_code 27 = .ok (.getfield 35, 3) := by decide +kernel
theorem d_TC_split_30 : decode prog_1_method_32_code 30 = .ok (.invokevirtual 79, 3) := by decide +kernel
theorem d_TC_split_33 : decode prog_1_method_32_code 33 = .ok (.bipush 8, 2) := by decide +kernel
theorem d_TC_split_35 : decode prog_1_method_32_code 35 = .ok (.if_icmp .lt 5, 3) := by decide +kernel
theorem d_TC_split_38 : decode prog_1_method_32_code 38 = .ok (.iconst 0, 1) := by decide +kernel
theorem d_TC_split_39 : decode prog_1_method_32_code 39 = .ok (.ireturn, 1) := by decide +kernel
theorem d_TC_split_40 : decode prog_1_method_32_code 40 = .ok (.new 70, 3) := by decide +kernel
theorem d_TC_split_43 : decode prog_1_method_32_code 43 = .ok (.dup, 1) := by decide +kernel
theorem d_TC_split_44 : decode prog_1_method_32_code 44 = .ok (.aload_n 3, 1) := by decide +kernel
theorem d_TC_split_45 : decode prog_1_method_32_code 45 = .ok (.getfield 261, 3) := by decide +kernel
theorem d_TC_split_48 : decode prog_1_method_32_code 48 = .ok (.iload_n 2, 1) := by decide +kernel
theorem d_TC_split_49 : decode prog_1_method_32_code 49 = .ok (.iconst 1, 1) := by decide +kernel
theorem d_TC_split_50 : decode prog_1_method_32_code 50 = .ok (.isub, 1) := by decide +kernel
theorem d_TC_split_51 : decode prog_1_method_32_code 51 = .ok (.invokespecial 72, 3) := by decide +kernel
theorem d_TC_split_54 : decode prog_1_method_32_code 54 = .ok (.astore 4, 2) := by decide +kernel
theorem d_TC_split_56 : decode prog_1_method_32_code 56 = .ok (.new 70, 3) := by decide +kernel
theorem d_TC_split_59 : decode prog_1_method_32_code 59 = .ok (.dup, 1) := by decide +kernel
theorem d_TC_split_60 : decode prog_1_method_32_code 60 = .ok (.iload_n 2, 1) := by decide +kernel
theorem d_TC_split_61 : decode prog_1_method_32_code 61 = .ok (.aload_n 3, 1) := by decide +kernel
theorem d_TC_split_62 : decode prog_1_method_32_code 62 = .ok (.getfield 84, 3) := by decide +kernel
theorem d_TC_split_65 : decode prog_1_method_32_code 65 = .ok (.invokespecial 72, 3) := by decide +kernel
theorem d_TC_split_68 : decode prog_1_method_32_code 68 = .ok (.astore 5, 2) := by decide +kernel
theorem d_TC_split_70 : decode prog_1_method_32_code 70 = .ok (.iconst 0, 1) := by decide +kernel
theorem d_TC_split_71 : decode prog_1_method_32_code 71 = .ok (.istore 6, 2) := by decide +kernel
theorem d_TC_split_73 : decode prog_1_method_32_code 73 = .ok (.iload 6, 2) := by decide +kernel
theorem d_TC_split_75 : decode prog_1_method_32_code 75 = .ok (.aload_n 3, 1) := by decide +kernel
theorem d_TC_split_76 : decode prog_1_method_32_code 76 = .ok (.getfield 107, 3) := by decide +kernel
theorem d_TC_split_79 : decode prog_1_method_32_code 79 = .ok (.invokevirtual 203, 3) := by decide +kernel
theorem d_TC_split_82 : decode prog_1_method_32_code 82 = .ok (.if_icmp .ge 44, 3) := by decide +kernel
theorem d_TC_split_85 : decode prog_1_method_32_code 85 = .ok (.aload_n 3, 1) := by decide +kernel
theorem d_TC_split_86 : decode prog_1_method_32_code 86 = .ok (.getfield 107, 3) := by decide +kernel
theorem d_TC_split_89 : decode prog_1_method_32_code 89 = .ok (.iload 6, 2) := by decide +kernel
theorem d_TC_split_91 : decode prog_1_method_32_code 91 = .ok (.invokevirtual 235, 3) := by decide +kernel
theorem d_TC_split_94 : decode prog_1_method_32_code 94 = .ok (.astore 7, 2) := by decide +kernel
theorem d_TC_split_96 : decode prog_1_method_32_code 96 = .ok (.aload 7, 2) := by decide +kernel
theorem d_TC_split_98 : decode prog_1_method_32_code 98 = .ok (.getfield 11, 3) := by decide +kernel
theorem d_TC_split_101 : decode prog_1_method_32_code 101 = .ok (.iload_n 2, 1) := by decide +kernel
theorem d_TC_split_102 : decode prog_1_method_32_code 102 = .ok (.if_icmp .ge 8, 3) := by decide +kernel
theorem d_TC_split_105 : decode prog_1_method_32_code 105 = .ok (.aload 4, 2) := by decide +kernel
theorem d_TC_split_107 : decode prog_1_method_32_code 107 = .ok (.goto 5, 3) := by decide +kernel
theorem d_TC_split_110 : decode prog_1_method_32_code 110 = .ok (.aload 5, 2) := by decide +kernel
theorem d_TC_split_112 : decode prog_1_method_32_code 112 = .ok (.getfield 107, 3) := by decide +kernel
theorem d_TC_split_115 : decode prog_1_method_32_code 115 = .ok (.aload 7, 2) := by decide +kernel
theorem d_TC_split_117 : decode prog_1_method_32_code 117 = .ok (.invokevirtual 173, 3) := by decide +kernel
theorem d_TC_split_120 : decode prog_1_method_32_code 120 = .ok (.iinc 6 1, 3) := by decide +kernel
theorem d_TC_split_123 : decode prog_1_method_32_code 123 = .ok (.goto (-50), 3) := by decide +kernel
theorem d_TC_split_126 : decode prog_1_method_32_code 126 = .ok (.iconst 0, 1) := by decide +kernel
theorem d_TC_split_127 : decode prog_1_method_32_code 127 = .ok (.istore 6, 2) := by decide +kernel
theorem d_TC_split_129 : decode prog_1_method_32_code 129 = .ok (.iload 6, 2) := by decide +kernel
theorem d_TC_split_131 : decode prog_1_method_32_code 131 = .ok (.aload_n 3, 1) := by decide +kernel
theorem d_TC_split_132 : decode prog_1_method_32_code 132 = .ok (.getfield 114, 3) := by decide +kernel
theorem d_TC_split_135 : decode prog_1_method_32_code 135 = .ok (.invokevirtual 79, 3) := by decide +kernel
theorem d_TC_split_138 : decode prog_1_method_32_code 138 = .ok (.if_icmp .ge 65, 3) := by decide +kernel
theorem d_TC_split_141 : decode prog_1_method_32_code 141 = .ok (.aload_n 0, 1) := by decide +kernel
theorem d_TC_split_142 : decode prog_1_method_32_code 142 = .ok (.aload 4, 2) := by decide +kernel
theorem d_TC_split_144 : decode prog_1_method_32_code 144 = .ok (.aload_n 3, 1) := by decide +kernel
theorem d_TC_split_145 : decode prog_1_method_32_code 145 = .ok (.getfield 114, 3) := by decide +kernel
theorem d_TC_split_148 : decode prog_1_method_32_code 148 = .ok (.iload 6, 2) := by decide +kernel
theorem d_TC_split_150 : decode prog_1_method_32_code 150 = .ok (.invokevirtual 80, 3) := by decide +kernel
theorem d_TC_split_153 : decode prog_1_method_32_code 153 = .ok (.checkcast 214, 3) := by decide +kernel
theorem d_TC_split_156 : decode prog_1_method_32_code 156 = .ok (.aload 4, 2) := by decide +kernel
theorem d_TC_split_158 : decode prog_1_method_32_code 158 = .ok (.getfield 261, 3) := by decide +kernel
theorem d_TC_split_161 : decode prog_1_method_32_code 161 = .ok (.aload 4, 2) := by decide +kernel
theorem d_TC_split_163 : decode prog_1_method_32_code 163 = .ok (.getfield 84, 3) := by decide +kernel
theorem d_TC_split_166 : decode prog_1_method_32_code 166 = .ok (.invokevirtual 264, 3) := by decide +kernel
theorem d_TC_split_169 : decode prog_1_method_32_code 169 = .ok (.aload_n 0, 1) := by decide +kernel
theorem d_TC_split_170 : decode prog_1_method_32_code 170 = .ok (.aload 5, 2) := by decide +kernel
theorem d_TC_split_172 : decode prog_1_method_32_code 172 = .ok (.aload_n 3, 1) := by decide +kernel
theorem d_TC_split_173 : decode prog_1_method_32_code 173 = .ok (.getfield 114, 3) := by decide +kernel
theorem d_TC_split_176 : decode prog_1_method_32_code 176 = .ok (.iload 6, 2) := by decide +kernel
theorem d_TC_split_178 : decode prog_1_method_32_code 178 = .ok (.invokevirtual 80, 3) := by decide +kernel
theorem d_TC_split_181 : decode prog_1_method_32_code 181 = .ok (.checkcast 214, 3) := by decide +kernel
theorem d_TC_split_184 : decode prog_1_method_32_code 184 = .ok (.aload 5, 2) := by decide +kernel
theorem d_TC_split_186 : decode prog_1_method_32_code 186 = .ok (.getfield 261, 3) := by decide +kernel
theorem d_TC_split_189 : decode prog_1_method_32_code 189 = .ok (.aload 5, 2) := by decide +kernel
theorem d_TC_split_191 : decode prog_1_method_32_code 191 = .ok (.getfield 84, 3) := by decide +kernel
theorem d_TC_split_194 : decode prog_1_method_32_code 194 = .ok (.invokevirtual 264, 3) := by decide +kernel
theorem d_TC_split_197 : decode prog_1_method_32_code 197 = .ok (.iinc 6 1, 3) := by decide +kernel
theorem d_TC_split_200 : decode prog_1_method_32_code 200 = .ok (.goto (-71), 3) := by decide +kernel
theorem d_TC_split_203 : decode prog_1_method_32_code 203 = .ok (.aload_n 0, 1) := by decide +kernel
theorem d_TC_split_204 : decode prog_1_method_32_code 204 = .ok (.getfield 35, 3) := by decide +kernel
theorem d_TC_split_207 : decode prog_1_method_32_code 207 = .ok (.iload_n 1, 1) := by decide +kernel
theorem d_TC_split_208 : decode prog_1_method_32_code 208 = .ok (.aload 4, 2) := by decide +kernel
theorem d_TC_split_210 : decode prog_1_method_32_code 210 = .ok (.invokevirtual 268, 3) := by decide +kernel
theorem d_TC_split_213 : decode prog_1_method_32_code 213 = .ok (.pop, 1) := by decide +kernel
theorem d_TC_split_214 : decode prog_1_method_32_code 214 = .ok (.aload_n 0, 1) := by decide +kernel
theorem d_TC_split_215 : decode prog_1_method_32_code 215 = .ok (.getfield 35, 3) := by decide +kernel
theorem d_TC_split_218 : decode prog_1_method_32_code 218 = .ok (.iload_n 1, 1) := by decide +kernel
theorem d_TC_split_219 : decode prog_1_method_32_code 219 = .ok (.iconst 1, 1) := by decide +kernel
theorem d_TC_split_220 : decode prog_1_method_32_code 220 = .ok (.iadd, 1) := by decide +kernel
theorem d_TC_split_221 : decode prog_1_method_32_code 221 = .ok (.aload 5, 2) := by decide +kernel
theorem d_TC_split_223 : decode prog_1_method_32_code 223 = .ok (.invokevirtual 272, 3) := by decide +kernel
theorem d_TC_split_226 : decode prog_1_method_32_code 226 = .ok (.iconst 1, 1) := by decide +kernel
theorem d_TC_split_227 : decode prog_1_method_32_code 227 = .ok (.ireturn, 1) := by decide +kernel
theorem d_TC_join_0 : decode prog_1_method_33_code 0 = .ok (.iload_n 1, 1) := by decide +kernel
theorem d_TC_join_1 : decode prog_1_method_33_code 1 = .ok (.ifCond .lt 16, 3) := by decide +kernel
theorem d_TC_join_4 : decode prog_1_method_33_code 4 = .ok (.iload_n 1, 1) := by decide +kernel
theorem d_TC_join_5 : decode prog_1_method_33_code 5 = .ok (.aload_n 0, 1) := by decide +kernel
theorem d_TC_join_6 : decode prog_1_method_33_code 6 = .ok (.getfield 35, 3) := by decide +kernel
theorem d_TC_join_9 : decode prog_1_method_33_code 9 = .ok (.invokevirtual 79, 3) := by decide +kernel
theorem d_TC_join_12 : decode prog_1_method_33_code 12 = .ok (.iconst 1, 1) := by decide +kernel
theorem d_TC_join_13 : decode prog_1_method_33_code 13 = .ok (.isub, 1) := by decide +kernel
theorem d_TC_join_14 : decode prog_1_method_33_code 14 = .ok (.if_icmp .lt 5, 3) := by decide +kernel
theorem d_TC_join_17 : decode prog_1_method_33_code 17 = .ok (.iconst 0, 1) := by decide +kernel
theorem d_TC_join_18 : decode prog_1_method_33_code 18 = .ok (.ireturn, 1) := by decide +kernel
theorem d_TC_join_19 : decode prog_1_method_33_code 19 = .ok (.aload_n 0, 1) := by decide +kernel
theorem d_TC_join_20 : decode prog_1_method_33_code 20 = .ok (.getfield 35, 3) := by decide +kernel
theorem d_TC_join_23 : decode prog_1_method_33_code 23 = .ok (.iload_n 1, 1) := by decide +kernel
theorem d_TC_join_24 : decode prog_1_method_33_code 24 = .ok (.invokevirtual 80, 3) := by decide +kernel
theorem d_TC_join_27 : decode prog_1_method_33_code 27 = .ok (.checkcast 70, 3) := by decide +kernel
theorem d_TC_join_30 : decode prog_1_method_33_code 30 = .ok (.astore_n 2, 1) := by decide +kernel
theorem d_TC_join_31 : decode prog_1_method_33_code 31 = .ok (.aload_n 0, 1) := by decide +kernel
theorem d_TC_join_32 : decode prog_1_method_33_code 32 = .ok (.getfield 35, 3) := by decide +kernel
theorem d_TC_join_35 : decode prog_1_method_33_code 35 = .ok (.iload_n 1, 1) := by decide +kernel
theorem d_TC_join_36 : decode prog_1_method_33_code 36 = .ok (.iconst 1, 1) := by decide +kernel
theorem d_TC_join_37 : decode prog_1_method_33_code 37 = .ok (.iadd, 1) := by decide +kernel
theorem d_TC_join_38 : decode prog_1_method_33_code 38 = .ok (.invokevirtual 80, 3) := by decide +kernel
theorem d_TC_join_41 : decode prog_1_method_33_code 41 = .ok (.checkcast 70, 3) := by decide +kernel
theorem d_TC_join_44 : decode prog_1_method_33_code 44 = .ok (.astore_n 3, 1) := by decide +kernel
theorem d_TC_join_45 : decode prog_1_method_33_code 45 = .ok (.aload_n 2, 1) := by decide +kernel
theorem d_TC_join_46 : decode prog_1_method_33_code 46 = .ok (.aload_n 3, 1) := by decide +kernel
theorem d_TC_join_47 : decode prog_1_method_33_code 47 = .ok (.getfield 84, 3) := by decide +kernel
theorem d_TC_join_50 : decode prog_1_method_33_code 50 = .ok (.putfield 84, 3) := by decide +kernel
theorem d_TC_join_53 : decode prog_1_method_33_code 53 = .ok (.iconst 0, 1) := by decide +kernel
theorem d_TC_join_54 : decode prog_1_method_33_code 54 = .ok (.istore 4, 2) := by decide +kernel
theorem d_TC_join_56 : decode prog_1_method_33_code 56 = .ok (.iload 4, 2) := by decide +kernel
theorem d_TC_join_58 : decode prog_1_method_33_code 58 = .ok (.aload_n 3, 1) := by decide +kernel
theorem d_TC_join_59 : decode prog_1_method_33_code 59 = .ok (.getfield 107, 3) := by decide +kernel
theorem d_TC_join_62 : decode prog_1_method_33_code 62 = .ok (.invokevirtual 203, 3) := by decide +kernel
theorem d_TC_join_65 : decode prog_1_method_33_code 65 = .ok (.if_icmp .ge 25, 3) := by decide +kernel
theorem d_TC_join_68 : decode prog_1_method_33_code 68 = .ok (.aload_n 2, 1) := by decide +kernel
theorem d_TC_join_69 : decode prog_1_method_33_code 69 = .ok (.getfield 107, 3) := by decide +kernel
theorem d_TC_join_72 : decode prog_1_method_33_code 72 = .ok (.aload_n 3, 1) := by decide +kernel
theorem d_TC_join_73 : decode prog_1_method_33_code 73 = .ok (.getfield 107, 3) := by decide +kernel
theorem d_TC_join_76 : decode prog_1_method_33_code 76 = .ok (.iload 4, 2) := by decide +kernel
theorem d_TC_join_78 : decode prog_1_method_33_code 78 = .ok (.invokevirtual 235, 3) := by decide +kernel
theorem d_TC_join_81 : decode prog_1_method_33_code 81 = .ok (.invokevirtual 173, 3) := by decide +kernel
theorem d_TC_join_84 : decode prog_1_method_33_code 84 = .ok (.iinc 4 1, 3) := by decide +kernel
theorem d_TC_join_87 : decode prog_1_method_33_code 87 = .ok (.goto (-31), 3) := by decide +kernel
theorem d_TC_join_90 : decode prog_1_method_33_code 90 = .ok (.iconst 0, 1) := by decide +kernel
theorem d_TC_join_91 : decode prog_1_method_33_code 91 = .ok (.istore 4, 2) := by decide +kernel
theorem d_TC_join_93 : decode prog_1_method_33_code 93 = .ok (.iload 4, 2) := by decide +kernel
theorem d_TC_join_95 : decode prog_1_method_33_code 95 = .ok (.aload_n 3, 1) := by decide +kernel
theorem d_TC_join_96 : decode prog_1_method_33_code 96 = .ok (.getfield 114, 3) := by decide +kernel
theorem d_TC_join_99 : decode prog_1_method_33_code 99 = .ok (.invokevirtual 79, 3) := by decide +kernel
theorem d_TC_join_102 : decode prog_1_method_33_code 102 = .ok (.if_icmp .ge 29, 3) := by decide +kernel
theorem d_TC_join_105 : decode prog_1_method_33_code 105 = .ok (.aload_n 2, 1) := by decide +kernel
theorem d_TC_join_106 : decode prog_1_method_33_code 106 = .ok (.getfield 114, 3) := by decide +kernel
theorem d_TC_join_109 : decode prog_1_method_33_code 109 = .ok (.aload_n 3, 1) := by decide +kernel
theorem d_TC_join_110 : decode prog_1_method_33_code 110 = .ok (.getfield 114, 3) := by decide +kernel
theorem d_TC_join_113 : decode prog_1_method_33_code 113 = .ok (.iload 4, 2) := by decide +kernel
theorem d_TC_join_115 : decode prog_1_method_33_code 115 = .ok (.invokevirtual 80, 3) := by decide +kernel
theorem d_TC_join_118 : decode prog_1_method_33_code 118 = .ok (.checkcast 214, 3) := by decide +kernel
theorem d_TC_join_121 : decode prog_1_method_33_code 121 = .ok (.invokevirtual 75, 3) := by decide +kernel
theorem d_TC_join_124 : decode prog_1_method_33_code 124 = .ok (.pop, 1) := by decide +kernel
theorem d_TC_join_125 : decode prog_1_method_33_code 125 = .ok (.iinc 4 1, 3) := by decide +kernel
theorem d_TC_join_128 : decode prog_1_method_33_code 128 = .ok (.goto (-35), 3) := by decide +kernel
theorem d_TC_join_131 : decode prog_1_method_33_code 131 = .ok (.aload_n 0, 1) := by decide +kernel
theorem d_TC_join_132 : decode prog_1_method_33_code 132 = .ok (.getfield 35, 3) := by decide +kernel
theorem d_TC_join_135 : decode prog_1_method_33_code 135 = .ok (.iload_n 1, 1) := by decide +kernel
theorem d_TC_join_136 : decode prog_1_method_33_code 136 = .ok (.iconst 1, 1) := by decide +kernel
theorem d_TC_join_137 : decode prog_1_method_33_code 137 = .ok (.iadd, 1) := by decide +kernel
theorem d_TC_join_138 : decode prog_1_method_33_code 138 = .ok (.invokevirtual 248, 3) := by decide +kernel
theorem d_TC_join_141 : decode prog_1_method_33_code 141 = .ok (.pop, 1) := by decide +kernel
theorem d_TC_join_142 : decode prog_1_method_33_code 142 = .ok (.iconst 1, 1) := by decide +kernel
theorem d_TC_join_143 : decode prog_1_method_33_code 143 = .ok (.ireturn, 1) := by decide +kernel
theorem d_TC_tablet_0 : decode prog_1_method_34_code 0 = .ok (.aload_n 0, 1) := by decide +kernel
theorem d_TC_tablet_1 : decode prog_1_method_34_code 1 = .ok (.iload_n 1, 1) := by decide +kernel
theorem d_TC_tablet_2 : decode prog_1_method_34_code 2 = .ok (.invokevirtual 245, 3) := by decide +kernel
theorem d_TC_tablet_5 : decode prog_1_method_34_code 5 = .ok (.astore_n 3, 1) := by decide +kernel
theorem d_TC_tablet_6 : decode prog_1_method_34_code 6 = .ok (.aload_n 3, 1) := by decide +kernel
theorem d_TC_tablet_7 : decode prog_1_method_34_code 7 = .ok (.ifnonnull 5, 3) := by decide +kernel
theorem d_TC_tablet_10 : decode prog_1_method_34_code 10 = .ok (.iconst (-1), 1) := by decide +kernel
theorem d_TC_tablet_11 : decode prog_1_method_34_code 11 = .ok (.ireturn, 1) := by decide +kernel
theorem d_TC_tablet_12 : decode prog_1_method_34_code 12 = .ok (.iload_n 2, 1) := by decide +kernel
theorem d_TC_tablet_13 : decode prog_1_method_34_code 13 = .ok (.tableswitch 57 0 3 #[31, 36, 41, 49], 31) := by decide +kernel
theorem d_TC_tablet_44 : decode prog_1_method_34_code 44 = .ok (.aload_n 3, 1) := by decide +kernel
theorem d_TC_tablet_45 : decode prog_1_method_34_code 45 = .ok (.getfield 261, 3) := by decide +kernel
theorem d_TC_tablet_48 : decode prog_1_method_34_code 48 = .ok (.ireturn, 1) := by decide +kernel
theorem d_TC_tablet_49 : decode prog_1_method_34_code 49 = .ok (.aload_n 3, 1) := by decide +kernel
theorem d_TC_tablet_50 : decode prog_1_method_34_code 50 = .ok (.getfield 84, 3) := by decide +kernel
theorem d_TC_tablet_53 : decode prog_1_method_34_code 53 = .ok (.ireturn, 1) := by decide +kernel
theorem d_TC_tablet_54 : decode prog_1_method_34_code 54 = .ok (.aload_n 3, 1) := by decide +kernel
theorem d_TC_tablet_55 : decode prog_1_method_34_code 55 = .ok (.getfield 114, 3) := by decide +kernel
theorem d_TC_tablet_58 : decode prog_1_method_34_code 58 = .ok (.invokevirtual 79, 3) := by decide +kernel
theorem d_TC_tablet_61 : decode prog_1_method_34_code 61 = .ok (.ireturn, 1) := by decide +kernel
theorem d_TC_tablet_62 : decode prog_1_method_34_code 62 = .ok (.aload_n 3, 1) := by decide +kernel
theorem d_TC_tablet_63 : decode prog_1_method_34_code 63 = .ok (.getfield 107, 3) := by decide +kernel
theorem d_TC_tablet_66 : decode prog_1_method_34_code 66 = .ok (.invokevirtual 203, 3) := by decide +kernel
theorem d_TC_tablet_69 : decode prog_1_method_34_code 69 = .ok (.ireturn, 1) := by decide +kernel
theorem d_TC_tablet_70 : decode prog_1_method_34_code 70 = .ok (.iconst (-1), 1) := by decide +kernel
theorem d_TC_tablet_71 : decode prog_1_method_34_code 71 = .ok (.ireturn, 1) := by decide +kernel
theorem d_TC_table_0 : decode prog_1_method_35_code 0 = .ok (.aload_n 0, 1) := by decide +kernel
theorem d_TC_table_1 : decode prog_1_method_35_code 1 = .ok (.iload_n 1, 1) := by decide +kernel
theorem d_TC_table_2 : decode prog_1_method_35_code 2 = .ok (.invokevirtual 245, 3) := by decide +kernel
theorem d_TC_table_5 : decode prog_1_method_35_code 5 = .ok (.astore 4, 2) := by decide +kernel
theorem d_TC_table_7 : decode prog_1_method_35_code 7 = .ok (.aload 4, 2) := by decide +kernel
theorem d_TC_table_9 : decode prog_1_method_35_code 9 = .ok (.ifnull 19, 3) := by decide +kernel
theorem d_TC_table_12 : decode prog_1_method_35_code 12 = .ok (.iload_n 2, 1) := by decide +kernel
theorem d_TC_table_13 : decode prog_1_method_35_code 13 = .ok (.ifCond .lt 15, 3) := by decide +kernel
theorem d_TC_table_16 : decode prog_1_method_35_code 16 = .ok (.iload_n 2, 1) := by decide +kernel
theorem d_TC_table_17 : decode prog_1_method_35_code 17 = .ok (.aload 4, 2) := by decide +kernel
theorem d_TC_table_19 : decode prog_1_method_35_code 19 = .ok (.getfield 114, 3) := by decide +kernel
theorem d_TC_table_22 : decode prog_1_method_35_code 22 = .ok (.invokevirtual 79, 3) := by decide +kernel
theorem d_TC_table_25 : decode prog_1_method_35_code 25 = .ok (.if_icmp .lt 5, 3) := by decide +kernel
theorem d_TC_table_28 : decode prog_1_method_35_code 28 = .ok (.iconst (-1), 1) := by decide +kernel
theorem d_TC_table_29 : decode prog_1_method_35_code 29 = .ok (.ireturn, 1) := by decide +kernel
theorem d_TC_table_30 : decode prog_1_method_35_code 30 = .ok (.aload 4, 2) := by decide +kernel
theorem d_TC_table_32 : decode prog_1_method_35_code 32 = .ok (.getfield 114, 3) := by decide +kernel
theorem d_TC_table_35 : decode prog_1_method_35_code 35 = .ok (.iload_n 2, 1) := by decide +kernel
theorem d_TC_table_36 : decode prog_1_method_35_code 36 = .ok (.invokevirtual 80, 3) := by decide +kernel
theorem d_TC_table_39 : decode prog_1_method_35_code 39 = .ok (.checkcast 214, 3) := by decide +kernel
theorem d_TC_table_42 : decode prog_1_method_35_code 42 = .ok (.astore 5, 2) := by decide +kernel
theorem d_TC_table_44 : decode prog_1_method_35_code 44 = .ok (.iload_n 3, 1) := by decide +kernel
theorem d_TC_table_45 : decode prog_1_method_35_code 45 = .ok (.tableswitch 59 0 3 #[31, 37, 43, 49], 31) := by decide +kernel
theorem d_TC_table_76 : decode prog_1_method_35_code 76 = .ok (.aload 5, 2) := by decide +kernel
theorem d_TC_table_78 : decode prog_1_method_35_code 78 = .ok (.invokevirtual 259, 3) := by decide +kernel
theorem d_TC_table_81 : decode prog_1_method_35_code 81 = .ok (.ireturn, 1) := by decide +kernel
theorem d_TC_table_82 : decode prog_1_method_35_code 82 = .ok (.aload 5, 2) := by decide +kernel
theorem d_TC_table_84 : decode prog_1_method_35_code 84 = .ok (.getfield 275, 3) := by decide +kernel
theorem d_TC_table_87 : decode prog_1_method_35_code 87 = .ok (.ireturn, 1) := by decide +kernel
theorem d_TC_table_88 : decode prog_1_method_35_code 88 = .ok (.aload 5, 2) := by decide +kernel
theorem d_TC_table_90 : decode prog_1_method_35_code 90 = .ok (.invokevirtual 278, 3) := by decide +kernel
theorem d_TC_table_93 : decode prog_1_method_35_code 93 = .ok (.ireturn, 1) := by decide +kernel
theorem d_TC_table_94 : decode prog_1_method_35_code 94 = .ok (.aload 5, 2) := by decide +kernel
theorem d_TC_table_96 : decode prog_1_method_35_code 96 = .ok (.iconst 0, 1) := by decide +kernel
theorem d_TC_table_97 : decode prog_1_method_35_code 97 = .ok (.invokevirtual 260, 3) := by decide +kernel
theorem d_TC_table_100 : decode prog_1_method_35_code 100 = .ok (.getfield 11, 3) := by decide +kernel
theorem d_TC_table_103 : decode prog_1_method_35_code 103 = .ok (.ireturn, 1) := by decide +kernel
theorem d_TC_table_104 : decode prog_1_method_35_code 104 = .ok (.iconst (-1), 1) := by decide +kernel
theorem d_TC_table_105 : decode prog_1_method_35_code 105 = .ok (.ireturn, 1) := by decide +kernel
theorem d_TC_log_0 : decode prog_1_method_36_code 0 = .ok (.aload_n 0, 1) := by decide +kernel
theorem d_TC_log_1 : decode prog_1_method_36_code 1 = .ok (.getfield 192, 3) := by decide +kernel
theorem d_TC_log_4 : decode prog_1_method_36_code 4 = .ok (.ireturn, 1) := by decide +kernel
theorem d_TC_looked_0 : decode prog_1_method_37_code 0 = .ok (.aload_n 0, 1) := by decide +kernel
theorem d_TC_looked_1 : decode prog_1_method_37_code 1 = .ok (.getfield 211, 3) := by decide +kernel
theorem d_TC_looked_4 : decode prog_1_method_37_code 4 = .ok (.ireturn, 1) := by decide +kernel
