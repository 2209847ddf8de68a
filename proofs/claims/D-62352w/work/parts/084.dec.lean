theorem d_Mo_init_0 : decode prog_9_method_1_code 0 = .ok (.aload_n 0, 1) := by decide +kernel
theorem d_Mo_init_1 : decode prog_9_method_1_code 1 = .ok (.invokespecial 1, 3) := by decide +kernel
theorem d_Mo_init_4 : decode prog_9_method_1_code 4 = .ok (.aload_n 0, 1) := by decide +kernel
theorem d_Mo_init_5 : decode prog_9_method_1_code 5 = .ok (.sipush 256, 3) := by decide +kernel
theorem d_Mo_init_8 : decode prog_9_method_1_code 8 = .ok (.newarray .int, 2) := by decide +kernel
theorem d_Mo_init_10 : decode prog_9_method_1_code 10 = .ok (.putfield 7, 3) := by decide +kernel
theorem d_Mo_init_13 : decode prog_9_method_1_code 13 = .ok (.aload_n 0, 1) := by decide +kernel
theorem d_Mo_init_14 : decode prog_9_method_1_code 14 = .ok (.sipush 256, 3) := by decide +kernel
theorem d_Mo_init_17 : decode prog_9_method_1_code 17 = .ok (.newarray .int, 2) := by decide +kernel
theorem d_Mo_init_19 : decode prog_9_method_1_code 19 = .ok (.putfield 13, 3) := by decide +kernel
theorem d_Mo_init_22 : decode prog_9_method_1_code 22 = .ok (.aload_n 0, 1) := by decide +kernel
theorem d_Mo_init_23 : decode prog_9_method_1_code 23 = .ok (.sipush 256, 3) := by decide +kernel
theorem d_Mo_init_26 : decode prog_9_method_1_code 26 = .ok (.newarray .int, 2) := by decide +kernel
theorem d_Mo_init_28 : decode prog_9_method_1_code 28 = .ok (.putfield 16, 3) := by decide +kernel
theorem d_Mo_init_31 : decode prog_9_method_1_code 31 = .ok (.aload_n 0, 1) := by decide +kernel
theorem d_Mo_init_32 : decode prog_9_method_1_code 32 = .ok (.sipush 256, 3) := by decide +kernel
theorem d_Mo_init_35 : decode prog_9_method_1_code 35 = .ok (.newarray .int, 2) := by decide +kernel
theorem d_Mo_init_37 : decode prog_9_method_1_code 37 = .ok (.putfield 19, 3) := by decide +kernel
theorem d_Mo_init_40 : decode prog_9_method_1_code 40 = .ok (.aload_n 0, 1) := by decide +kernel
theorem d_Mo_init_41 : decode prog_9_method_1_code 41 = .ok (.sipush 256, 3) := by decide +kernel
theorem d_Mo_init_44 : decode prog_9_method_1_code 44 = .ok (.newarray .int, 2) := by decide +kernel
theorem d_Mo_init_46 : decode prog_9_method_1_code 46 = .ok (.putfield 22, 3) := by decide +kernel
theorem d_Mo_init_49 : decode prog_9_method_1_code 49 = .ok (.aload_n 0, 1) := by decide +kernel
theorem d_Mo_init_50 : decode prog_9_method_1_code 50 = .ok (.sipush 256, 3) := by decide +kernel
theorem d_Mo_init_53 : decode prog_9_method_1_code 53 = .ok (.newarray .int, 2) := by decide +kernel
theorem d_Mo_init_55 : decode prog_9_method_1_code 55 = .ok (.putfield 25, 3) := by decide +kernel
theorem d_Mo_init_58 : decode prog_9_method_1_code 58 = .ok (.aload_n 0, 1) := by decide +kernel
theorem d_Mo_init_59 : decode prog_9_method_1_code 59 = .ok (.sipush 256, 3) := by decide +kernel
theorem d_Mo_init_62 : decode prog_9_method_1_code 62 = .ok (.newarray .int, 2) := by decide +kernel
theorem d_Mo_init_64 : decode prog_9_method_1_code 64 = .ok (.putfield 28, 3) := by decide +kernel
theorem d_Mo_init_67 : decode prog_9_method_1_code 67 = .ok (.aload_n 0, 1) := by decide +kernel
theorem d_Mo_init_68 : decode prog_9_method_1_code 68 = .ok (.sipush 256, 3) := by decide +kernel
theorem d_Mo_init_71 : decode prog_9_method_1_code 71 = .ok (.newarray .int, 2) := by decide +kernel
theorem d_Mo_init_73 : decode prog_9_method_1_code 73 = .ok (.putfield 31, 3) := by decide +kernel
theorem d_Mo_init_76 : decode prog_9_method_1_code 76 = .ok (.aload_n 0, 1) := by decide +kernel
theorem d_Mo_init_77 : decode prog_9_method_1_code 77 = .ok (.iconst 1, 1) := by decide +kernel
theorem d_Mo_init_78 : decode prog_9_method_1_code 78 = .ok (.putfield 34, 3) := by decide +kernel
theorem d_Mo_init_81 : decode prog_9_method_1_code 81 = .ok (.aload_n 0, 1) := by decide +kernel
theorem d_Mo_init_82 : decode prog_9_method_1_code 82 = .ok (.bipush 9, 2) := by decide +kernel
theorem d_Mo_init_84 : decode prog_9_method_1_code 84 = .ok (.newarray .int, 2) := by decide +kernel
theorem d_Mo_init_86 : decode prog_9_method_1_code 86 = .ok (.putfield 38, 3) := by decide +kernel
theorem d_Mo_init_89 : decode prog_9_method_1_code 89 = .ok (.aload_n 0, 1) := by decide +kernel
theorem d_Mo_init_90 : decode prog_9_method_1_code 90 = .ok (.bipush 9, 2) := by decide +kernel
theorem d_Mo_init_92 : decode prog_9_method_1_code 92 = .ok (.newarray .int, 2) := by decide +kernel
theorem d_Mo_init_94 : decode prog_9_method_1_code 94 = .ok (.putfield 41, 3) := by decide +kernel
theorem d_Mo_init_97 : decode prog_9_method_1_code 97 = .ok (.aload_n 0, 1) := by decide +kernel
theorem d_Mo_init_98 : decode prog_9_method_1_code 98 = .ok (.iconst 2, 1) := by decide +kernel
theorem d_Mo_init_99 : decode prog_9_method_1_code 99 = .ok (.newarray .int, 2) := by decide +kernel
theorem d_Mo_init_101 : decode prog_9_method_1_code 101 = .ok (.putfield 44, 3) := by decide +kernel
theorem d_Mo_init_104 : decode prog_9_method_1_code 104 = .ok (.aload_n 0, 1) := by decide +kernel
theorem d_Mo_init_105 : decode prog_9_method_1_code 105 = .ok (.iconst 2, 1) := by decide +kernel
theorem d_Mo_init_106 : decode prog_9_method_1_code 106 = .ok (.newarray .int, 2) := by decide +kernel
theorem d_Mo_init_108 : decode prog_9_method_1_code 108 = .ok (.putfield 47, 3) := by decide +kernel
theorem d_Mo_init_111 : decode prog_9_method_1_code 111 = .ok (.aload_n 0, 1) := by decide +kernel
theorem d_Mo_init_112 : decode prog_9_method_1_code 112 = .ok (.iconst 4, 1) := by decide +kernel
theorem d_Mo_init_113 : decode prog_9_method_1_code 113 = .ok (.newarray .int, 2) := by decide +kernel
theorem d_Mo_init_115 : decode prog_9_method_1_code 115 = .ok (.putfield 50, 3) := by decide +kernel
theorem d_Mo_init_118 : decode prog_9_method_1_code 118 = .ok (.aload_n 0, 1) := by decide +kernel
theorem d_Mo_init_119 : decode prog_9_method_1_code 119 = .ok (.iconst 4, 1) := by decide +kernel
theorem d_Mo_init_120 : decode prog_9_method_1_code 120 = .ok (.newarray .int, 2) := by decide +kernel
theorem d_Mo_init_122 : decode prog_9_method_1_code 122 = .ok (.putfield 53, 3) := by decide +kernel
theorem d_Mo_init_125 : decode prog_9_method_1_code 125 = .ok (.aload_n 0, 1) := by decide +kernel
theorem d_Mo_init_126 : decode prog_9_method_1_code 126 = .ok (.iconst 4, 1) := by decide +kernel
theorem d_Mo_init_127 : decode prog_9_method_1_code 127 = .ok (.newarray .int, 2) := by decide +kernel
theorem d_Mo_init_129 : decode prog_9_method_1_code 129 = .ok (.putfield 56, 3) := by decide +kernel
theorem d_Mo_init_132 : decode prog_9_method_1_code 132 = .ok (.aload_n 0, 1) := by decide +kernel
theorem d_Mo_init_133 : decode prog_9_method_1_code 133 = .ok (.iconst 4, 1) := by decide +kernel
theorem d_Mo_init_134 : decode prog_9_method_1_code 134 = .ok (.newarray .int, 2) := by decide +kernel
theorem d_Mo_init_136 : decode prog_9_method_1_code 136 = .ok (.putfield 59, 3) := by decide +kernel
theorem d_Mo_init_139 : decode prog_9_method_1_code 139 = .ok (.aload_n 0, 1) := by decide +kernel
theorem d_Mo_init_140 : decode prog_9_method_1_code 140 = .ok (.sipush 256, 3) := by decide +kernel
theorem d_Mo_init_143 : decode prog_9_method_1_code 143 = .ok (.newarray .int, 2) := by decide +kernel
theorem d_Mo_init_145 : decode prog_9_method_1_code 145 = .ok (.putfield 62, 3) := by decide +kernel
theorem d_Mo_init_148 : decode prog_9_method_1_code 148 = .ok (.aload_n 0, 1) := by decide +kernel
theorem d_Mo_init_149 : decode prog_9_method_1_code 149 = .ok (.sipush 256, 3) := by decide +kernel
theorem d_Mo_init_152 : decode prog_9_method_1_code 152 = .ok (.newarray .int, 2) := by decide +kernel
theorem d_Mo_init_154 : decode prog_9_method_1_code 154 = .ok (.putfield 65, 3) := by decide +kernel
theorem d_Mo_init_157 : decode prog_9_method_1_code 157 = .ok (.aload_n 0, 1) := by decide +kernel
theorem d_Mo_init_158 : decode prog_9_method_1_code 158 = .ok (.getfield 44, 3) := by decide +kernel
theorem d_Mo_init_161 : decode prog_9_method_1_code 161 = .ok (.iconst 0, 1) := by decide +kernel
theorem d_Mo_init_162 : decode prog_9_method_1_code 162 = .ok (.iload_n 1, 1) := by decide +kernel
theorem d_Mo_init_163 : decode prog_9_method_1_code 163 = .ok (.iconst 5, 1) := by decide +kernel
theorem d_Mo_init_164 : decode prog_9_method_1_code 164 = .ok (.invokestatic 68, 3) := by decide +kernel
theorem d_Mo_init_167 : decode prog_9_method_1_code 167 = .ok (.iastore, 1) := by decide +kernel
theorem d_Mo_init_168 : decode prog_9_method_1_code 168 = .ok (.aload_n 0, 1) := by decide +kernel
theorem d_Mo_init_169 : decode prog_9_method_1_code 169 = .ok (.getfield 44, 3) := by decide +kernel
theorem d_Mo_init_172 : decode prog_9_method_1_code 172 = .ok (.iconst 1, 1) := by decide +kernel
theorem d_Mo_init_173 : decode prog_9_method_1_code 173 = .ok (.iload_n 3, 1) := by decide +kernel
theorem d_Mo_init_174 : decode prog_9_method_1_code 174 = .ok (.iconst 5, 1) := by decide +kernel
theorem d_Mo_init_175 : decode prog_9_method_1_code 175 = .ok (.invokestatic 68, 3) := by decide +kernel
theorem d_Mo_init_178 : decode prog_9_method_1_code 178 = .ok (.iastore, 1) := by decide +kernel
theorem d_Mo_init_179 : decode prog_9_method_1_code 179 = .ok (.aload_n 0, 1) := by decide +kernel
theorem d_Mo_init_180 : decode prog_9_method_1_code 180 = .ok (.getfield 47, 3) := by decide +kernel
theorem d_Mo_init_183 : decode prog_9_method_1_code 183 = .ok (.iconst 0, 1) := by decide +kernel
theorem d_Mo_init_184 : decode prog_9_method_1_code 184 = .ok (.iload_n 2, 1) := by decide +kernel
theorem d_Mo_init_185 : decode prog_9_method_1_code 185 = .ok (.sipush 9999, 3) := by decide +kernel
theorem d_Mo_init_188 : decode prog_9_method_1_code 188 = .ok (.invokestatic 68, 3) := by decide +kernel
theorem d_Mo_init_191 : decode prog_9_method_1_code 191 = .ok (.iastore, 1) := by decide +kernel
theorem d_Mo_init_192 : decode prog_9_method_1_code 192 = .ok (.aload_n 0, 1) := by decide +kernel
theorem d_Mo_init_193 : decode prog_9_method_1_code 193 = .ok (.getfield 47, 3) := by decide +kernel
theorem d_Mo_init_196 : decode prog_9_method_1_code 196 = .ok (.iconst 1, 1) := by decide +kernel
theorem d_Mo_init_197 : decode prog_9_method_1_code 197 = .ok (.iload 4, 2) := by decide +kernel
theorem d_Mo_init_199 : decode prog_9_method_1_code 199 = .ok (.sipush 9999, 3) := by decide +kernel
theorem d_Mo_init_202 : decode prog_9_method_1_code 202 = .ok (.invokestatic 68, 3) := by decide +kernel
theorem d_Mo_init_205 : decode prog_9_method_1_code 205 = .ok (.iastore, 1) := by decide +kernel
theorem d_Mo_init_206 : decode prog_9_method_1_code 206 = .ok (.return_, 1) := by decide +kernel
theorem d_Mo_nearest_0 : decode prog_9_method_2_code 0 = .ok (.iload_n 0, 1) := by decide +kernel
theorem d_Mo_nearest_1 : decode prog_9_method_2_code 1 = .ok (.ifCond .ge 7, 3) := by decide +kernel
theorem d_Mo_nearest_4 : decode prog_9_method_2_code 4 = .ok (.iconst 0, 1) := by decide +kernel
theorem d_Mo_nearest_5 : decode prog_9_method_2_code 5 = .ok (.goto 13, 3) := by decide +kernel
theorem d_Mo_nearest_8 : decode prog_9_method_2_code 8 = .ok (.iload_n 0, 1) := by decide +kernel
theorem d_Mo_nearest_9 : decode prog_9_method_2_code 9 = .ok (.iload_n 1, 1) := by decide +kernel
theorem d_Mo_nearest_10 : decode prog_9_method_2_code 10 = .ok (.if_icmp .le 7, 3) := by decide +kernel
theorem d_Mo_nearest_13 : decode prog_9_method_2_code 13 = .ok (.iload_n 1, 1) := by decide +kernel
theorem d_Mo_nearest_14 : decode prog_9_method_2_code 14 = .ok (.goto 4, 3) := by decide +kernel
theorem d_Mo_nearest_17 : decode prog_9_method_2_code 17 = .ok (.iload_n 0, 1) := by decide +kernel
theorem d_Mo_nearest_18 : decode prog_9_method_2_code 18 = .ok (.ireturn, 1) := by decide +kernel
theorem d_Mo_isRow_0 : decode prog_9_method_3_code 0 = .ok (.iload_n 0, 1) := by decide +kernel
theorem d_Mo_isRow_1 : decode prog_9_method_3_code 1 = .ok (.ifCond .lt 13, 3) := by decide +kernel
theorem d_Mo_isRow_4 : decode prog_9_method_3_code 4 = .ok (.iload_n 0, 1) := by decide +kernel
theorem d_Mo_isRow_5 : decode prog_9_method_3_code 5 = .ok (.bipush 63, 2) := by decide +kernel
theorem d_Mo_isRow_7 : decode prog_9_method_3_code 7 = .ok (.if_icmp .gt 7, 3) := by decide +kernel
theorem d_Mo_isRow_10 : decode prog_9_method_3_code 10 = .ok (.iconst 1, 1) := by decide +kernel
theorem d_Mo_isRow_11 : decode prog_9_method_3_code 11 = .ok (.goto 4, 3) := by decide +kernel
theorem d_Mo_isRow_14 : decode prog_9_method_3_code 14 = .ok (.iconst 0, 1) := by decide +kernel
theorem d_Mo_isRow_15 : decode prog_9_method_3_code 15 = .ok (.ireturn, 1) := by decide +kernel
theorem d_Mo_isColumn_0 : decode prog_9_method_4_code 0 = .ok (.iload_n 0, 1) := by decide +kernel
theorem d_Mo_isColumn_1 : decode prog_9_method_4_code 1 = .ok (.ifCond .lt 13, 3) := by decide +kernel
theorem d_Mo_isColumn_4 : decode prog_9_method_4_code 4 = .ok (.iload_n 0, 1) := by decide +kernel
theorem d_Mo_isColumn_5 : decode prog_9_method_4_code 5 = .ok (.bipush 7, 2) := by decide +kernel
theorem d_Mo_isColumn_7 : decode prog_9_method_4_code 7 = .ok (.if_icmp .gt 7, 3) := by decide +kernel
theorem d_Mo_isColumn_10 : decode prog_9_method_4_code 10 = .ok (.iconst 1, 1) := by decide +kernel
theorem d_Mo_isColumn_11 : decode prog_9_method_4_code 11 = .ok (.goto 4, 3) := by decide +kernel
theorem d_Mo_isColumn_14 : decode prog_9_method_4_code 14 = .ok (.iconst 0, 1) := by decide +kernel
theorem d_Mo_isColumn_15 : decode prog_9_method_4_code 15 = .ok (.ireturn, 1) := by decide +kernel
theorem d_Mo_isTime_0 : decode prog_9_method_5_code 0 = .ok (.iload_n 0, 1) := by decide +kernel
theorem d_Mo_isTime_1 : decode prog_9_method_5_code 1 = .ok (.ifCond .lt 14, 3) := by decide +kernel
theorem d_Mo_isTime_4 : decode prog_9_method_5_code 4 = .ok (.iload_n 0, 1) := by decide +kernel
theorem d_Mo_isTime_5 : decode prog_9_method_5_code 5 = .ok (.sipush 9999, 3) := by decide +kernel
theorem d_Mo_isTime_8 : decode prog_9_method_5_code 8 = .ok (.if_icmp .gt 7, 3) := by decide +kernel
theorem d_Mo_isTime_11 : decode prog_9_method_5_code 11 = .ok (.iconst 1, 1) := by decide +kernel
theorem d_Mo_isTime_12 : decode prog_9_method_5_code 12 = .ok (.goto 4, 3) := by decide +kernel
theorem d_Mo_isTime_15 : decode prog_9_method_5_code 15 = .ok (.iconst 0, 1) := by decide +kernel
theorem d_Mo_isTime_16 : decode prog_9_method_5_code 16 = .ok (.ireturn, 1) := by decide +kernel
theorem d_Mo_isTablet_0 : decode prog_9_method_6_code 0 = .ok (.iload_n 1, 1) := by decide +kernel
theorem d_Mo_isTablet_1 : decode prog_9_method_6_code 1 = .ok (.ifCond .lt 15, 3) := by decide +kernel
theorem d_Mo_isTablet_4 : decode prog_9_method_6_code 4 = .ok (.iload_n 1, 1) := by decide +kernel
theorem d_Mo_isTablet_5 : decode prog_9_method_6_code 5 = .ok (.aload_n 0, 1) := by decide +kernel
theorem d_Mo_isTablet_6 : decode prog_9_method_6_code 6 = .ok (.getfield 34, 3) := by decide +kernel
theorem d_Mo_isTablet_9 : decode prog_9_method_6_code 9 = .ok (.if_icmp .ge 7, 3) := by decide +kernel
theorem d_Mo_isTablet_12 : decode prog_9_method_6_code 12 = .ok (.iconst 1, 1) := by decide +kernel
theorem d_Mo_isTablet_13 : decode prog_9_method_6_code 13 = .ok (.goto 4, 3) := by decide +kernel
theorem d_Mo_isTablet_16 : decode prog_9_method_6_code 16 = .ok (.iconst 0, 1) := by decide +kernel
theorem d_Mo_isTablet_17 : decode prog_9_method_6_code 17 = .ok (.ireturn, 1) := by decide +kernel
theorem d_Mo_covers_0 : decode prog_9_method_7_code 0 = .ok (.iload_n 1, 1) := by decide +kernel
theorem d_Mo_covers_1 : decode prog_9_method_7_code 1 = .ok (.iload_n 2, 1) := by decide +kernel
theorem d_Mo_covers_2 : decode prog_9_method_7_code 2 = .ok (.if_icmp .le 18, 3) := by decide +kernel
theorem d_Mo_covers_5 : decode prog_9_method_7_code 5 = .ok (.aload_n 0, 1) := by decide +kernel
theorem d_Mo_covers_6 : decode prog_9_method_7_code 6 = .ok (.getfield 13, 3) := by decide +kernel
theorem d_Mo_covers_9 : decode prog_9_method_7_code 9 = .ok (.iload_n 1, 1) := by decide +kernel
theorem d_Mo_covers_10 : decode prog_9_method_7_code 10 = .ok (.iaload, 1) := by decide +kernel
theorem d_Mo_covers_11 : decode prog_9_method_7_code 11 = .ok (.aload_n 0, 1) := by decide +kernel
theorem d_Mo_covers_12 : decode prog_9_method_7_code 12 = .ok (.getfield 13, 3) := by decide +kernel
theorem d_Mo_covers_15 : decode prog_9_method_7_code 15 = .ok (.iload_n 2, 1) := by decide +kernel
theorem d_Mo_covers_16 : decode prog_9_method_7_code 16 = .ok (.iaload, 1) := by decide +kernel
theorem d_Mo_covers_17 : decode prog_9_method_7_code 17 = .ok (.if_icmp .eq 5, 3) := by decide +kernel
theorem d_Mo_covers_20 : decode prog_9_method_7_code 20 = .ok (.iconst 0, 1) := by decide +kernel
theorem d_Mo_covers_21 : decode prog_9_method_7_code 21 = .ok (.ireturn, 1) := by decide +kernel
theorem d_Mo_covers_22 : decode prog_9_method_7_code 22 = .ok (.aload_n 0, 1) := by decide +kernel
theorem d_Mo_covers_23 : decode prog_9_method_7_code 23 = .ok (.getfield 7, 3) := by decide +kernel
theorem d_Mo_covers_26 : decode prog_9_method_7_code 26 = .ok (.iload_n 1, 1) := by decide +kernel
theorem d_Mo_covers_27 : decode prog_9_method_7_code 27 = .ok (.iaload, 1) := by decide +kernel
theorem d_Mo_covers_28 : decode prog_9_method_7_code 28 = .ok (.iconst 3, 1) := by decide +kernel
theorem d_Mo_covers_29 : decode prog_9_method_7_code 29 = .ok (.if_icmp .ne 5, 3) := by decide +kernel
theorem d_Mo_covers_32 : decode prog_9_method_7_code 32 = .ok (.iconst 1, 1) := by decide +kernel
theorem d_Mo_covers_33 : decode prog_9_method_7_code 33 = .ok (.ireturn, 1) := by decide +kernel
theorem d_Mo_covers_34 : decode prog_9_method_7_code 34 = .ok (.aload_n 0, 1) := by decide +kernel
theorem d_Mo_covers_35 : decode prog_9_method_7_code 35 = .ok (.getfield 16, 3) := by decide +kernel
theorem d_Mo_covers_38 : decode prog_9_method_7_code 38 = .ok (.iload_n 1, 1) := by decide +kernel
theorem d_Mo_covers_39 : decode prog_9_method_7_code 39 = .ok (.iaload, 1) := by decide +kernel
theorem d_Mo_covers_40 : decode prog_9_method_7_code 40 = .ok (.aload_n 0, 1) := by decide +kernel
theorem d_Mo_covers_41 : decode prog_9_method_7_code 41 = .ok (.getfield 16, 3) := by decide +kernel
theorem d_Mo_covers_44 : decode prog_9_method_7_code 44 = .ok (.iload_n 2, 1) := by decide +kernel
theorem d_Mo_covers_45 : decode prog_9_method_7_code 45 = .ok (.iaload, 1) := by decide +kernel
theorem d_Mo_covers_46 : decode prog_9_method_7_code 46 = .ok (.if_icmp .eq 5, 3) := by decide +kernel
theorem d_Mo_covers_49 : decode prog_9_method_7_code 49 = .ok (.iconst 0, 1) := by decide +kernel
theorem d_Mo_covers_50 : decode prog_9_method_7_code 50 = .ok (.ireturn, 1) := by decide +kernel
theorem d_Mo_covers_51 : decode prog_9_method_7_code 51 = .ok (.aload_n 0, 1) := by decide +kernel
theorem d_Mo_covers_52 : decode prog_9_method_7_code 52 = .ok (.getfield 7, 3) := by decide +kernel
theorem d_Mo_covers_55 : decode prog_9_method_7_code 55 = .ok (.iload_n 1, 1) := by decide +kernel
theorem d_Mo_covers_56 : decode prog_9_method_7_code 56 = .ok (.iaload, 1) := by decide +kernel
theorem d_Mo_covers_57 : decode prog_9_method_7_code 57 = .ok (.iconst 2, 1) := by decide +kernel
theorem d_Mo_covers_58 : decode prog_9_method_7_code 58 = .ok (.if_icmp .ne 21, 3) := by decide +kernel
theorem d_Mo_covers_61 : decode prog_9_method_7_code 61 = .ok (.aload_n 0, 1) := by decide +kernel
theorem d_Mo_covers_62 : decode prog_9_method_7_code 62 = .ok (.getfield 7, 3) := by decide +kernel
theorem d_Mo_covers_65 : decode prog_9_method_7_code 65 = .ok (.iload_n 2, 1) := by decide +kernel
theorem d_Mo_covers_66 : decode prog_9_method_7_code 66 = .ok (.iaload, 1) := by decide +kernel
theorem d_Mo_covers_67 : decode prog_9_method_7_code 67 = .ok (.iconst 3, 1) := by decide +kernel
theorem d_Mo_covers_68 : decode prog_9_method_7_code 68 = .ok (.if_icmp .eq 7, 3) := by decide +kernel
theorem d_Mo_covers_71 : decode prog_9_method_7_code 71 = .ok (.iconst 1, 1) := by decide +kernel
theorem d_Mo_covers_72 : decode prog_9_method_7_code 72 = .ok (.goto 37, 3) := by decide +kernel
theorem d_Mo_covers_75 : decode prog_9_method_7_code 75 = .ok (.iconst 0, 1) := by decide +kernel
theorem d_Mo_covers_76 : decode prog_9_method_7_code 76 = .ok (.goto 33, 3) := by decide +kernel
theorem d_Mo_covers_79 : decode prog_9_method_7_code 79 = .ok (.aload_n 0, 1) := by decide +kernel
theorem d_Mo_covers_80 : decode prog_9_method_7_code 80 = .ok (.getfield 7, 3) := by decide +kernel
theorem d_Mo_covers_83 : decode prog_9_method_7_code 83 = .ok (.iload_n 2, 1) := by decide +kernel
theorem d_Mo_covers_84 : decode prog_9_method_7_code 84 = .ok (.iaload, 1) := by decide +kernel
theorem d_Mo_covers_85 : decode prog_9_method_7_code 85 = .ok (.iconst 1, 1) := by decide +kernel
theorem d_Mo_covers_86 : decode prog_9_method_7_code 86 = .ok (.if_icmp .gt 22, 3) := by decide +kernel
theorem d_Mo_covers_89 : decode prog_9_method_7_code 89 = .ok (.aload_n 0, 1) := by decide +kernel
theorem d_Mo_covers_90 : decode prog_9_method_7_code 90 = .ok (.getfield 19, 3) := by decide +kernel
theorem d_Mo_covers_93 : decode prog_9_method_7_code 93 = .ok (.iload_n 1, 1) := by decide +kernel
theorem d_Mo_covers_94 : decode prog_9_method_7_code 94 = .ok (.iaload, 1) := by decide +kernel
theorem d_Mo_covers_95 : decode prog_9_method_7_code 95 = .ok (.aload_n 0, 1) := by decide +kernel
theorem d_Mo_covers_96 : decode prog_9_method_7_code 96 = .ok (.getfield 19, 3) := by decide +kernel
theorem d_Mo_covers_99 : decode prog_9_method_7_code 99 = .ok (.iload_n 2, 1) := by decide +kernel
theorem d_Mo_covers_100 : decode prog_9_method_7_code 100 = .ok (.iaload, 1) := by decide +kernel
theorem d_Mo_covers_101 : decode prog_9_method_7_code 101 = .ok (.if_icmp .ne 7, 3) := by decide +kernel
theorem d_Mo_covers_104 : decode prog_9_method_7_code 104 = .ok (.iconst 1, 1) := by decide +kernel
theorem d_Mo_covers_105 : decode prog_9_method_7_code 105 = .ok (.goto 4, 3) := by decide +kernel
theorem d_Mo_covers_108 : decode prog_9_method_7_code 108 = .ok (.iconst 0, 1) := by decide +kernel
theorem d_Mo_covers_109 : decode prog_9_method_7_code 109 = .ok (.ireturn, 1) := by decide +kernel
theorem d_Mo_isOld_0 : decode prog_9_method_8_code 0 = .ok (.aload_n 0, 1) := by decide +kernel
theorem d_Mo_isOld_1 : decode prog_9_method_8_code 1 = .ok (.getfield 47, 3) := by decide +kernel
theorem d_Mo_isOld_4 : decode prog_9_method_8_code 4 = .ok (.aload_n 0, 1) := by decide +kernel
theorem d_Mo_isOld_5 : decode prog_9_method_8_code 5 = .ok (.getfield 16, 3) := by decide +kernel
theorem d_Mo_isOld_8 : decode prog_9_method_8_code 8 = .ok (.iload_n 1, 1) := by decide +kernel
theorem d_Mo_isOld_9 : decode prog_9_method_8_code 9 = .ok (.iaload, 1) := by decide +kernel
theorem d_Mo_isOld_10 : decode prog_9_method_8_code 10 = .ok (.iconst 4, 1) := by decide +kernel
theorem d_Mo_isOld_11 : decode prog_9_method_8_code 11 = .ok (.idiv, 1) := by decide +kernel
theorem d_Mo_isOld_12 : decode prog_9_method_8_code 12 = .ok (.iaload, 1) := by decide +kernel
theorem d_Mo_isOld_13 : decode prog_9_method_8_code 13 = .ok (.istore_n 2, 1) := by decide +kernel
theorem d_Mo_isOld_14 : decode prog_9_method_8_code 14 = .ok (.iload_n 2, 1) := by decide +kernel
theorem d_Mo_isOld_15 : decode prog_9_method_8_code 15 = .ok (.ifCond .eq 22, 3) := by decide +kernel
theorem d_Mo_isOld_18 : decode prog_9_method_8_code 18 = .ok (.aload_n 0, 1) := by decide +kernel
theorem d_Mo_isOld_19 : decode prog_9_method_8_code 19 = .ok (.getfield 19, 3) := by decide +kernel
theorem d_Mo_isOld_22 : decode prog_9_method_8_code 22 = .ok (.iload_n 1, 1) := by decide +kernel
theorem d_Mo_isOld_23 : decode prog_9_method_8_code 23 = .ok (.iaload, 1) := by decide +kernel
theorem d_Mo_isOld_24 : decode prog_9_method_8_code 24 = .ok (.iload_n 2, 1) := by decide +kernel
theorem d_Mo_isOld_25 : decode prog_9_method_8_code 25 = .ok (.iadd, 1) := by decide +kernel
theorem d_Mo_isOld_26 : decode prog_9_method_8_code 26 = .ok (.aload_n 0, 1) := by decide +kernel
theorem d_Mo_isOld_27 : decode prog_9_method_8_code 27 = .ok (.getfield 72, 3) := by decide +kernel
theorem d_Mo_isOld_30 : decode prog_9_method_8_code 30 = .ok (.if_icmp .gt 7, 3) := by decide +kernel
theorem d_Mo_isOld_33 : decode prog_9_method_8_code 33 = .ok (.iconst 1, 1) := by decide +kernel
theorem d_Mo_isOld_34 : decode prog_9_method_8_code 34 = .ok (.goto 4, 3) := by decide +kernel
theorem d_Mo_isOld_37 : decode prog_9_method_8_code 37 = .ok (.iconst 0, 1) := by decide +kernel
theorem d_Mo_isOld_38 : decode prog_9_method_8_code 38 = .ok (.ireturn, 1) := by decide +kernel
theorem d_Mo_isLive_0 : decode prog_9_method_9_code 0 = .ok (.aload_n 0, 1) := by decide +kernel
theorem d_Mo_isLive_1 : decode prog_9_method_9_code 1 = .ok (.getfield 7, 3) := by decide +kernel
theorem d_Mo_isLive_4 : decode prog_9_method_9_code 4 = .ok (.iload_n 1, 1) := by decide +kernel
theorem d_Mo_isLive_5 : decode prog_9_method_9_code 5 = .ok (.iaload, 1) := by decide +kernel
theorem d_Mo_isLive_6 : decode prog_9_method_9_code 6 = .ok (.ifCond .ne 11, 3) := by decide +kernel
theorem d_Mo_isLive_9 : decode prog_9_method_9_code 9 = .ok (.aload_n 0, 1) := by decide +kernel
theorem d_Mo_isLive_10 : decode prog_9_method_9_code 10 = .ok (.iload_n 1, 1) := by decide +kernel
theorem d_Mo_isLive_11 : decode prog_9_method_9_code 11 = .ok (.invokevirtual 75, 3) := by decide +kernel
theorem d_Mo_isLive_14 : decode prog_9_method_9_code 14 = .ok (.ifCond .eq 5, 3) := by decide +kernel
theorem d_Mo_isLive_17 : decode prog_9_method_9_code 17 = .ok (.iconst 0, 1) := by decide +kernel
theorem d_Mo_isLive_18 : decode prog_9_method_9_code 18 = .ok (.ireturn, 1) := by decide +kernel
theorem d_Mo_isLive_19 : decode prog_9_method_9_code 19 = .ok (.iload_n 1, 1) := by decide +kernel
theorem d_Mo_isLive_20 : decode prog_9_method_9_code 20 = .ok (.iconst 1, 1) := by decide +kernel
theorem d_Mo_isLive_21 : decode prog_9_method_9_code 21 = .ok (.iadd, 1) := by decide +kernel
theorem d_Mo_isLive_22 : decode prog_9_method_9_code 22 = .ok (.istore_n 2, 1) := by decide +kernel
theorem d_Mo_isLive_23 : decode prog_9_method_9_code 23 = .ok (.iload_n 2, 1) := by decide +kernel
theorem d_Mo_isLive_24 : decode prog_9_method_9_code 24 = .ok (.aload_n 0, 1) := by decide +kernel
theorem d_Mo_isLive_25 : decode prog_9_method_9_code 25 = .ok (.getfield 79, 3) := by decide +kernel
theorem d_Mo_isLive_28 : decode prog_9_method_9_code 28 = .ok (.if_icmp .ge 20, 3) := by decide +kernel
theorem d_Mo_isLive_31 : decode prog_9_method_9_code 31 = .ok (.aload_n 0, 1) := by decide +kernel
theorem d_Mo_isLive_32 : decode prog_9_method_9_code 32 = .ok (.iload_n 2, 1) := by decide +kernel
theorem d_Mo_isLive_33 : decode prog_9_method_9_code 33 = .ok (.iload_n 1, 1) := by decide +kernel
theorem d_Mo_isLive_34 : decode prog_9_method_9_code 34 = .ok (.invokevirtual 82, 3) := by decide +kernel
theorem d_Mo_isLive_37 : decode prog_9_method_9_code 37 = .ok (.ifCond .eq 5, 3) := by decide +kernel
theorem d_Mo_isLive_40 : decode prog_9_method_9_code 40 = .ok (.iconst 0, 1) := by decide +kernel
theorem d_Mo_isLive_41 : decode prog_9_method_9_code 41 = .ok (.ireturn, 1) := by decide +kernel
theorem d_Mo_isLive_42 : decode prog_9_method_9_code 42 = .ok (.iinc 2 1, 3) := by decide +kernel
theorem d_Mo_isLive_45 : decode prog_9_method_9_code 45 = .ok (.goto (-22), 3) := by decide +kernel
theorem d_Mo_isLive_48 : decode prog_9_method_9_code 48 = .ok (.iconst 1, 1) := by decide +kernel
theorem d_Mo_isLive_49 : decode prog_9_method_9_code 49 = .ok (.ireturn, 1) := by decide +kernel
theorem d_Mo_below_0 : decode prog_9_method_10_code 0 = .ok (.iconst (-1), 1) := by decide +kernel
theorem d_Mo_below_1 : decode prog_9_method_10_code 1 = .ok (.istore 4, 2) := by decide +kernel
theorem d_Mo_below_3 : decode prog_9_method_10_code 3 = .ok (.iconst 0, 1) := by decide +kernel
theorem d_Mo_below_4 : decode prog_9_method_10_code 4 = .ok (.istore 5, 2) := by decide +kernel
theorem d_Mo_below_6 : decode prog_9_method_10_code 6 = .ok (.iload 5, 2) := by decide +kernel
theorem d_Mo_below_8 : decode prog_9_method_10_code 8 = .ok (.aload_n 0, 1) := by decide +kernel
theorem d_Mo_below_9 : decode prog_9_method_10_code 9 = .ok (.getfield 79, 3) := by decide +kernel
theorem d_Mo_below_12 : decode prog_9_method_10_code 12 = .ok (.if_icmp .ge 99, 3) := by decide +kernel
theorem d_Mo_below_15 : decode prog_9_method_10_code 15 = .ok (.aload_n 0, 1) := by decide +kernel
theorem d_Mo_below_16 : decode prog_9_method_10_code 16 = .ok (.getfield 13, 3) := by decide +kernel
theorem d_Mo_below_19 : decode prog_9_method_10_code 19 = .ok (.iload 5, 2) := by decide +kernel
theorem d_Mo_below_21 : decode prog_9_method_10_code 21 = .ok (.iaload, 1) := by decide +kernel
theorem d_Mo_below_22 : decode prog_9_method_10_code 22 = .ok (.iload_n 1, 1) := by decide +kernel
theorem d_Mo_below_23 : decode prog_9_method_10_code 23 = .ok (.if_icmp .ne 39, 3) := by decide +kernel
theorem d_Mo_below_26 : decode prog_9_method_10_code 26 = .ok (.aload_n 0, 1) := by decide +kernel
theorem d_Mo_below_27 : decode prog_9_method_10_code 27 = .ok (.getfield 16, 3) := by decide +kernel
theorem d_Mo_below_30 : decode prog_9_method_10_code 30 = .ok (.iload 5, 2) := by decide +kernel
theorem d_Mo_below_32 : decode prog_9_method_10_code 32 = .ok (.iaload, 1) := by decide +kernel
theorem d_Mo_below_33 : decode prog_9_method_10_code 33 = .ok (.iload_n 2, 1) := by decide +kernel
theorem d_Mo_below_34 : decode prog_9_method_10_code 34 = .ok (.if_icmp .ne 28, 3) := by decide +kernel
theorem d_Mo_below_37 : decode prog_9_method_10_code 37 = .ok (.aload_n 0, 1) := by decide +kernel
theorem d_Mo_below_38 : decode prog_9_method_10_code 38 = .ok (.getfield 7, 3) := by decide +kernel
theorem d_Mo_below_41 : decode prog_9_method_10_code 41 = .ok (.iload 5, 2) := by decide +kernel
theorem d_Mo_below_43 : decode prog_9_method_10_code 43 = .ok (.iaload, 1) := by decide +kernel
theorem d_Mo_below_44 : decode prog_9_method_10_code 44 = .ok (.ifCond .ne 18, 3) := by decide +kernel
theorem d_Mo_below_47 : decode prog_9_method_10_code 47 = .ok (.aload_n 0, 1) := by decide +kernel
theorem d_Mo_below_48 : decode prog_9_method_10_code 48 = .ok (.getfield 19, 3) := by decide +kernel
theorem d_Mo_below_51 : decode prog_9_method_10_code 51 = .ok (.iload 5, 2) := by decide +kernel
theorem d_Mo_below_53 : decode prog_9_method_10_code 53 = .ok (.iaload, 1) := by decide +kernel
theorem d_Mo_below_54 : decode prog_9_method_10_code 54 = .ok (.iload_n 3, 1) := by decide +kernel
theorem d_Mo_below_55 : decode prog_9_method_10_code 55 = .ok (.if_icmp .ge 7, 3) := by decide +kernel
theorem d_Mo_below_58 : decode prog_9_method_10_code 58 = .ok (.iconst 1, 1) := by decide +kernel
theorem d_Mo_below_59 : decode prog_9_method_10_code 59 = .ok (.goto 4, 3) := by decide +kernel
theorem d_Mo_below_62 : decode prog_9_method_10_code 62 = .ok (.iconst 0, 1) := by decide +kernel
theorem d_Mo_below_63 : decode prog_9_method_10_code 63 = .ok (.istore 6, 2) := by decide +kernel
theorem d_Mo_below_65 : decode prog_9_method_10_code 65 = .ok (.iload 6, 2) := by decide +kernel
theorem d_Mo_below_67 : decode prog_9_method_10_code 67 = .ok (.ifCond .eq 38, 3) := by decide +kernel
theorem d_Mo_below_70 : decode prog_9_method_10_code 70 = .ok (.iload 4, 2) := by decide +kernel
theorem d_Mo_below_72 : decode prog_9_method_10_code 72 = .ok (.ifCond .lt 20, 3) := by decide +kernel
theorem d_Mo_below_75 : decode prog_9_method_10_code 75 = .ok (.aload_n 0, 1) := by decide +kernel
theorem d_Mo_below_76 : decode prog_9_method_10_code 76 = .ok (.getfield 19, 3) := by decide +kernel
theorem d_Mo_below_79 : decode prog_9_method_10_code 79 = .ok (.iload 5, 2) := by decide +kernel
theorem d_Mo_below_81 : decode prog_9_method_10_code 81 = .ok (.iaload, 1) := by decide +kernel
theorem d_Mo_below_82 : decode prog_9_method_10_code 82 = .ok (.aload_n 0, 1) := by decide +kernel
theorem d_Mo_below_83 : decode prog_9_method_10_code 83 = .ok (.getfield 19, 3) := by decide +kernel
theorem d_Mo_below_86 : decode prog_9_method_10_code 86 = .ok (.iload 4, 2) := by decide +kernel
theorem d_Mo_below_88 : decode prog_9_method_10_code 88 = .ok (.iaload, 1) := by decide +kernel
theorem d_Mo_below_89 : decode prog_9_method_10_code 89 = .ok (.if_icmp .le 16, 3) := by decide +kernel
theorem d_Mo_below_92 : decode prog_9_method_10_code 92 = .ok (.aload_n 0, 1) := by decide +kernel
theorem d_Mo_below_93 : decode prog_9_method_10_code 93 = .ok (.iload 5, 2) := by decide +kernel
theorem d_Mo_below_95 : decode prog_9_method_10_code 95 = .ok (.invokevirtual 86, 3) := by decide +kernel
theorem d_Mo_below_98 : decode prog_9_method_10_code 98 = .ok (.ifCond .eq 7, 3) := by decide +kernel
theorem d_Mo_below_101 : decode prog_9_method_10_code 101 = .ok (.iload 5, 2) := by decide +kernel
theorem d_Mo_below_103 : decode prog_9_method_10_code 103 = .ok (.istore 4, 2) := by decide +kernel
theorem d_Mo_below_105 : decode prog_9_method_10_code 105 = .ok (.iinc 5 1, 3) := by decide +kernel
theorem d_Mo_below_108 : decode prog_9_method_10_code 108 = .ok (.goto (-102), 3) := by decide +kernel
theorem d_Mo_below_111 : decode prog_9_method_10_code 111 = .ok (.iload 4, 2) := by decide +kernel
theorem d_Mo_below_113 : decode prog_9_method_10_code 113 = .ok (.ireturn, 1) := by decide +kernel
theorem d_Mo_tabletWith_0 : decode prog_9_method_11_code 0 = .ok (.iconst 0, 1) := by decide +kernel
theorem d_Mo_tabletWith_1 : decode prog_9_method_11_code 1 = .ok (.istore_n 2, 1) := by decide +kernel
theorem d_Mo_tabletWith_2 : decode prog_9_method_11_code 2 = .ok (.iconst 0, 1) := by decide +kernel
theorem d_Mo_tabletWith_3 : decode prog_9_method_11_code 3 = .ok (.istore_n 3, 1) := by decide +kernel
theorem d_Mo_tabletWith_4 : decode prog_9_method_11_code 4 = .ok (.iload_n 3, 1) := by decide +kernel
theorem d_Mo_tabletWith_5 : decode prog_9_method_11_code 5 = .ok (.aload_n 0, 1) := by decide +kernel
theorem d_Mo_tabletWith_6 : decode prog_9_method_11_code 6 = .ok (.getfield 34, 3) := by decide +kernel
theorem d_Mo_tabletWith_9 : decode prog_9_method_11_code 9 = .ok (.if_icmp .ge 25, 3) := by decide +kernel
theorem d_Mo_tabletWith_12 : decode prog_9_method_11_code 12 = .ok (.aload_n 0, 1) := by decide +kernel
theorem d_Mo_tabletWith_13 : decode prog_9_method_11_code 13 = .ok (.getfield 38, 3) := by decide +kernel
theorem d_Mo_tabletWith_16 : decode prog_9_method_11_code 16 = .ok (.iload_n 3, 1) := by decide +kernel
theorem d_Mo_tabletWith_17 : decode prog_9_method_11_code 17 = .ok (.iaload, 1) := by decide +kernel
theorem d_Mo_tabletWith_18 : decode prog_9_method_11_code 18 = .ok (.iload_n 1, 1) := by decide +kernel
theorem d_Mo_tabletWith_19 : decode prog_9_method_11_code 19 = .ok (.if_icmp .gt 7, 3) := by decide +kernel
theorem d_Mo_tabletWith_22 : decode prog_9_method_11_code 22 = .ok (.iload_n 3, 1) := by decide +kernel
theorem d_Mo_tabletWith_23 : decode prog_9_method_11_code 23 = .ok (.goto 4, 3) := by decide +kernel
theorem d_Mo_tabletWith_26 : decode prog_9_method_11_code 26 = .ok (.iload_n 2, 1) := by decide +kernel
theorem d_Mo_tabletWith_27 : decode prog_9_method_11_code 27 = .ok (.istore_n 2, 1) := by decide +kernel
theorem d_Mo_tabletWith_28 : decode prog_9_method_11_code 28 = .ok (.iinc 3 1, 3) := by decide +kernel
theorem d_Mo_tabletWith_31 : decode prog_9_method_11_code 31 = .ok (.goto (-27), 3) := by decide +kernel
theorem d_Mo_tabletWith_34 : decode prog_9_method_11_code 34 = .ok (.iload_n 2, 1) := by decide +kernel
theorem d_Mo_tabletWith_35 : decode prog_9_method_11_code 35 = .ok (.ireturn, 1) := by decide +kernel
theorem d_Mo_make_0 : decode prog_9_method_12_code 0 = .ok (.aload_n 0, 1) := by decide +kernel
theorem d_Mo_make_1 : decode prog_9_method_12_code 1 = .ok (.getfield 7, 3) := by decide +kernel
theorem d_Mo_make_4 : decode prog_9_method_12_code 4 = .ok (.aload_n 0, 1) := by decide +kernel
theorem d_Mo_make_5 : decode prog_9_method_12_code 5 = .ok (.getfield 79, 3) := by decide +kernel
theorem d_Mo_make_8 : decode prog_9_method_12_code 8 = .ok (.iload_n 1, 1) := by decide +kernel
theorem d_Mo_make_9 : decode prog_9_method_12_code 9 = .ok (.iastore, 1) := by decide +kernel
theorem d_Mo_make_10 : decode prog_9_method_12_code 10 = .ok (.aload_n 0, 1) := by decide +kernel
theorem d_Mo_make_11 : decode prog_9_method_12_code 11 = .ok (.getfield 13, 3) := by decide +kernel
theorem d_Mo_make_14 : decode prog_9_method_12_code 14 = .ok (.aload_n 0, 1) := by decide +kernel
theorem d_Mo_make_15 : decode prog_9_method_12_code 15 = .ok (.getfield 79, 3) := by decide +kernel
theorem d_Mo_make_18 : decode prog_9_method_12_code 18 = .ok (.iload_n 2, 1) := by decide +kernel
theorem d_Mo_make_19 : decode prog_9_method_12_code 19 = .ok (.iastore, 1) := by decide +kernel
theorem d_Mo_make_20 : decode prog_9_method_12_code 20 = .ok (.aload_n 0, 1) := by decide +kernel
theorem d_Mo_make_21 : decode prog_9_method_12_code 21 = .ok (.getfield 16, 3) := by decide +kernel
theorem d_Mo_make_24 : decode prog_9_method_12_code 24 = .ok (.aload_n 0, 1) := by decide +kernel
theorem d_Mo_make_25 : decode prog_9_method_12_code 25 = .ok (.getfield 79, 3) := by decide +kernel
theorem d_Mo_make_28 : decode prog_9_method_12_code 28 = .ok (.iload_n 3, 1) := by decide +kernel
theorem d_Mo_make_29 : decode prog_9_method_12_code 29 = .ok (.iastore, 1) := by decide +kernel
theorem d_Mo_make_30 : decode prog_9_method_12_code 30 = .ok (.aload_n 0, 1) := by decide +kernel
theorem d_Mo_make_31 : decode prog_9_method_12_code 31 = .ok (.getfield 19, 3) := by decide +kernel
theorem d_Mo_make_34 : decode prog_9_method_12_code 34 = .ok (.aload_n 0, 1) := by decide +kernel
theorem d_Mo_make_35 : decode prog_9_method_12_code 35 = .ok (.getfield 79, 3) := by decide +kernel
theorem d_Mo_make_38 : decode prog_9_method_12_code 38 = .ok (.iload 4, 2) := by decide +kernel
theorem d_Mo_make_40 : decode prog_9_method_12_code 40 = .ok (.iastore, 1) := by decide +kernel
theorem d_Mo_make_41 : decode prog_9_method_12_code 41 = .ok (.aload_n 0, 1) := by decide +kernel
theorem d_Mo_make_42 : decode prog_9_method_12_code 42 = .ok (.getfield 22, 3) := by decide +kernel
theorem d_Mo_make_45 : decode prog_9_method_12_code 45 = .ok (.aload_n 0, 1) := by decide +kernel
theorem d_Mo_make_46 : decode prog_9_method_12_code 46 = .ok (.getfield 79, 3) := by decide +kernel
theorem d_Mo_make_49 : decode prog_9_method_12_code 49 = .ok (.iload 5, 2) := by decide +kernel
theorem d_Mo_make_51 : decode prog_9_method_12_code 51 = .ok (.iastore, 1) := by decide +kernel
theorem d_Mo_make_52 : decode prog_9_method_12_code 52 = .ok (.aload_n 0, 1) := by decide +kernel
theorem d_Mo_make_53 : decode prog_9_method_12_code 53 = .ok (.getfield 25, 3) := by decide +kernel
theorem d_Mo_make_56 : decode prog_9_method_12_code 56 = .ok (.aload_n 0, 1) := by decide +kernel
theorem d_Mo_make_57 : decode prog_9_method_12_code 57 = .ok (.getfield 79, 3) := by decide +kernel
theorem d_Mo_make_60 : decode prog_9_method_12_code 60 = .ok (.aload_n 0, 1) := by decide +kernel
theorem d_Mo_make_61 : decode prog_9_method_12_code 61 = .ok (.getfield 89, 3) := by decide +kernel
theorem d_Mo_make_64 : decode prog_9_method_12_code 64 = .ok (.iastore, 1) := by decide +kernel
theorem d_Mo_make_65 : decode prog_9_method_12_code 65 = .ok (.aload_n 0, 1) := by decide +kernel
theorem d_Mo_make_66 : decode prog_9_method_12_code 66 = .ok (.getfield 28, 3) := by decide +kernel
theorem d_Mo_make_69 : decode prog_9_method_12_code 69 = .ok (.aload_n 0, 1) := by decide +kernel
theorem d_Mo_make_70 : decode prog_9_method_12_code 70 = .ok (.getfield 79, 3) := by decide +kernel
theorem d_Mo_make_73 : decode prog_9_method_12_code 73 = .ok (.aload_n 0, 1) := by decide +kernel
theorem d_Mo_make_74 : decode prog_9_method_12_code 74 = .ok (.iload_n 2, 1) := by decide +kernel
theorem d_Mo_make_75 : decode prog_9_method_12_code 75 = .ok (.invokevirtual 92, 3) := by decide +kernel
theorem d_Mo_make_78 : decode prog_9_method_12_code 78 = .ok (.iastore, 1) := by decide +kernel
theorem d_Mo_make_79 : decode prog_9_method_12_code 79 = .ok (.aload_n 0, 1) := by decide +kernel
theorem d_Mo_make_80 : decode prog_9_method_12_code 80 = .ok (.getfield 31, 3) := by decide +kernel
theorem d_Mo_make_83 : decode prog_9_method_12_code 83 = .ok (.aload_n 0, 1) := by decide +kernel
theorem d_Mo_make_84 : decode prog_9_method_12_code 84 = .ok (.getfield 79, 3) := by decide +kernel
theorem d_Mo_make_87 : decode prog_9_method_12_code 87 = .ok (.iconst (-1), 1) := by decide +kernel
theorem d_Mo_make_88 : decode prog_9_method_12_code 88 = .ok (.iastore, 1) := by decide +kernel
theorem d_Mo_make_89 : decode prog_9_method_12_code 89 = .ok (.aload_n 0, 1) := by decide +kernel
theorem d_Mo_make_90 : decode prog_9_method_12_code 90 = .ok (.dup, 1) := by decide +kernel
theorem d_Mo_make_91 : decode prog_9_method_12_code 91 = .ok (.getfield 79, 3) := by decide +kernel
theorem d_Mo_make_94 : decode prog_9_method_12_code 94 = .ok (.iconst 1, 1) := by decide +kernel
theorem d_Mo_make_95 : decode prog_9_method_12_code 95 = .ok (.iadd, 1) := by decide +kernel
theorem d_Mo_make_96 : decode prog_9_method_12_code 96 = .ok (.putfield 79, 3) := by decide +kernel
theorem d_Mo_make_99 : decode prog_9_method_12_code 99 = .ok (.return_, 1) := by decide +kernel
theorem d_Mo_move_0 : decode prog_9_method_13_code 0 = .ok (.aload_n 0, 1) := by decide +kernel
theorem d_Mo_move_1 : decode prog_9_method_13_code 1 = .ok (.getfield 7, 3) := by decide +kernel
theorem d_Mo_move_4 : decode prog_9_method_13_code 4 = .ok (.iload_n 2, 1) := by decide +kernel
theorem d_Mo_move_5 : decode prog_9_method_13_code 5 = .ok (.aload_n 0, 1) := by decide +kernel
theorem d_Mo_move_6 : decode prog_9_method_13_code 6 = .ok (.getfield 7, 3) := by decide +kernel
theorem d_Mo_move_9 : decode prog_9_method_13_code 9 = .ok (.iload_n 1, 1) := by decide +kernel
theorem d_Mo_move_10 : decode prog_9_method_13_code 10 = .ok (.iaload, 1) := by decide +kernel
theorem d_Mo_move_11 : decode prog_9_method_13_code 11 = .ok (.iastore, 1) := by decide +kernel
theorem d_Mo_move_12 : decode prog_9_method_13_code 12 = .ok (.aload_n 0, 1) := by decide +kernel
theorem d_Mo_move_13 : decode prog_9_method_13_code 13 = .ok (.getfield 13, 3) := by decide +kernel
theorem d_Mo_move_16 : decode prog_9_method_13_code 16 = .ok (.iload_n 2, 1) := by decide +kernel
theorem d_Mo_move_17 : decode prog_9_method_13_code 17 = .ok (.aload_n 0, 1) := by decide +kernel
theorem d_Mo_move_18 : decode prog_9_method_13_code 18 = .ok (.getfield 13, 3) := by decide +kernel
theorem d_Mo_move_21 : decode prog_9_method_13_code 21 = .ok (.iload_n 1, 1) := by decide +kernel
theorem d_Mo_move_22 : decode prog_9_method_13_code 22 = .ok (.iaload, 1) := by decide +kernel
theorem d_Mo_move_23 : decode prog_9_method_13_code 23 = .ok (.iastore, 1) := by decide +kernel
theorem d_Mo_move_24 : decode prog_9_method_13_code 24 = .ok (.aload_n 0, 1) := by decide +kernel
theorem d_Mo_move_25 : decode prog_9_method_13_code 25 = .ok (.getfield 16, 3) := by decide +kernel
theorem d_Mo_move_28 : decode prog_9_method_13_code 28 = .ok (.iload_n 2, 1) := by decide +kernel
theorem d_Mo_move_29 : decode prog_9_method_13_code 29 = .ok (.aload_n 0, 1) := by decide +kernel
theorem d_Mo_move_30 : decode prog_9_method_13_code 30 = .ok (.getfield 16, 3) := by decide +kernel
theorem d_Mo_move_33 : decode prog_9_method_13_code 33 = .ok (.iload_n 1, 1) := by decide +kernel
theorem d_Mo_move_34 : decode prog_9_method_13_code 34 = .ok (.iaload, 1) := by decide +kernel
theorem d_Mo_move_35 : decode prog_9_method_13_code 35 = .ok (.iastore, 1) := by decide +kernel
theorem d_Mo_move_36 : decode prog_9_method_13_code 36 = .ok (.aload_n 0, 1) := by decide +kernel
theorem d_Mo_move_37 : decode prog_9_method_13_code 37 = .ok (.getfield 19, 3) := by decide +kernel
theorem d_Mo_move_40 : decode prog_9_method_13_code 40 = .ok (.iload_n 2, 1) := by decide +kernel
theorem d_Mo_move_41 : decode prog_9_method_13_code 41 = .ok (.aload_n 0, 1) := by decide +kernel
theorem d_Mo_move_42 : decode prog_9_method_13_code 42 = .ok (.getfield 19, 3) := by decide +kernel
theorem d_Mo_move_45 : decode prog_9_method_13_code 45 = .ok (.iload_n 1, 1) := by decide +kernel
theorem d_Mo_move_46 : decode prog_9_method_13_code 46 = .ok (.iaload, 1) := by decide +kernel
theorem d_Mo_move_47 : decode prog_9_method_13_code 47 = .ok (.iastore, 1) := by decide +kernel
theorem d_Mo_move_48 : decode prog_9_method_13_code 48 = .ok (.aload_n 0, 1) := by decide +kernel
theorem d_Mo_move_49 : decode prog_9_method_13_code 49 = .ok (.getfield 22, 3) := by decide +kernel
theorem d_Mo_move_52 : decode prog_9_method_13_code 52 = .ok (.iload_n 2, 1) := by decide +kernel
theorem d_Mo_move_53 : decode prog_9_method_13_code 53 = .ok (.aload_n 0, 1) := by decide +kernel
theorem d_Mo_move_54 : decode prog_9_method_13_code 54 = .ok (.getfield 22, 3) := by decide +kernel
theorem d_Mo_move_57 : decode prog_9_method_13_code 57 = .ok (.iload_n 1, 1) := by decide +kernel
theorem d_Mo_move_58 : decode prog_9_method_13_code 58 = .ok (.iaload, 1) := by decide +kernel
theorem d_Mo_move_59 : decode prog_9_method_13_code 59 = .ok (.iastore, 1) := by decide +kernel
theorem d_Mo_move_60 : decode prog_9_method_13_code 60 = .ok (.aload_n 0, 1) := by decide +kernel
theorem d_Mo_move_61 : decode prog_9_method_13_code 61 = .ok (.getfield 25, 3) := by decide +kernel
theorem d_Mo_move_64 : decode prog_9_method_13_code 64 = .ok (.iload_n 2, 1) := by decide +kernel
theorem d_Mo_move_65 : decode prog_9_method_13_code 65 = .ok (.aload_n 0, 1) := by decide +kernel
theorem d_Mo_move_66 : decode prog_9_method_13_code 66 = .ok (.getfield 25, 3) := by decide +kernel
theorem d_Mo_move_69 : decode prog_9_method_13_code 69 = .ok (.iload_n 1, 1) := by decide +kernel
theorem d_Mo_move_70 : decode prog_9_method_13_code 70 = .ok (.iaload, 1) := by decide +kernel
theorem d_Mo_move_71 : decode prog_9_method_13_code 71 = .ok (.iastore, 1) := by decide +kernel
theorem d_Mo_move_72 : decode prog_9_method_13_code 72 = .ok (.aload_n 0, 1) := by decide +kernel
theorem d_Mo_move_73 : decode prog_9_method_13_code 73 = .ok (.getfield 28, 3) := by decide +kernel
theorem d_Mo_move_76 : decode prog_9_method_13_code 76 = .ok (.iload_n 2, 1) := by decide +kernel
theorem d_Mo_move_77 : decode prog_9_method_13_code 77 = .ok (.aload_n 0, 1) := by decide +kernel
theorem d_Mo_move_78 : decode prog_9_method_13_code 78 = .ok (.getfield 28, 3) := by decide +kernel
theorem d_Mo_move_81 : decode prog_9_method_13_code 81 = .ok (.iload_n 1, 1) := by decide +kernel
theorem d_Mo_move_82 : decode prog_9_method_13_code 82 = .ok (.iaload, 1) := by decide +kernel
theorem d_Mo_move_83 : decode prog_9_method_13_code 83 = .ok (.iastore, 1) := by decide +kernel
theorem d_Mo_move_84 : decode prog_9_method_13_code 84 = .ok (.aload_n 0, 1) := by decide +kernel
theorem d_Mo_move_85 : decode prog_9_method_13_code 85 = .ok (.getfield 31, 3) := by decide +kernel
theorem d_Mo_move_88 : decode prog_9_method_13_code 88 = .ok (.iload_n 2, 1) := by decide +kernel
theorem d_Mo_move_89 : decode prog_9_method_13_code 89 = .ok (.aload_n 0, 1) := by decide +kernel
theorem d_Mo_move_90 : decode prog_9_method_13_code 90 = .ok (.getfield 31, 3) := by decide +kernel
theorem d_Mo_move_93 : decode prog_9_method_13_code 93 = .ok (.iload_n 1, 1) := by decide +kernel
theorem d_Mo_move_94 : decode prog_9_method_13_code 94 = .ok (.iaload, 1) := by decide +kernel
theorem d_Mo_move_95 : decode prog_9_method_13_code 95 = .ok (.iastore, 1) := by decide +kernel
theorem d_Mo_move_96 : decode prog_9_method_13_code 96 = .ok (.return_, 1) := by decide +kernel
theorem d_Mo_takes_0 : decode prog_9_method_14_code 0 = .ok (.iload_n 1, 1) := by decide +kernel
theorem d_Mo_takes_1 : decode prog_9_method_14_code 1 = .ok (.invokestatic 96, 3) := by decide +kernel
theorem d_Mo_takes_4 : decode prog_9_method_14_code 4 = .ok (.ifCond .eq 30, 3) := by decide +kernel
theorem d_Mo_takes_7 : decode prog_9_method_14_code 7 = .ok (.aload_n 0, 1) := by decide +kernel
theorem d_Mo_takes_8 : decode prog_9_method_14_code 8 = .ok (.getfield 99, 3) := by decide +kernel
theorem d_Mo_takes_11 : decode prog_9_method_14_code 11 = .ok (.iconst 4, 1) := by decide +kernel
theorem d_Mo_takes_12 : decode prog_9_method_14_code 12 = .ok (.if_icmp .ge 22, 3) := by decide +kernel
theorem d_Mo_takes_15 : decode prog_9_method_14_code 15 = .ok (.aload_n 0, 1) := by decide +kernel
theorem d_Mo_takes_16 : decode prog_9_method_14_code 16 = .ok (.getfield 99, 3) := by decide +kernel
theorem d_Mo_takes_19 : decode prog_9_method_14_code 19 = .ok (.ifCond .eq 11, 3) := by decide +kernel
theorem d_Mo_takes_22 : decode prog_9_method_14_code 22 = .ok (.iload_n 1, 1) := by decide +kernel
theorem d_Mo_takes_23 : decode prog_9_method_14_code 23 = .ok (.aload_n 0, 1) := by decide +kernel
theorem d_Mo_takes_24 : decode prog_9_method_14_code 24 = .ok (.getfield 102, 3) := by decide +kernel
theorem d_Mo_takes_27 : decode prog_9_method_14_code 27 = .ok (.if_icmp .ne 7, 3) := by decide +kernel
theorem d_Mo_takes_30 : decode prog_9_method_14_code 30 = .ok (.iconst 1, 1) := by decide +kernel
theorem d_Mo_takes_31 : decode prog_9_method_14_code 31 = .ok (.goto 4, 3) := by decide +kernel
theorem d_Mo_takes_34 : decode prog_9_method_14_code 34 = .ok (.iconst 0, 1) := by decide +kernel
theorem d_Mo_takes_35 : decode prog_9_method_14_code 35 = .ok (.ireturn, 1) := by decide +kernel
theorem d_Mo_change_0 : decode prog_9_method_15_code 0 = .ok (.aload_n 0, 1) := by decide +kernel
theorem d_Mo_change_1 : decode prog_9_method_15_code 1 = .ok (.iload_n 2, 1) := by decide +kernel
theorem d_Mo_change_2 : decode prog_9_method_15_code 2 = .ok (.putfield 102, 3) := by decide +kernel
theorem d_Mo_change_5 : decode prog_9_method_15_code 5 = .ok (.aload_n 0, 1) := by decide +kernel
theorem d_Mo_change_6 : decode prog_9_method_15_code 6 = .ok (.getfield 50, 3) := by decide +kernel
theorem d_Mo_change_9 : decode prog_9_method_15_code 9 = .ok (.aload_n 0, 1) := by decide +kernel
theorem d_Mo_change_10 : decode prog_9_method_15_code 10 = .ok (.getfield 99, 3) := by decide +kernel
theorem d_Mo_change_13 : decode prog_9_method_15_code 13 = .ok (.iload_n 1, 1) := by decide +kernel
theorem d_Mo_change_14 : decode prog_9_method_15_code 14 = .ok (.iastore, 1) := by decide +kernel
theorem d_Mo_change_15 : decode prog_9_method_15_code 15 = .ok (.aload_n 0, 1) := by decide +kernel
theorem d_Mo_change_16 : decode prog_9_method_15_code 16 = .ok (.getfield 53, 3) := by decide +kernel
theorem d_Mo_change_19 : decode prog_9_method_15_code 19 = .ok (.aload_n 0, 1) := by decide +kernel
theorem d_Mo_change_20 : decode prog_9_method_15_code 20 = .ok (.getfield 99, 3) := by decide +kernel
theorem d_Mo_change_23 : decode prog_9_method_15_code 23 = .ok (.iload_n 3, 1) := by decide +kernel
theorem d_Mo_change_24 : decode prog_9_method_15_code 24 = .ok (.iastore, 1) := by decide +kernel
theorem d_Mo_change_25 : decode prog_9_method_15_code 25 = .ok (.aload_n 0, 1) := by decide +kernel
theorem d_Mo_change_26 : decode prog_9_method_15_code 26 = .ok (.getfield 56, 3) := by decide +kernel
theorem d_Mo_change_29 : decode prog_9_method_15_code 29 = .ok (.aload_n 0, 1) := by decide +kernel
theorem d_Mo_change_30 : decode prog_9_method_15_code 30 = .ok (.getfield 99, 3) := by decide +kernel
theorem d_Mo_change_33 : decode prog_9_method_15_code 33 = .ok (.iload 4, 2) := by decide +kernel
theorem d_Mo_change_35 : decode prog_9_method_15_code 35 = .ok (.iastore, 1) := by decide +kernel
theorem d_Mo_change_36 : decode prog_9_method_15_code 36 = .ok (.aload_n 0, 1) := by decide +kernel
theorem d_Mo_change_37 : decode prog_9_method_15_code 37 = .ok (.getfield 59, 3) := by decide +kernel
theorem d_Mo_change_40 : decode prog_9_method_15_code 40 = .ok (.aload_n 0, 1) := by decide +kernel
theorem d_Mo_change_41 : decode prog_9_method_15_code 41 = .ok (.getfield 99, 3) := by decide +kernel
theorem d_Mo_change_44 : decode prog_9_method_15_code 44 = .ok (.iload 5, 2) := by decide +kernel
theorem d_Mo_change_46 : decode prog_9_method_15_code 46 = .ok (.iastore, 1) := by decide +kernel
theorem d_Mo_change_47 : decode prog_9_method_15_code 47 = .ok (.aload_n 0, 1) := by decide +kernel
theorem d_Mo_change_48 : decode prog_9_method_15_code 48 = .ok (.dup, 1) := by decide +kernel
theorem d_Mo_change_49 : decode prog_9_method_15_code 49 = .ok (.getfield 99, 3) := by decide +kernel
theorem d_Mo_change_52 : decode prog_9_method_15_code 52 = .ok (.iconst 1, 1) := by decide +kernel
theorem d_Mo_change_53 : decode prog_9_method_15_code 53 = .ok (.iadd, 1) := by decide +kernel
theorem d_Mo_change_54 : decode prog_9_method_15_code 54 = .ok (.putfield 99, 3) := by decide +kernel
theorem d_Mo_change_57 : decode prog_9_method_15_code 57 = .ok (.return_, 1) := by decide +kernel
theorem d_Mo_put_0 : decode prog_9_method_16_code 0 = .ok (.iload_n 2, 1) := by decide +kernel
theorem d_Mo_put_1 : decode prog_9_method_16_code 1 = .ok (.invokestatic 105, 3) := by decide +kernel
theorem d_Mo_put_4 : decode prog_9_method_16_code 4 = .ok (.ifCond .eq 18, 3) := by decide +kernel
theorem d_Mo_put_7 : decode prog_9_method_16_code 7 = .ok (.iload_n 3, 1) := by decide +kernel
theorem d_Mo_put_8 : decode prog_9_method_16_code 8 = .ok (.invokestatic 108, 3) := by decide +kernel
theorem d_Mo_put_11 : decode prog_9_method_16_code 11 = .ok (.ifCond .eq 11, 3) := by decide +kernel
theorem d_Mo_put_14 : decode prog_9_method_16_code 14 = .ok (.aload_n 0, 1) := by decide +kernel
theorem d_Mo_put_15 : decode prog_9_method_16_code 15 = .ok (.iload_n 1, 1) := by decide +kernel
theorem d_Mo_put_16 : decode prog_9_method_16_code 16 = .ok (.invokevirtual 111, 3) := by decide +kernel
theorem d_Mo_put_19 : decode prog_9_method_16_code 19 = .ok (.ifCond .ne 5, 3) := by decide +kernel
theorem d_Mo_put_22 : decode prog_9_method_16_code 22 = .ok (.iconst 0, 1) := by decide +kernel
theorem d_Mo_put_23 : decode prog_9_method_16_code 23 = .ok (.ireturn, 1) := by decide +kernel
theorem d_Mo_put_24 : decode prog_9_method_16_code 24 = .ok (.aload_n 0, 1) := by decide +kernel
theorem d_Mo_put_25 : decode prog_9_method_16_code 25 = .ok (.iconst 0, 1) := by decide +kernel
theorem d_Mo_put_26 : decode prog_9_method_16_code 26 = .ok (.iload_n 1, 1) := by decide +kernel
theorem d_Mo_put_27 : decode prog_9_method_16_code 27 = .ok (.iload_n 2, 1) := by decide +kernel
theorem d_Mo_put_28 : decode prog_9_method_16_code 28 = .ok (.iload_n 3, 1) := by decide +kernel
theorem d_Mo_put_29 : decode prog_9_method_16_code 29 = .ok (.iload 4, 2) := by decide +kernel
theorem d_Mo_put_31 : decode prog_9_method_16_code 31 = .ok (.invokevirtual 114, 3) := by decide +kernel
theorem d_Mo_put_34 : decode prog_9_method_16_code 34 = .ok (.iconst 1, 1) := by decide +kernel
theorem d_Mo_put_35 : decode prog_9_method_16_code 35 = .ok (.ireturn, 1) := by decide +kernel
theorem d_Mo_erase_0 : decode prog_9_method_17_code 0 = .ok (.iload_n 2, 1) := by decide +kernel
theorem d_Mo_erase_1 : decode prog_9_method_17_code 1 = .ok (.iconst (-1), 1) := by decide +kernel
theorem d_Mo_erase_2 : decode prog_9_method_17_code 2 = .ok (.if_icmp .ne 12, 3) := by decide +kernel
theorem d_Mo_erase_5 : decode prog_9_method_17_code 5 = .ok (.iload_n 3, 1) := by decide +kernel
theorem d_Mo_erase_6 : decode prog_9_method_17_code 6 = .ok (.iconst (-1), 1) := by decide +kernel
theorem d_Mo_erase_7 : decode prog_9_method_17_code 7 = .ok (.if_icmp .ne 7, 3) := by decide +kernel
theorem d_Mo_erase_10 : decode prog_9_method_17_code 10 = .ok (.iconst 1, 1) := by decide +kernel
theorem d_Mo_erase_11 : decode prog_9_method_17_code 11 = .ok (.goto 4, 3) := by decide +kernel
theorem d_Mo_erase_14 : decode prog_9_method_17_code 14 = .ok (.iconst 0, 1) := by decide +kernel
theorem d_Mo_erase_15 : decode prog_9_method_17_code 15 = .ok (.istore 4, 2) := by decide +kernel
theorem d_Mo_erase_17 : decode prog_9_method_17_code 17 = .ok (.iload 4, 2) := by decide +kernel
theorem d_Mo_erase_19 : decode prog_9_method_17_code 19 = .ok (.ifCond .ne 22, 3) := by decide +kernel
theorem d_Mo_erase_22 : decode prog_9_method_17_code 22 = .ok (.iload_n 2, 1) := by decide +kernel
theorem d_Mo_erase_23 : decode prog_9_method_17_code 23 = .ok (.invokestatic 105, 3) := by decide +kernel
theorem d_Mo_erase_26 : decode prog_9_method_17_code 26 = .ok (.ifCond .eq 19, 3) := by decide +kernel
theorem d_Mo_erase_29 : decode prog_9_method_17_code 29 = .ok (.iload_n 3, 1) := by decide +kernel
theorem d_Mo_erase_30 : decode prog_9_method_17_code 30 = .ok (.iconst (-1), 1) := by decide +kernel
theorem d_Mo_erase_31 : decode prog_9_method_17_code 31 = .ok (.if_icmp .eq 10, 3) := by decide +kernel
theorem d_Mo_erase_34 : decode prog_9_method_17_code 34 = .ok (.iload_n 3, 1) := by decide +kernel
theorem d_Mo_erase_35 : decode prog_9_method_17_code 35 = .ok (.invokestatic 108, 3) := by decide +kernel
theorem d_Mo_erase_38 : decode prog_9_method_17_code 38 = .ok (.ifCond .eq 7, 3) := by decide +kernel
theorem d_Mo_erase_41 : decode prog_9_method_17_code 41 = .ok (.iconst 1, 1) := by decide +kernel
theorem d_Mo_erase_42 : decode prog_9_method_17_code 42 = .ok (.goto 4, 3) := by decide +kernel
theorem d_Mo_erase_45 : decode prog_9_method_17_code 45 = .ok (.iconst 0, 1) := by decide +kernel
theorem d_Mo_erase_46 : decode prog_9_method_17_code 46 = .ok (.istore 5, 2) := by decide +kernel
theorem d_Mo_erase_48 : decode prog_9_method_17_code 48 = .ok (.iload 5, 2) := by decide +kernel
theorem d_Mo_erase_50 : decode prog_9_method_17_code 50 = .ok (.ifCond .eq 11, 3) := by decide +kernel
theorem d_Mo_erase_53 : decode prog_9_method_17_code 53 = .ok (.aload_n 0, 1) := by decide +kernel
theorem d_Mo_erase_54 : decode prog_9_method_17_code 54 = .ok (.iload_n 1, 1) := by decide +kernel
theorem d_Mo_erase_55 : decode prog_9_method_17_code 55 = .ok (.invokevirtual 111, 3) := by decide +kernel
theorem d_Mo_erase_58 : decode prog_9_method_17_code 58 = .ok (.ifCond .ne 5, 3) := by decide +kernel
theorem d_Mo_erase_61 : decode prog_9_method_17_code 61 = .ok (.iconst 0, 1) := by decide +kernel
theorem d_Mo_erase_62 : decode prog_9_method_17_code 62 = .ok (.ireturn, 1) := by decide +kernel
theorem d_Mo_erase_63 : decode prog_9_method_17_code 63 = .ok (.aload_n 0, 1) := by decide +kernel
theorem d_Mo_erase_64 : decode prog_9_method_17_code 64 = .ok (.iload 4, 2) := by decide +kernel
theorem d_Mo_erase_66 : decode prog_9_method_17_code 66 = .ok (.ifCond .eq 7, 3) := by decide +kernel
theorem d_Mo_erase_69 : decode prog_9_method_17_code 69 = .ok (.iconst 3, 1) := by decide +kernel
theorem d_Mo_erase_70 : decode prog_9_method_17_code 70 = .ok (.goto 13, 3) := by decide +kernel
theorem d_Mo_erase_73 : decode prog_9_method_17_code 73 = .ok (.iload_n 3, 1) := by decide +kernel
theorem d_Mo_erase_74 : decode prog_9_method_17_code 74 = .ok (.iconst (-1), 1) := by decide +kernel
theorem d_Mo_erase_75 : decode prog_9_method_17_code 75 = .ok (.if_icmp .ne 7, 3) := by decide +kernel
theorem d_Mo_erase_78 : decode prog_9_method_17_code 78 = .ok (.iconst 2, 1) := by decide +kernel
theorem d_Mo_erase_79 : decode prog_9_method_17_code 79 = .ok (.goto 4, 3) := by decide +kernel
theorem d_Mo_erase_82 : decode prog_9_method_17_code 82 = .ok (.iconst 1, 1) := by decide +kernel
theorem d_Mo_erase_83 : decode prog_9_method_17_code 83 = .ok (.iload_n 1, 1) := by decide +kernel
theorem d_Mo_erase_84 : decode prog_9_method_17_code 84 = .ok (.iload_n 2, 1) := by decide +kernel
theorem d_Mo_erase_85 : decode prog_9_method_17_code 85 = .ok (.iload_n 3, 1) := by decide +kernel
theorem d_Mo_erase_86 : decode prog_9_method_17_code 86 = .ok (.iconst 0, 1) := by decide +kernel
theorem d_Mo_erase_87 : decode prog_9_method_17_code 87 = .ok (.invokevirtual 114, 3) := by decide +kernel
theorem d_Mo_erase_90 : decode prog_9_method_17_code 90 = .ok (.iconst 1, 1) := by decide +kernel
theorem d_Mo_erase_91 : decode prog_9_method_17_code 91 = .ok (.ireturn, 1) := by decide +kernel
theorem d_Mo_expect_0 : decode prog_9_method_18_code 0 = .ok (.iload_n 1, 1) := by decide +kernel
theorem d_Mo_expect_1 : decode prog_9_method_18_code 1 = .ok (.invokestatic 96, 3) := by decide +kernel
theorem d_Mo_expect_4 : decode prog_9_method_18_code 4 = .ok (.ifCond .eq 10, 3) := by decide +kernel
theorem d_Mo_expect_7 : decode prog_9_method_18_code 7 = .ok (.iload_n 2, 1) := by decide +kernel
theorem d_Mo_expect_8 : decode prog_9_method_18_code 8 = .ok (.invokestatic 105, 3) := by decide +kernel
theorem d_Mo_expect_11 : decode prog_9_method_18_code 11 = .ok (.ifCond .ne 5, 3) := by decide +kernel
theorem d_Mo_expect_14 : decode prog_9_method_18_code 14 = .ok (.iconst 0, 1) := by decide +kernel
theorem d_Mo_expect_15 : decode prog_9_method_18_code 15 = .ok (.ireturn, 1) := by decide +kernel
theorem d_Mo_expect_16 : decode prog_9_method_18_code 16 = .ok (.aload_n 0, 1) := by decide +kernel
theorem d_Mo_expect_17 : decode prog_9_method_18_code 17 = .ok (.iconst 1, 1) := by decide +kernel
theorem d_Mo_expect_18 : decode prog_9_method_18_code 18 = .ok (.putfield 118, 3) := by decide +kernel
theorem d_Mo_expect_21 : decode prog_9_method_18_code 21 = .ok (.aload_n 0, 1) := by decide +kernel
theorem d_Mo_expect_22 : decode prog_9_method_18_code 22 = .ok (.iload_n 1, 1) := by decide +kernel
theorem d_Mo_expect_23 : decode prog_9_method_18_code 23 = .ok (.putfield 122, 3) := by decide +kernel
theorem d_Mo_expect_26 : decode prog_9_method_18_code 26 = .ok (.aload_n 0, 1) := by decide +kernel
theorem d_Mo_expect_27 : decode prog_9_method_18_code 27 = .ok (.iload_n 2, 1) := by decide +kernel
theorem d_Mo_expect_28 : decode prog_9_method_18_code 28 = .ok (.putfield 125, 3) := by decide +kernel
theorem d_Mo_expect_31 : decode prog_9_method_18_code 31 = .ok (.aload_n 0, 1) := by decide +kernel
theorem d_Mo_expect_32 : decode prog_9_method_18_code 32 = .ok (.iload_n 3, 1) := by decide +kernel
theorem d_Mo_expect_33 : decode prog_9_method_18_code 33 = .ok (.putfield 128, 3) := by decide +kernel
theorem d_Mo_expect_36 : decode prog_9_method_18_code 36 = .ok (.aload_n 0, 1) := by decide +kernel
theorem d_Mo_expect_37 : decode prog_9_method_18_code 37 = .ok (.iload 4, 2) := by decide +kernel
theorem d_Mo_expect_39 : decode prog_9_method_18_code 39 = .ok (.putfield 131, 3) := by decide +kernel
theorem d_Mo_expect_42 : decode prog_9_method_18_code 42 = .ok (.iconst 1, 1) := by decide +kernel
theorem d_Mo_expect_43 : decode prog_9_method_18_code 43 = .ok (.ireturn, 1) := by decide +kernel
theorem d_Mo_isMet_0 : decode prog_9_method_19_code 0 = .ok (.aload_n 0, 1) := by decide +kernel
theorem d_Mo_isMet_1 : decode prog_9_method_19_code 1 = .ok (.getfield 118, 3) := by decide +kernel
theorem d_Mo_isMet_4 : decode prog_9_method_19_code 4 = .ok (.ifCond .ne 5, 3) := by decide +kernel
theorem d_Mo_isMet_7 : decode prog_9_method_19_code 7 = .ok (.iconst 1, 1) := by decide +kernel
theorem d_Mo_isMet_8 : decode prog_9_method_19_code 8 = .ok (.ireturn, 1) := by decide +kernel
theorem d_Mo_isMet_9 : decode prog_9_method_19_code 9 = .ok (.aload_n 0, 1) := by decide +kernel
theorem d_Mo_isMet_10 : decode prog_9_method_19_code 10 = .ok (.aload_n 0, 1) := by decide +kernel
theorem d_Mo_isMet_11 : decode prog_9_method_19_code 11 = .ok (.getfield 122, 3) := by decide +kernel
theorem d_Mo_isMet_14 : decode prog_9_method_19_code 14 = .ok (.aload_n 0, 1) := by decide +kernel
theorem d_Mo_isMet_15 : decode prog_9_method_19_code 15 = .ok (.getfield 125, 3) := by decide +kernel
theorem d_Mo_isMet_18 : decode prog_9_method_19_code 18 = .ok (.sipush 10000, 3) := by decide +kernel
theorem d_Mo_isMet_21 : decode prog_9_method_19_code 21 = .ok (.invokevirtual 134, 3) := by decide +kernel
theorem d_Mo_isMet_24 : decode prog_9_method_19_code 24 = .ok (.istore_n 1, 1) := by decide +kernel
theorem d_Mo_isMet_25 : decode prog_9_method_19_code 25 = .ok (.aload_n 0, 1) := by decide +kernel
theorem d_Mo_isMet_26 : decode prog_9_method_19_code 26 = .ok (.getfield 128, 3) := by decide +kernel
theorem d_Mo_isMet_29 : decode prog_9_method_19_code 29 = .ok (.ifCond .eq 28, 3) := by decide +kernel
theorem d_Mo_isMet_32 : decode prog_9_method_19_code 32 = .ok (.iload_n 1, 1) := by decide +kernel
theorem d_Mo_isMet_33 : decode prog_9_method_19_code 33 = .ok (.ifCond .lt 20, 3) := by decide +kernel
theorem d_Mo_isMet_36 : decode prog_9_method_19_code 36 = .ok (.aload_n 0, 1) := by decide +kernel
theorem d_Mo_isMet_37 : decode prog_9_method_19_code 37 = .ok (.getfield 22, 3) := by decide +kernel
theorem d_Mo_isMet_40 : decode prog_9_method_19_code 40 = .ok (.iload_n 1, 1) := by decide +kernel
theorem d_Mo_isMet_41 : decode prog_9_method_19_code 41 = .ok (.iaload, 1) := by decide +kernel
theorem d_Mo_isMet_42 : decode prog_9_method_19_code 42 = .ok (.aload_n 0, 1) := by decide +kernel
theorem d_Mo_isMet_43 : decode prog_9_method_19_code 43 = .ok (.getfield 131, 3) := by decide +kernel
theorem d_Mo_isMet_46 : decode prog_9_method_19_code 46 = .ok (.if_icmp .ne 7, 3) := by decide +kernel
theorem d_Mo_isMet_49 : decode prog_9_method_19_code 49 = .ok (.iconst 1, 1) := by decide +kernel
theorem d_Mo_isMet_50 : decode prog_9_method_19_code 50 = .ok (.goto 16, 3) := by decide +kernel
theorem d_Mo_isMet_53 : decode prog_9_method_19_code 53 = .ok (.iconst 0, 1) := by decide +kernel
theorem d_Mo_isMet_54 : decode prog_9_method_19_code 54 = .ok (.goto 12, 3) := by decide +kernel
theorem d_Mo_isMet_57 : decode prog_9_method_19_code 57 = .ok (.iload_n 1, 1) := by decide +kernel
theorem d_Mo_isMet_58 : decode prog_9_method_19_code 58 = .ok (.ifCond .ge 7, 3) := by decide +kernel
theorem d_Mo_isMet_61 : decode prog_9_method_19_code 61 = .ok (.iconst 1, 1) := by decide +kernel
theorem d_Mo_isMet_62 : decode prog_9_method_19_code 62 = .ok (.goto 4, 3) := by decide +kernel
theorem d_Mo_isMet_65 : decode prog_9_method_19_code 65 = .ok (.iconst 0, 1) := by decide +kernel
theorem d_Mo_isMet_66 : decode prog_9_method_19_code 66 = .ok (.ireturn, 1) := by decide +kernel
theorem d_Mo_drop_0 : decode prog_9_method_20_code 0 = .ok (.aload_n 0, 1) := by decide +kernel
theorem d_Mo_drop_1 : decode prog_9_method_20_code 1 = .ok (.iconst 0, 1) := by decide +kernel
theorem d_Mo_drop_2 : decode prog_9_method_20_code 2 = .ok (.putfield 99, 3) := by decide +kernel
theorem d_Mo_drop_5 : decode prog_9_method_20_code 5 = .ok (.aload_n 0, 1) := by decide +kernel
theorem d_Mo_drop_6 : decode prog_9_method_20_code 6 = .ok (.iconst 0, 1) := by decide +kernel
theorem d_Mo_drop_7 : decode prog_9_method_20_code 7 = .ok (.putfield 118, 3) := by decide +kernel
theorem d_Mo_drop_10 : decode prog_9_method_20_code 10 = .ok (.return_, 1) := by decide +kernel
theorem d_Mo_trim_0 : decode prog_9_method_21_code 0 = .ok (.aload_n 0, 1) := by decide +kernel
theorem d_Mo_trim_1 : decode prog_9_method_21_code 1 = .ok (.getfield 44, 3) := by decide +kernel
theorem d_Mo_trim_4 : decode prog_9_method_21_code 4 = .ok (.iload_n 2, 1) := by decide +kernel
theorem d_Mo_trim_5 : decode prog_9_method_21_code 5 = .ok (.iconst 4, 1) := by decide +kernel
theorem d_Mo_trim_6 : decode prog_9_method_21_code 6 = .ok (.idiv, 1) := by decide +kernel
theorem d_Mo_trim_7 : decode prog_9_method_21_code 7 = .ok (.iaload, 1) := by decide +kernel
theorem d_Mo_trim_8 : decode prog_9_method_21_code 8 = .ok (.istore_n 3, 1) := by decide +kernel
theorem d_Mo_trim_9 : decode prog_9_method_21_code 9 = .ok (.iconst 0, 1) := by decide +kernel
theorem d_Mo_trim_10 : decode prog_9_method_21_code 10 = .ok (.istore 4, 2) := by decide +kernel
theorem d_Mo_trim_12 : decode prog_9_method_21_code 12 = .ok (.iconst (-1), 1) := by decide +kernel
theorem d_Mo_trim_13 : decode prog_9_method_21_code 13 = .ok (.istore 5, 2) := by decide +kernel
theorem d_Mo_trim_15 : decode prog_9_method_21_code 15 = .ok (.aload_n 0, 1) := by decide +kernel
theorem d_Mo_trim_16 : decode prog_9_method_21_code 16 = .ok (.iload_n 1, 1) := by decide +kernel
theorem d_Mo_trim_17 : decode prog_9_method_21_code 17 = .ok (.iload_n 2, 1) := by decide +kernel
theorem d_Mo_trim_18 : decode prog_9_method_21_code 18 = .ok (.sipush 10000, 3) := by decide +kernel
theorem d_Mo_trim_21 : decode prog_9_method_21_code 21 = .ok (.invokevirtual 134, 3) := by decide +kernel
theorem d_Mo_trim_24 : decode prog_9_method_21_code 24 = .ok (.istore 6, 2) := by decide +kernel
theorem d_Mo_trim_26 : decode prog_9_method_21_code 26 = .ok (.iload 6, 2) := by decide +kernel
theorem d_Mo_trim_28 : decode prog_9_method_21_code 28 = .ok (.ifCond .lt 28, 3) := by decide +kernel
theorem d_Mo_trim_31 : decode prog_9_method_21_code 31 = .ok (.iinc 4 1, 3) := by decide +kernel
theorem d_Mo_trim_34 : decode prog_9_method_21_code 34 = .ok (.iload 6, 2) := by decide +kernel
theorem d_Mo_trim_36 : decode prog_9_method_21_code 36 = .ok (.istore 5, 2) := by decide +kernel
theorem d_Mo_trim_38 : decode prog_9_method_21_code 38 = .ok (.aload_n 0, 1) := by decide +kernel
theorem d_Mo_trim_39 : decode prog_9_method_21_code 39 = .ok (.iload_n 1, 1) := by decide +kernel
theorem d_Mo_trim_40 : decode prog_9_method_21_code 40 = .ok (.iload_n 2, 1) := by decide +kernel
theorem d_Mo_trim_41 : decode prog_9_method_21_code 41 = .ok (.aload_n 0, 1) := by decide +kernel
theorem d_Mo_trim_42 : decode prog_9_method_21_code 42 = .ok (.getfield 19, 3) := by decide +kernel
theorem d_Mo_trim_45 : decode prog_9_method_21_code 45 = .ok (.iload 6, 2) := by decide +kernel
theorem d_Mo_trim_47 : decode prog_9_method_21_code 47 = .ok (.iaload, 1) := by decide +kernel
theorem d_Mo_trim_48 : decode prog_9_method_21_code 48 = .ok (.invokevirtual 134, 3) := by decide +kernel
theorem d_Mo_trim_51 : decode prog_9_method_21_code 51 = .ok (.istore 6, 2) := by decide +kernel
theorem d_Mo_trim_53 : decode prog_9_method_21_code 53 = .ok (.goto (-27), 3) := by decide +kernel
theorem d_Mo_trim_56 : decode prog_9_method_21_code 56 = .ok (.iload_n 3, 1) := by decide +kernel
theorem d_Mo_trim_57 : decode prog_9_method_21_code 57 = .ok (.ifCond .eq 24, 3) := by decide +kernel
theorem d_Mo_trim_60 : decode prog_9_method_21_code 60 = .ok (.iload 4, 2) := by decide +kernel
theorem d_Mo_trim_62 : decode prog_9_method_21_code 62 = .ok (.iload_n 3, 1) := by decide +kernel
theorem d_Mo_trim_63 : decode prog_9_method_21_code 63 = .ok (.if_icmp .le 18, 3) := by decide +kernel
theorem d_Mo_trim_66 : decode prog_9_method_21_code 66 = .ok (.aload_n 0, 1) := by decide +kernel
theorem d_Mo_trim_67 : decode prog_9_method_21_code 67 = .ok (.iconst 1, 1) := by decide +kernel
theorem d_Mo_trim_68 : decode prog_9_method_21_code 68 = .ok (.iload_n 1, 1) := by decide +kernel
theorem d_Mo_trim_69 : decode prog_9_method_21_code 69 = .ok (.iload_n 2, 1) := by decide +kernel
theorem d_Mo_trim_70 : decode prog_9_method_21_code 70 = .ok (.aload_n 0, 1) := by decide +kernel
theorem d_Mo_trim_71 : decode prog_9_method_21_code 71 = .ok (.getfield 19, 3) := by decide +kernel
theorem d_Mo_trim_74 : decode prog_9_method_21_code 74 = .ok (.iload 5, 2) := by decide +kernel
theorem d_Mo_trim_76 : decode prog_9_method_21_code 76 = .ok (.iaload, 1) := by decide +kernel
theorem d_Mo_trim_77 : decode prog_9_method_21_code 77 = .ok (.iconst 0, 1) := by decide +kernel
theorem d_Mo_trim_78 : decode prog_9_method_21_code 78 = .ok (.invokevirtual 138, 3) := by decide +kernel
theorem d_Mo_trim_81 : decode prog_9_method_21_code 81 = .ok (.return_, 1) := by decide +kernel
theorem d_Mo_apply_0 : decode prog_9_method_22_code 0 = .ok (.aload_n 0, 1) := by decide +kernel
theorem d_Mo_apply_1 : decode prog_9_method_22_code 1 = .ok (.getfield 99, 3) := by decide +kernel
theorem d_Mo_apply_4 : decode prog_9_method_22_code 4 = .ok (.ifCond .ne 5, 3) := by decide +kernel
theorem d_Mo_apply_7 : decode prog_9_method_22_code 7 = .ok (.iconst (-1), 1) := by decide +kernel
theorem d_Mo_apply_8 : decode prog_9_method_22_code 8 = .ok (.ireturn, 1) := by decide +kernel
theorem d_Mo_apply_9 : decode prog_9_method_22_code 9 = .ok (.aload_n 0, 1) := by decide +kernel
theorem d_Mo_apply_10 : decode prog_9_method_22_code 10 = .ok (.getfield 79, 3) := by decide +kernel
theorem d_Mo_apply_13 : decode prog_9_method_22_code 13 = .ok (.sipush 240, 3) := by decide +kernel
theorem d_Mo_apply_16 : decode prog_9_method_22_code 16 = .ok (.if_icmp .lt 6, 3) := by decide +kernel
theorem d_Mo_apply_19 : decode prog_9_method_22_code 19 = .ok (.bipush (-2), 2) := by decide +kernel
theorem d_Mo_apply_21 : decode prog_9_method_22_code 21 = .ok (.ireturn, 1) := by decide +kernel
theorem d_Mo_apply_22 : decode prog_9_method_22_code 22 = .ok (.aload_n 0, 1) := by decide +kernel
theorem d_Mo_apply_23 : decode prog_9_method_22_code 23 = .ok (.invokevirtual 141, 3) := by decide +kernel
theorem d_Mo_apply_26 : decode prog_9_method_22_code 26 = .ok (.istore_n 1, 1) := by decide +kernel
theorem d_Mo_apply_27 : decode prog_9_method_22_code 27 = .ok (.aload_n 0, 1) := by decide +kernel
theorem d_Mo_apply_28 : decode prog_9_method_22_code 28 = .ok (.getfield 102, 3) := by decide +kernel
theorem d_Mo_apply_31 : decode prog_9_method_22_code 31 = .ok (.istore_n 2, 1) := by decide +kernel
theorem d_Mo_apply_32 : decode prog_9_method_22_code 32 = .ok (.aload_n 0, 1) := by decide +kernel
theorem d_Mo_apply_33 : decode prog_9_method_22_code 33 = .ok (.getfield 99, 3) := by decide +kernel
theorem d_Mo_apply_36 : decode prog_9_method_22_code 36 = .ok (.istore_n 3, 1) := by decide +kernel
theorem d_Mo_apply_37 : decode prog_9_method_22_code 37 = .ok (.aload_n 0, 1) := by decide +kernel
theorem d_Mo_apply_38 : decode prog_9_method_22_code 38 = .ok (.invokevirtual 145, 3) := by decide +kernel
theorem d_Mo_apply_41 : decode prog_9_method_22_code 41 = .ok (.aload_n 0, 1) := by decide +kernel
theorem d_Mo_apply_42 : decode prog_9_method_22_code 42 = .ok (.getfield 148, 3) := by decide +kernel
theorem d_Mo_apply_45 : decode prog_9_method_22_code 45 = .ok (.ifCond .eq 11, 3) := by decide +kernel
theorem d_Mo_apply_48 : decode prog_9_method_22_code 48 = .ok (.aload_n 0, 1) := by decide +kernel
theorem d_Mo_apply_49 : decode prog_9_method_22_code 49 = .ok (.iconst 0, 1) := by decide +kernel
theorem d_Mo_apply_50 : decode prog_9_method_22_code 50 = .ok (.putfield 148, 3) := by decide +kernel
theorem d_Mo_apply_53 : decode prog_9_method_22_code 53 = .ok (.bipush (-3), 2) := by decide +kernel
theorem d_Mo_apply_55 : decode prog_9_method_22_code 55 = .ok (.ireturn, 1) := by decide +kernel
theorem d_Mo_apply_56 : decode prog_9_method_22_code 56 = .ok (.iload_n 1, 1) := by decide +kernel
theorem d_Mo_apply_57 : decode prog_9_method_22_code 57 = .ok (.ifCond .ne 5, 3) := by decide +kernel
theorem d_Mo_apply_60 : decode prog_9_method_22_code 60 = .ok (.iconst 0, 1) := by decide +kernel
theorem d_Mo_apply_61 : decode prog_9_method_22_code 61 = .ok (.ireturn, 1) := by decide +kernel
theorem d_Mo_apply_62 : decode prog_9_method_22_code 62 = .ok (.aload_n 0, 1) := by decide +kernel
theorem d_Mo_apply_63 : decode prog_9_method_22_code 63 = .ok (.getfield 79, 3) := by decide +kernel
theorem d_Mo_apply_66 : decode prog_9_method_22_code 66 = .ok (.istore 4, 2) := by decide +kernel
theorem d_Mo_apply_68 : decode prog_9_method_22_code 68 = .ok (.aload_n 0, 1) := by decide +kernel
theorem d_Mo_apply_69 : decode prog_9_method_22_code 69 = .ok (.dup, 1) := by decide +kernel
theorem d_Mo_apply_70 : decode prog_9_method_22_code 70 = .ok (.getfield 89, 3) := by decide +kernel
theorem d_Mo_apply_73 : decode prog_9_method_22_code 73 = .ok (.iconst 1, 1) := by decide +kernel
theorem d_Mo_apply_74 : decode prog_9_method_22_code 74 = .ok (.iadd, 1) := by decide +kernel
theorem d_Mo_apply_75 : decode prog_9_method_22_code 75 = .ok (.putfield 89, 3) := by decide +kernel
theorem d_Mo_apply_78 : decode prog_9_method_22_code 78 = .ok (.iconst 0, 1) := by decide +kernel
theorem d_Mo_apply_79 : decode prog_9_method_22_code 79 = .ok (.istore 5, 2) := by decide +kernel
theorem d_Mo_apply_81 : decode prog_9_method_22_code 81 = .ok (.iload 5, 2) := by decide +kernel
theorem d_Mo_apply_83 : decode prog_9_method_22_code 83 = .ok (.iload_n 3, 1) := by decide +kernel
theorem d_Mo_apply_84 : decode prog_9_method_22_code 84 = .ok (.if_icmp .ge 64, 3) := by decide +kernel
theorem d_Mo_apply_87 : decode prog_9_method_22_code 87 = .ok (.aload_n 0, 1) := by decide +kernel
theorem d_Mo_apply_88 : decode prog_9_method_22_code 88 = .ok (.aload_n 0, 1) := by decide +kernel
theorem d_Mo_apply_89 : decode prog_9_method_22_code 89 = .ok (.getfield 50, 3) := by decide +kernel
theorem d_Mo_apply_92 : decode prog_9_method_22_code 92 = .ok (.iload 5, 2) := by decide +kernel
theorem d_Mo_apply_94 : decode prog_9_method_22_code 94 = .ok (.iaload, 1) := by decide +kernel
theorem d_Mo_apply_95 : decode prog_9_method_22_code 95 = .ok (.iload_n 2, 1) := by decide +kernel
theorem d_Mo_apply_96 : decode prog_9_method_22_code 96 = .ok (.aload_n 0, 1) := by decide +kernel
theorem d_Mo_apply_97 : decode prog_9_method_22_code 97 = .ok (.getfield 53, 3) := by decide +kernel
theorem d_Mo_apply_100 : decode prog_9_method_22_code 100 = .ok (.iload 5, 2) := by decide +kernel
theorem d_Mo_apply_102 : decode prog_9_method_22_code 102 = .ok (.iaload, 1) := by decide +kernel
theorem d_Mo_apply_103 : decode prog_9_method_22_code 103 = .ok (.aload_n 0, 1) := by decide +kernel
theorem d_Mo_apply_104 : decode prog_9_method_22_code 104 = .ok (.getfield 56, 3) := by decide +kernel
theorem d_Mo_apply_107 : decode prog_9_method_22_code 107 = .ok (.iload 5, 2) := by decide +kernel
theorem d_Mo_apply_109 : decode prog_9_method_22_code 109 = .ok (.iaload, 1) := by decide +kernel
theorem d_Mo_apply_110 : decode prog_9_method_22_code 110 = .ok (.aload_n 0, 1) := by decide +kernel
theorem d_Mo_apply_111 : decode prog_9_method_22_code 111 = .ok (.getfield 59, 3) := by decide +kernel
theorem d_Mo_apply_114 : decode prog_9_method_22_code 114 = .ok (.iload 5, 2) := by decide +kernel
theorem d_Mo_apply_116 : decode prog_9_method_22_code 116 = .ok (.iaload, 1) := by decide +kernel
theorem d_Mo_apply_117 : decode prog_9_method_22_code 117 = .ok (.invokevirtual 138, 3) := by decide +kernel
theorem d_Mo_apply_120 : decode prog_9_method_22_code 120 = .ok (.aload_n 0, 1) := by decide +kernel
theorem d_Mo_apply_121 : decode prog_9_method_22_code 121 = .ok (.getfield 50, 3) := by decide +kernel
theorem d_Mo_apply_124 : decode prog_9_method_22_code 124 = .ok (.iload 5, 2) := by decide +kernel
theorem d_Mo_apply_126 : decode prog_9_method_22_code 126 = .ok (.iaload, 1) := by decide +kernel
theorem d_Mo_apply_127 : decode prog_9_method_22_code 127 = .ok (.ifCond .ne 15, 3) := by decide +kernel
theorem d_Mo_apply_130 : decode prog_9_method_22_code 130 = .ok (.aload_n 0, 1) := by decide +kernel
theorem d_Mo_apply_131 : decode prog_9_method_22_code 131 = .ok (.iload_n 2, 1) := by decide +kernel
theorem d_Mo_apply_132 : decode prog_9_method_22_code 132 = .ok (.aload_n 0, 1) := by decide +kernel
theorem d_Mo_apply_133 : decode prog_9_method_22_code 133 = .ok (.getfield 53, 3) := by decide +kernel
theorem d_Mo_apply_136 : decode prog_9_method_22_code 136 = .ok (.iload 5, 2) := by decide +kernel
theorem d_Mo_apply_138 : decode prog_9_method_22_code 138 = .ok (.iaload, 1) := by decide +kernel
theorem d_Mo_apply_139 : decode prog_9_method_22_code 139 = .ok (.invokevirtual 151, 3) := by decide +kernel
theorem d_Mo_apply_142 : decode prog_9_method_22_code 142 = .ok (.iinc 5 1, 3) := by decide +kernel
theorem d_Mo_apply_145 : decode prog_9_method_22_code 145 = .ok (.goto (-64), 3) := by decide +kernel
theorem d_Mo_apply_148 : decode prog_9_method_22_code 148 = .ok (.aload_n 0, 1) := by decide +kernel
theorem d_Mo_apply_149 : decode prog_9_method_22_code 149 = .ok (.getfield 79, 3) := by decide +kernel
theorem d_Mo_apply_152 : decode prog_9_method_22_code 152 = .ok (.iload 4, 2) := by decide +kernel
theorem d_Mo_apply_154 : decode prog_9_method_22_code 154 = .ok (.isub, 1) := by decide +kernel
theorem d_Mo_apply_155 : decode prog_9_method_22_code 155 = .ok (.istore 5, 2) := by decide +kernel
theorem d_Mo_apply_157 : decode prog_9_method_22_code 157 = .ok (.aload_n 0, 1) := by decide +kernel
theorem d_Mo_apply_158 : decode prog_9_method_22_code 158 = .ok (.iload_n 2, 1) := by decide +kernel
theorem d_Mo_apply_159 : decode prog_9_method_22_code 159 = .ok (.invokevirtual 92, 3) := by decide +kernel
theorem d_Mo_apply_162 : decode prog_9_method_22_code 162 = .ok (.istore 6, 2) := by decide +kernel
theorem d_Mo_apply_164 : decode prog_9_method_22_code 164 = .ok (.aload_n 0, 1) := by decide +kernel
theorem d_Mo_apply_165 : decode prog_9_method_22_code 165 = .ok (.iload 6, 2) := by decide +kernel
theorem d_Mo_apply_167 : decode prog_9_method_22_code 167 = .ok (.iconst (-1), 1) := by decide +kernel
theorem d_Mo_apply_168 : decode prog_9_method_22_code 168 = .ok (.invokevirtual 155, 3) := by decide +kernel
theorem d_Mo_apply_171 : decode prog_9_method_22_code 171 = .ok (.bipush 16, 2) := by decide +kernel
theorem d_Mo_apply_173 : decode prog_9_method_22_code 173 = .ok (.if_icmp .lt 10, 3) := by decide +kernel
theorem d_Mo_apply_176 : decode prog_9_method_22_code 176 = .ok (.aload_n 0, 1) := by decide +kernel
theorem d_Mo_apply_177 : decode prog_9_method_22_code 177 = .ok (.iload 6, 2) := by decide +kernel
theorem d_Mo_apply_179 : decode prog_9_method_22_code 179 = .ok (.invokevirtual 158, 3) := by decide +kernel
theorem d_Mo_apply_182 : decode prog_9_method_22_code 182 = .ok (.pop, 1) := by decide +kernel
theorem d_Mo_apply_183 : decode prog_9_method_22_code 183 = .ok (.iload 5, 2) := by decide +kernel
theorem d_Mo_apply_185 : decode prog_9_method_22_code 185 = .ok (.ireturn, 1) := by decide +kernel
theorem d_Mo_tear_0 : decode prog_9_method_23_code 0 = .ok (.aload_n 0, 1) := by decide +kernel
theorem d_Mo_tear_1 : decode prog_9_method_23_code 1 = .ok (.iconst 1, 1) := by decide +kernel
theorem d_Mo_tear_2 : decode prog_9_method_23_code 2 = .ok (.putfield 148, 3) := by decide +kernel
theorem d_Mo_tear_5 : decode prog_9_method_23_code 5 = .ok (.return_, 1) := by decide +kernel
theorem d_Mo_crash_0 : decode prog_9_method_24_code 0 = .ok (.aload_n 0, 1) := by decide +kernel
theorem d_Mo_crash_1 : decode prog_9_method_24_code 1 = .ok (.invokevirtual 145, 3) := by decide +kernel
theorem d_Mo_crash_4 : decode prog_9_method_24_code 4 = .ok (.return_, 1) := by decide +kernel
theorem d_Mo_tick_0 : decode prog_9_method_25_code 0 = .ok (.aload_n 0, 1) := by decide +kernel
theorem d_Mo_tick_1 : decode prog_9_method_25_code 1 = .ok (.dup, 1) := by decide +kernel
theorem d_Mo_tick_2 : decode prog_9_method_25_code 2 = .ok (.getfield 72, 3) := by decide +kernel
theorem d_Mo_tick_5 : decode prog_9_method_25_code 5 = .ok (.iload_n 1, 1) := by decide +kernel
theorem d_Mo_tick_6 : decode prog_9_method_25_code 6 = .ok (.ifCond .lt 14, 3) := by decide +kernel
theorem d_Mo_tick_9 : decode prog_9_method_25_code 9 = .ok (.iload_n 1, 1) := by decide +kernel
theorem d_Mo_tick_10 : decode prog_9_method_25_code 10 = .ok (.sipush 5000, 3) := by decide +kernel
theorem d_Mo_tick_13 : decode prog_9_method_25_code 13 = .ok (.if_icmp .gt 7, 3) := by decide +kernel
theorem d_Mo_tick_16 : decode prog_9_method_25_code 16 = .ok (.iload_n 1, 1) := by decide +kernel
theorem d_Mo_tick_17 : decode prog_9_method_25_code 17 = .ok (.goto 4, 3) := by decide +kernel
theorem d_Mo_tick_20 : decode prog_9_method_25_code 20 = .ok (.iconst 0, 1) := by decide +kernel
theorem d_Mo_tick_21 : decode prog_9_method_25_code 21 = .ok (.iadd, 1) := by decide +kernel
theorem d_Mo_tick_22 : decode prog_9_method_25_code 22 = .ok (.putfield 72, 3) := by decide +kernel
theorem d_Mo_tick_25 : decode prog_9_method_25_code 25 = .ok (.aload_n 0, 1) := by decide +kernel
theorem d_Mo_tick_26 : decode prog_9_method_25_code 26 = .ok (.getfield 72, 3) := by decide +kernel
theorem d_Mo_tick_29 : decode prog_9_method_25_code 29 = .ok (.ireturn, 1) := by decide +kernel
theorem d_Mo_inTable_0 : decode prog_9_method_26_code 0 = .ok (.iconst 0, 1) := by decide +kernel
theorem d_Mo_inTable_1 : decode prog_9_method_26_code 1 = .ok (.istore_n 3, 1) := by decide +kernel
theorem d_Mo_inTable_2 : decode prog_9_method_26_code 2 = .ok (.iconst 0, 1) := by decide +kernel
theorem d_Mo_inTable_3 : decode prog_9_method_26_code 3 = .ok (.istore 4, 2) := by decide +kernel
theorem d_Mo_inTable_5 : decode prog_9_method_26_code 5 = .ok (.iload 4, 2) := by decide +kernel
theorem d_Mo_inTable_7 : decode prog_9_method_26_code 7 = .ok (.aload_n 0, 1) := by decide +kernel
theorem d_Mo_inTable_8 : decode prog_9_method_26_code 8 = .ok (.getfield 79, 3) := by decide +kernel
theorem d_Mo_inTable_11 : decode prog_9_method_26_code 11 = .ok (.if_icmp .ge 39, 3) := by decide +kernel
theorem d_Mo_inTable_14 : decode prog_9_method_26_code 14 = .ok (.iload_n 3, 1) := by decide +kernel
theorem d_Mo_inTable_15 : decode prog_9_method_26_code 15 = .ok (.aload_n 0, 1) := by decide +kernel
theorem d_Mo_inTable_16 : decode prog_9_method_26_code 16 = .ok (.getfield 28, 3) := by decide +kernel
theorem d_Mo_inTable_19 : decode prog_9_method_26_code 19 = .ok (.iload 4, 2) := by decide +kernel
theorem d_Mo_inTable_21 : decode prog_9_method_26_code 21 = .ok (.iaload, 1) := by decide +kernel
theorem d_Mo_inTable_22 : decode prog_9_method_26_code 22 = .ok (.iload_n 1, 1) := by decide +kernel
theorem d_Mo_inTable_23 : decode prog_9_method_26_code 23 = .ok (.if_icmp .ne 18, 3) := by decide +kernel
theorem d_Mo_inTable_26 : decode prog_9_method_26_code 26 = .ok (.aload_n 0, 1) := by decide +kernel
theorem d_Mo_inTable_27 : decode prog_9_method_26_code 27 = .ok (.getfield 31, 3) := by decide +kernel
theorem d_Mo_inTable_30 : decode prog_9_method_26_code 30 = .ok (.iload 4, 2) := by decide +kernel
theorem d_Mo_inTable_32 : decode prog_9_method_26_code 32 = .ok (.iaload, 1) := by decide +kernel
theorem d_Mo_inTable_33 : decode prog_9_method_26_code 33 = .ok (.iload_n 2, 1) := by decide +kernel
theorem d_Mo_inTable_34 : decode prog_9_method_26_code 34 = .ok (.if_icmp .ne 7, 3) := by decide +kernel
theorem d_Mo_inTable_37 : decode prog_9_method_26_code 37 = .ok (.iconst 1, 1) := by decide +kernel
theorem d_Mo_inTable_38 : decode prog_9_method_26_code 38 = .ok (.goto 4, 3) := by decide +kernel
theorem d_Mo_inTable_41 : decode prog_9_method_26_code 41 = .ok (.iconst 0, 1) := by decide +kernel
theorem d_Mo_inTable_42 : decode prog_9_method_26_code 42 = .ok (.iadd, 1) := by decide +kernel
theorem d_Mo_inTable_43 : decode prog_9_method_26_code 43 = .ok (.istore_n 3, 1) := by decide +kernel
theorem d_Mo_inTable_44 : decode prog_9_method_26_code 44 = .ok (.iinc 4 1, 3) := by decide +kernel
theorem d_Mo_inTable_47 : decode prog_9_method_26_code 47 = .ok (.goto (-42), 3) := by decide +kernel
theorem d_Mo_inTable_50 : decode prog_9_method_26_code 50 = .ok (.iload_n 3, 1) := by decide +kernel
theorem d_Mo_inTable_51 : decode prog_9_method_26_code 51 = .ok (.ireturn, 1) := by decide +kernel
theorem d_Mo_bits_0 : decode prog_9_method_27_code 0 = .ok (.lconst 1, 1) := by decide +kernel
theorem d_Mo_bits_1 : decode prog_9_method_27_code 1 = .ok (.bipush 7, 2) := by decide +kernel
theorem d_Mo_bits_3 : decode prog_9_method_27_code 3 = .ok (.iload_n 0, 1) := by decide +kernel
theorem d_Mo_bits_4 : decode prog_9_method_27_code 4 = .ok (.imul, 1) := by decide +kernel
theorem d_Mo_bits_5 : decode prog_9_method_27_code 5 = .ok (.iconst 3, 1) := by decide +kernel
theorem d_Mo_bits_6 : decode prog_9_method_27_code 6 = .ok (.iadd, 1) := by decide +kernel
theorem d_Mo_bits_7 : decode prog_9_method_27_code 7 = .ok (.bipush 64, 2) := by decide +kernel
theorem d_Mo_bits_9 : decode prog_9_method_27_code 9 = .ok (.irem, 1) := by decide +kernel
theorem d_Mo_bits_10 : decode prog_9_method_27_code 10 = .ok (.lshl, 1) := by decide +kernel
theorem d_Mo_bits_11 : decode prog_9_method_27_code 11 = .ok (.lconst 1, 1) := by decide +kernel
theorem d_Mo_bits_12 : decode prog_9_method_27_code 12 = .ok (.bipush 13, 2) := by decide +kernel
theorem d_Mo_bits_14 : decode prog_9_method_27_code 14 = .ok (.iload_n 0, 1) := by decide +kernel
theorem d_Mo_bits_15 : decode prog_9_method_27_code 15 = .ok (.imul, 1) := by decide +kernel
theorem d_Mo_bits_16 : decode prog_9_method_27_code 16 = .ok (.bipush 29, 2) := by decide +kernel
theorem d_Mo_bits_18 : decode prog_9_method_27_code 18 = .ok (.iadd, 1) := by decide +kernel
theorem d_Mo_bits_19 : decode prog_9_method_27_code 19 = .ok (.bipush 64, 2) := by decide +kernel
theorem d_Mo_bits_21 : decode prog_9_method_27_code 21 = .ok (.irem, 1) := by decide +kernel
theorem d_Mo_bits_22 : decode prog_9_method_27_code 22 = .ok (.lshl, 1) := by decide +kernel
theorem d_Mo_bits_23 : decode prog_9_method_27_code 23 = .ok (.lor, 1) := by decide +kernel
theorem d_Mo_bits_24 : decode prog_9_method_27_code 24 = .ok (.lreturn, 1) := by decide +kernel
theorem d_Mo_blocksFor_0 : decode prog_9_method_28_code 0 = .ok (.lconst 0, 1) := by decide +kernel
theorem d_Mo_blocksFor_1 : decode prog_9_method_28_code 1 = .ok (.lstore 4, 2) := by decide +kernel
theorem d_Mo_blocksFor_3 : decode prog_9_method_28_code 3 = .ok (.iconst 0, 1) := by decide +kernel
theorem d_Mo_blocksFor_4 : decode prog_9_method_28_code 4 = .ok (.istore 6, 2) := by decide +kernel
theorem d_Mo_blocksFor_6 : decode prog_9_method_28_code 6 = .ok (.iconst 0, 1) := by decide +kernel
theorem d_Mo_blocksFor_7 : decode prog_9_method_28_code 7 = .ok (.istore 7, 2) := by decide +kernel
theorem d_Mo_blocksFor_9 : decode prog_9_method_28_code 9 = .ok (.iconst 0, 1) := by decide +kernel
theorem d_Mo_blocksFor_10 : decode prog_9_method_28_code 10 = .ok (.istore 8, 2) := by decide +kernel
theorem d_Mo_blocksFor_12 : decode prog_9_method_28_code 12 = .ok (.iload 8, 2) := by decide +kernel
theorem d_Mo_blocksFor_14 : decode prog_9_method_28_code 14 = .ok (.aload_n 0, 1) := by decide +kernel
theorem d_Mo_blocksFor_15 : decode prog_9_method_28_code 15 = .ok (.getfield 79, 3) := by decide +kernel
theorem d_Mo_blocksFor_18 : decode prog_9_method_28_code 18 = .ok (.if_icmp .ge 88, 3) := by decide +kernel
theorem d_Mo_blocksFor_21 : decode prog_9_method_28_code 21 = .ok (.aload_n 0, 1) := by decide +kernel
theorem d_Mo_blocksFor_22 : decode prog_9_method_28_code 22 = .ok (.getfield 28, 3) := by decide +kernel
theorem d_Mo_blocksFor_25 : decode prog_9_method_28_code 25 = .ok (.iload 8, 2) := by decide +kernel
theorem d_Mo_blocksFor_27 : decode prog_9_method_28_code 27 = .ok (.iaload, 1) := by decide +kernel
theorem d_Mo_blocksFor_28 : decode prog_9_method_28_code 28 = .ok (.iload_n 1, 1) := by decide +kernel
theorem d_Mo_blocksFor_29 : decode prog_9_method_28_code 29 = .ok (.if_icmp .ne 71, 3) := by decide +kernel
theorem d_Mo_blocksFor_32 : decode prog_9_method_28_code 32 = .ok (.aload_n 0, 1) := by decide +kernel
theorem d_Mo_blocksFor_33 : decode prog_9_method_28_code 33 = .ok (.getfield 31, 3) := by decide +kernel
theorem d_Mo_blocksFor_36 : decode prog_9_method_28_code 36 = .ok (.iload 8, 2) := by decide +kernel
theorem d_Mo_blocksFor_38 : decode prog_9_method_28_code 38 = .ok (.iaload, 1) := by decide +kernel
theorem d_Mo_blocksFor_39 : decode prog_9_method_28_code 39 = .ok (.iload_n 2, 1) := by decide +kernel
theorem d_Mo_blocksFor_40 : decode prog_9_method_28_code 40 = .ok (.if_icmp .ne 60, 3) := by decide +kernel
theorem d_Mo_blocksFor_43 : decode prog_9_method_28_code 43 = .ok (.lload 4, 2) := by decide +kernel
theorem d_Mo_blocksFor_45 : decode prog_9_method_28_code 45 = .ok (.aload_n 0, 1) := by decide +kernel
theorem d_Mo_blocksFor_46 : decode prog_9_method_28_code 46 = .ok (.getfield 13, 3) := by decide +kernel
theorem d_Mo_blocksFor_49 : decode prog_9_method_28_code 49 = .ok (.iload 8, 2) := by decide +kernel
theorem d_Mo_blocksFor_51 : decode prog_9_method_28_code 51 = .ok (.iaload, 1) := by decide +kernel
theorem d_Mo_blocksFor_52 : decode prog_9_method_28_code 52 = .ok (.invokestatic 161, 3) := by decide +kernel
theorem d_Mo_blocksFor_55 : decode prog_9_method_28_code 55 = .ok (.lor, 1) := by decide +kernel
theorem d_Mo_blocksFor_56 : decode prog_9_method_28_code 56 = .ok (.lstore 4, 2) := by decide +kernel
theorem d_Mo_blocksFor_58 : decode prog_9_method_28_code 58 = .ok (.iload 6, 2) := by decide +kernel
theorem d_Mo_blocksFor_60 : decode prog_9_method_28_code 60 = .ok (.aload_n 0, 1) := by decide +kernel
theorem d_Mo_blocksFor_61 : decode prog_9_method_28_code 61 = .ok (.getfield 13, 3) := by decide +kernel
theorem d_Mo_blocksFor_64 : decode prog_9_method_28_code 64 = .ok (.iload 8, 2) := by decide +kernel
theorem d_Mo_blocksFor_66 : decode prog_9_method_28_code 66 = .ok (.iaload, 1) := by decide +kernel
theorem d_Mo_blocksFor_67 : decode prog_9_method_28_code 67 = .ok (.iload_n 3, 1) := by decide +kernel
theorem d_Mo_blocksFor_68 : decode prog_9_method_28_code 68 = .ok (.if_icmp .ge 7, 3) := by decide +kernel
theorem d_Mo_blocksFor_71 : decode prog_9_method_28_code 71 = .ok (.iconst 1, 1) := by decide +kernel
theorem d_Mo_blocksFor_72 : decode prog_9_method_28_code 72 = .ok (.goto 4, 3) := by decide +kernel
theorem d_Mo_blocksFor_75 : decode prog_9_method_28_code 75 = .ok (.iconst 0, 1) := by decide +kernel
theorem d_Mo_blocksFor_76 : decode prog_9_method_28_code 76 = .ok (.iadd, 1) := by decide +kernel
theorem d_Mo_blocksFor_77 : decode prog_9_method_28_code 77 = .ok (.istore 6, 2) := by decide +kernel
theorem d_Mo_blocksFor_79 : decode prog_9_method_28_code 79 = .ok (.iload 7, 2) := by decide +kernel
theorem d_Mo_blocksFor_81 : decode prog_9_method_28_code 81 = .ok (.aload_n 0, 1) := by decide +kernel
theorem d_Mo_blocksFor_82 : decode prog_9_method_28_code 82 = .ok (.getfield 13, 3) := by decide +kernel
theorem d_Mo_blocksFor_85 : decode prog_9_method_28_code 85 = .ok (.iload 8, 2) := by decide +kernel
theorem d_Mo_blocksFor_87 : decode prog_9_method_28_code 87 = .ok (.iaload, 1) := by decide +kernel
theorem d_Mo_blocksFor_88 : decode prog_9_method_28_code 88 = .ok (.iload_n 3, 1) := by decide +kernel
theorem d_Mo_blocksFor_89 : decode prog_9_method_28_code 89 = .ok (.if_icmp .ne 7, 3) := by decide +kernel
theorem d_Mo_blocksFor_92 : decode prog_9_method_28_code 92 = .ok (.iconst 1, 1) := by decide +kernel
theorem d_Mo_blocksFor_93 : decode prog_9_method_28_code 93 = .ok (.goto 4, 3) := by decide +kernel
theorem d_Mo_blocksFor_96 : decode prog_9_method_28_code 96 = .ok (.iconst 0, 1) := by decide +kernel
theorem d_Mo_blocksFor_97 : decode prog_9_method_28_code 97 = .ok (.iadd, 1) := by decide +kernel
theorem d_Mo_blocksFor_98 : decode prog_9_method_28_code 98 = .ok (.istore 7, 2) := by decide +kernel
theorem d_Mo_blocksFor_100 : decode prog_9_method_28_code 100 = .ok (.iinc 8 1, 3) := by decide +kernel
theorem d_Mo_blocksFor_103 : decode prog_9_method_28_code 103 = .ok (.goto (-91), 3) := by decide +kernel
theorem d_Mo_blocksFor_106 : decode prog_9_method_28_code 106 = .ok (.iload_n 3, 1) := by decide +kernel
theorem d_Mo_blocksFor_107 : decode prog_9_method_28_code 107 = .ok (.invokestatic 161, 3) := by decide +kernel
theorem d_Mo_blocksFor_110 : decode prog_9_method_28_code 110 = .ok (.lstore 8, 2) := by decide +kernel
theorem d_Mo_blocksFor_112 : decode prog_9_method_28_code 112 = .ok (.lload 4, 2) := by decide +kernel
theorem d_Mo_blocksFor_114 : decode prog_9_method_28_code 114 = .ok (.lload 8, 2) := by decide +kernel
theorem d_Mo_blocksFor_116 : decode prog_9_method_28_code 116 = .ok (.land, 1) := by decide +kernel
theorem d_Mo_blocksFor_117 : decode prog_9_method_28_code 117 = .ok (.lload 8, 2) := by decide +kernel
theorem d_Mo_blocksFor_119 : decode prog_9_method_28_code 119 = .ok (.lcmp, 1) := by decide +kernel
theorem d_Mo_blocksFor_120 : decode prog_9_method_28_code 120 = .ok (.ifCond .eq 5, 3) := by decide +kernel
theorem d_Mo_blocksFor_123 : decode prog_9_method_28_code 123 = .ok (.iconst 0, 1) := by decide +kernel
theorem d_Mo_blocksFor_124 : decode prog_9_method_28_code 124 = .ok (.ireturn, 1) := by decide +kernel
theorem d_Mo_blocksFor_125 : decode prog_9_method_28_code 125 = .ok (.iload 7, 2) := by decide +kernel
theorem d_Mo_blocksFor_127 : decode prog_9_method_28_code 127 = .ok (.ifCond .ne 7, 3) := by decide +kernel
theorem d_Mo_blocksFor_130 : decode prog_9_method_28_code 130 = .ok (.iconst 1, 1) := by decide +kernel
theorem d_Mo_blocksFor_131 : decode prog_9_method_28_code 131 = .ok (.goto 19, 3) := by decide +kernel
theorem d_Mo_blocksFor_134 : decode prog_9_method_28_code 134 = .ok (.iload 6, 2) := by decide +kernel
theorem d_Mo_blocksFor_136 : decode prog_9_method_28_code 136 = .ok (.iload 7, 2) := by decide +kernel
theorem d_Mo_blocksFor_138 : decode prog_9_method_28_code 138 = .ok (.iadd, 1) := by decide +kernel
theorem d_Mo_blocksFor_139 : decode prog_9_method_28_code 139 = .ok (.iconst 1, 1) := by decide +kernel
theorem d_Mo_blocksFor_140 : decode prog_9_method_28_code 140 = .ok (.isub, 1) := by decide +kernel
theorem d_Mo_blocksFor_141 : decode prog_9_method_28_code 141 = .ok (.iconst 4, 1) := by decide +kernel
theorem d_Mo_blocksFor_142 : decode prog_9_method_28_code 142 = .ok (.idiv, 1) := by decide +kernel
theorem d_Mo_blocksFor_143 : decode prog_9_method_28_code 143 = .ok (.iload 6, 2) := by decide +kernel
theorem d_Mo_blocksFor_145 : decode prog_9_method_28_code 145 = .ok (.iconst 4, 1) := by decide +kernel
theorem d_Mo_blocksFor_146 : decode prog_9_method_28_code 146 = .ok (.idiv, 1) := by decide +kernel
theorem d_Mo_blocksFor_147 : decode prog_9_method_28_code 147 = .ok (.isub, 1) := by decide +kernel
theorem d_Mo_blocksFor_148 : decode prog_9_method_28_code 148 = .ok (.iconst 1, 1) := by decide +kernel
theorem d_Mo_blocksFor_149 : decode prog_9_method_28_code 149 = .ok (.iadd, 1) := by decide +kernel
theorem d_Mo_blocksFor_150 : decode prog_9_method_28_code 150 = .ok (.ireturn, 1) := by decide +kernel
theorem d_Mo_look_0 : decode prog_9_method_29_code 0 = .ok (.aload_n 0, 1) := by decide +kernel
theorem d_Mo_look_1 : decode prog_9_method_29_code 1 = .ok (.iload_n 1, 1) := by decide +kernel
theorem d_Mo_look_2 : decode prog_9_method_29_code 2 = .ok (.invokevirtual 92, 3) := by decide +kernel
theorem d_Mo_look_5 : decode prog_9_method_29_code 5 = .ok (.istore_n 2, 1) := by decide +kernel
theorem d_Mo_look_6 : decode prog_9_method_29_code 6 = .ok (.iconst 0, 1) := by decide +kernel
theorem d_Mo_look_7 : decode prog_9_method_29_code 7 = .ok (.istore_n 3, 1) := by decide +kernel
theorem d_Mo_look_8 : decode prog_9_method_29_code 8 = .ok (.iload_n 3, 1) := by decide +kernel
theorem d_Mo_look_9 : decode prog_9_method_29_code 9 = .ok (.aload_n 0, 1) := by decide +kernel
theorem d_Mo_look_10 : decode prog_9_method_29_code 10 = .ok (.getfield 41, 3) := by decide +kernel
theorem d_Mo_look_13 : decode prog_9_method_29_code 13 = .ok (.iload_n 2, 1) := by decide +kernel
theorem d_Mo_look_14 : decode prog_9_method_29_code 14 = .ok (.iaload, 1) := by decide +kernel
theorem d_Mo_look_15 : decode prog_9_method_29_code 15 = .ok (.if_icmp .ge 25, 3) := by decide +kernel
theorem d_Mo_look_18 : decode prog_9_method_29_code 18 = .ok (.aload_n 0, 1) := by decide +kernel
theorem d_Mo_look_19 : decode prog_9_method_29_code 19 = .ok (.dup, 1) := by decide +kernel
theorem d_Mo_look_20 : decode prog_9_method_29_code 20 = .ok (.getfield 165, 3) := by decide +kernel
theorem d_Mo_look_23 : decode prog_9_method_29_code 23 = .ok (.aload_n 0, 1) := by decide +kernel
theorem d_Mo_look_24 : decode prog_9_method_29_code 24 = .ok (.iload_n 2, 1) := by decide +kernel
theorem d_Mo_look_25 : decode prog_9_method_29_code 25 = .ok (.iload_n 3, 1) := by decide +kernel
theorem d_Mo_look_26 : decode prog_9_method_29_code 26 = .ok (.iload_n 1, 1) := by decide +kernel
theorem d_Mo_look_27 : decode prog_9_method_29_code 27 = .ok (.invokevirtual 168, 3) := by decide +kernel
theorem d_Mo_look_30 : decode prog_9_method_29_code 30 = .ok (.iadd, 1) := by decide +kernel
theorem d_Mo_look_31 : decode prog_9_method_29_code 31 = .ok (.putfield 165, 3) := by decide +kernel
theorem d_Mo_look_34 : decode prog_9_method_29_code 34 = .ok (.iinc 3 1, 3) := by decide +kernel
theorem d_Mo_look_37 : decode prog_9_method_29_code 37 = .ok (.goto (-29), 3) := by decide +kernel
theorem d_Mo_look_40 : decode prog_9_method_29_code 40 = .ok (.return_, 1) := by decide +kernel
theorem d_Mo_get_0 : decode prog_9_method_30_code 0 = .ok (.iload_n 1, 1) := by decide +kernel
theorem d_Mo_get_1 : decode prog_9_method_30_code 1 = .ok (.invokestatic 96, 3) := by decide +kernel
theorem d_Mo_get_4 : decode prog_9_method_30_code 4 = .ok (.ifCond .eq 10, 3) := by decide +kernel
theorem d_Mo_get_7 : decode prog_9_method_30_code 7 = .ok (.iload_n 2, 1) := by decide +kernel
theorem d_Mo_get_8 : decode prog_9_method_30_code 8 = .ok (.invokestatic 105, 3) := by decide +kernel
theorem d_Mo_get_11 : decode prog_9_method_30_code 11 = .ok (.ifCond .ne 7, 3) := by decide +kernel
theorem d_Mo_get_14 : decode prog_9_method_30_code 14 = .ok (.ldc2_w 171, 3) := by decide +kernel
theorem d_Mo_get_17 : decode prog_9_method_30_code 17 = .ok (.lreturn, 1) := by decide +kernel
theorem d_Mo_get_18 : decode prog_9_method_30_code 18 = .ok (.aload_n 0, 1) := by decide +kernel
theorem d_Mo_get_19 : decode prog_9_method_30_code 19 = .ok (.iload_n 1, 1) := by decide +kernel
theorem d_Mo_get_20 : decode prog_9_method_30_code 20 = .ok (.invokevirtual 173, 3) := by decide +kernel
theorem d_Mo_get_23 : decode prog_9_method_30_code 23 = .ok (.iload 4, 2) := by decide +kernel
theorem d_Mo_get_25 : decode prog_9_method_30_code 25 = .ok (.ifCond .ge 7, 3) := by decide +kernel
theorem d_Mo_get_28 : decode prog_9_method_30_code 28 = .ok (.ldc2_w 171, 3) := by decide +kernel
theorem d_Mo_get_31 : decode prog_9_method_30_code 31 = .ok (.lreturn, 1) := by decide +kernel
theorem d_Mo_get_32 : decode prog_9_method_30_code 32 = .ok (.iload_n 3, 1) := by decide +kernel
theorem d_Mo_get_33 : decode prog_9_method_30_code 33 = .ok (.sipush 9999, 3) := by decide +kernel
theorem d_Mo_get_36 : decode prog_9_method_30_code 36 = .ok (.if_icmp .le 9, 3) := by decide +kernel
theorem d_Mo_get_39 : decode prog_9_method_30_code 39 = .ok (.sipush 10000, 3) := by decide +kernel
theorem d_Mo_get_42 : decode prog_9_method_30_code 42 = .ok (.goto 14, 3) := by decide +kernel
theorem d_Mo_get_45 : decode prog_9_method_30_code 45 = .ok (.iload_n 3, 1) := by decide +kernel
theorem d_Mo_get_46 : decode prog_9_method_30_code 46 = .ok (.ifCond .ge 7, 3) := by decide +kernel
theorem d_Mo_get_49 : decode prog_9_method_30_code 49 = .ok (.iconst 0, 1) := by decide +kernel
theorem d_Mo_get_50 : decode prog_9_method_30_code 50 = .ok (.goto 6, 3) := by decide +kernel
theorem d_Mo_get_53 : decode prog_9_method_30_code 53 = .ok (.iload_n 3, 1) := by decide +kernel
theorem d_Mo_get_54 : decode prog_9_method_30_code 54 = .ok (.iconst 1, 1) := by decide +kernel
theorem d_Mo_get_55 : decode prog_9_method_30_code 55 = .ok (.iadd, 1) := by decide +kernel
theorem d_Mo_get_56 : decode prog_9_method_30_code 56 = .ok (.istore 5, 2) := by decide +kernel
theorem d_Mo_get_58 : decode prog_9_method_30_code 58 = .ok (.aload_n 0, 1) := by decide +kernel
theorem d_Mo_get_59 : decode prog_9_method_30_code 59 = .ok (.iload_n 1, 1) := by decide +kernel
theorem d_Mo_get_60 : decode prog_9_method_30_code 60 = .ok (.iload_n 2, 1) := by decide +kernel
theorem d_Mo_get_61 : decode prog_9_method_30_code 61 = .ok (.iload 5, 2) := by decide +kernel
theorem d_Mo_get_63 : decode prog_9_method_30_code 63 = .ok (.invokevirtual 134, 3) := by decide +kernel
theorem d_Mo_get_66 : decode prog_9_method_30_code 66 = .ok (.istore 6, 2) := by decide +kernel
theorem d_Mo_get_68 : decode prog_9_method_30_code 68 = .ok (.iconst 0, 1) := by decide +kernel
theorem d_Mo_get_69 : decode prog_9_method_30_code 69 = .ok (.istore 7, 2) := by decide +kernel
theorem d_Mo_get_71 : decode prog_9_method_30_code 71 = .ok (.iload 7, 2) := by decide +kernel
theorem d_Mo_get_73 : decode prog_9_method_30_code 73 = .ok (.iload 4, 2) := by decide +kernel
theorem d_Mo_get_75 : decode prog_9_method_30_code 75 = .ok (.if_icmp .ge 29, 3) := by decide +kernel
theorem d_Mo_get_78 : decode prog_9_method_30_code 78 = .ok (.iload 6, 2) := by decide +kernel
theorem d_Mo_get_80 : decode prog_9_method_30_code 80 = .ok (.ifCond .lt 24, 3) := by decide +kernel
theorem d_Mo_get_83 : decode prog_9_method_30_code 83 = .ok (.aload_n 0, 1) := by decide +kernel
theorem d_Mo_get_84 : decode prog_9_method_30_code 84 = .ok (.iload_n 1, 1) := by decide +kernel
theorem d_Mo_get_85 : decode prog_9_method_30_code 85 = .ok (.iload_n 2, 1) := by decide +kernel
theorem d_Mo_get_86 : decode prog_9_method_30_code 86 = .ok (.aload_n 0, 1) := by decide +kernel
theorem d_Mo_get_87 : decode prog_9_method_30_code 87 = .ok (.getfield 19, 3) := by decide +kernel
theorem d_Mo_get_90 : decode prog_9_method_30_code 90 = .ok (.iload 6, 2) := by decide +kernel
theorem d_Mo_get_92 : decode prog_9_method_30_code 92 = .ok (.iaload, 1) := by decide +kernel
theorem d_Mo_get_93 : decode prog_9_method_30_code 93 = .ok (.invokevirtual 134, 3) := by decide +kernel
theorem d_Mo_get_96 : decode prog_9_method_30_code 96 = .ok (.istore 6, 2) := by decide +kernel
theorem d_Mo_get_98 : decode prog_9_method_30_code 98 = .ok (.iinc 7 1, 3) := by decide +kernel
theorem d_Mo_get_101 : decode prog_9_method_30_code 101 = .ok (.goto (-30), 3) := by decide +kernel
theorem d_Mo_get_104 : decode prog_9_method_30_code 104 = .ok (.iload 6, 2) := by decide +kernel
theorem d_Mo_get_106 : decode prog_9_method_30_code 106 = .ok (.ifCond .ge 9, 3) := by decide +kernel
theorem d_Mo_get_109 : decode prog_9_method_30_code 109 = .ok (.ldc2_w 171, 3) := by decide +kernel
theorem d_Mo_get_112 : decode prog_9_method_30_code 112 = .ok (.goto 28, 3) := by decide +kernel
theorem d_Mo_get_115 : decode prog_9_method_30_code 115 = .ok (.ldc2_w 177, 3) := by decide +kernel
theorem d_Mo_get_118 : decode prog_9_method_30_code 118 = .ok (.aload_n 0, 1) := by decide +kernel
theorem d_Mo_get_119 : decode prog_9_method_30_code 119 = .ok (.getfield 19, 3) := by decide +kernel
theorem d_Mo_get_122 : decode prog_9_method_30_code 122 = .ok (.iload 6, 2) := by decide +kernel
theorem d_Mo_get_124 : decode prog_9_method_30_code 124 = .ok (.iaload, 1) := by decide +kernel
theorem d_Mo_get_125 : decode prog_9_method_30_code 125 = .ok (.i2l, 1) := by decide +kernel
theorem d_Mo_get_126 : decode prog_9_method_30_code 126 = .ok (.lmul, 1) := by decide +kernel
theorem d_Mo_get_127 : decode prog_9_method_30_code 127 = .ok (.aload_n 0, 1) := by decide +kernel
theorem d_Mo_get_128 : decode prog_9_method_30_code 128 = .ok (.getfield 22, 3) := by decide +kernel
theorem d_Mo_get_131 : decode prog_9_method_30_code 131 = .ok (.iload 6, 2) := by decide +kernel
theorem d_Mo_get_133 : decode prog_9_method_30_code 133 = .ok (.iaload, 1) := by decide +kernel
theorem d_Mo_get_134 : decode prog_9_method_30_code 134 = .ok (.i2l, 1) := by decide +kernel
theorem d_Mo_get_135 : decode prog_9_method_30_code 135 = .ok (.ldc2_w 179, 3) := by decide +kernel
theorem d_Mo_get_138 : decode prog_9_method_30_code 138 = .ok (.land, 1) := by decide +kernel
theorem d_Mo_get_139 : decode prog_9_method_30_code 139 = .ok (.ladd, 1) := by decide +kernel
theorem d_Mo_get_140 : decode prog_9_method_30_code 140 = .ok (.lreturn, 1) := by decide +kernel
theorem d_Mo_gather_0 : decode prog_9_method_31_code 0 = .ok (.aload_n 0, 1) := by decide +kernel
theorem d_Mo_gather_1 : decode prog_9_method_31_code 1 = .ok (.iload_n 1, 1) := by decide +kernel
theorem d_Mo_gather_2 : decode prog_9_method_31_code 2 = .ok (.iload_n 2, 1) := by decide +kernel
theorem d_Mo_gather_3 : decode prog_9_method_31_code 3 = .ok (.iload 4, 2) := by decide +kernel
theorem d_Mo_gather_5 : decode prog_9_method_31_code 5 = .ok (.sipush 9999, 3) := by decide +kernel
theorem d_Mo_gather_8 : decode prog_9_method_31_code 8 = .ok (.if_icmp .le 9, 3) := by decide +kernel
theorem d_Mo_gather_11 : decode prog_9_method_31_code 11 = .ok (.sipush 10000, 3) := by decide +kernel
theorem d_Mo_gather_14 : decode prog_9_method_31_code 14 = .ok (.goto 16, 3) := by decide +kernel
theorem d_Mo_gather_17 : decode prog_9_method_31_code 17 = .ok (.iload 4, 2) := by decide +kernel
theorem d_Mo_gather_19 : decode prog_9_method_31_code 19 = .ok (.ifCond .ge 7, 3) := by decide +kernel
theorem d_Mo_gather_22 : decode prog_9_method_31_code 22 = .ok (.iconst 0, 1) := by decide +kernel
theorem d_Mo_gather_23 : decode prog_9_method_31_code 23 = .ok (.goto 7, 3) := by decide +kernel
theorem d_Mo_gather_26 : decode prog_9_method_31_code 26 = .ok (.iload 4, 2) := by decide +kernel
theorem d_Mo_gather_28 : decode prog_9_method_31_code 28 = .ok (.iconst 1, 1) := by decide +kernel
theorem d_Mo_gather_29 : decode prog_9_method_31_code 29 = .ok (.iadd, 1) := by decide +kernel
theorem d_Mo_gather_30 : decode prog_9_method_31_code 30 = .ok (.invokevirtual 134, 3) := by decide +kernel
theorem d_Mo_gather_33 : decode prog_9_method_31_code 33 = .ok (.istore 5, 2) := by decide +kernel
theorem d_Mo_gather_35 : decode prog_9_method_31_code 35 = .ok (.iload 5, 2) := by decide +kernel
theorem d_Mo_gather_37 : decode prog_9_method_31_code 37 = .ok (.ifCond .lt 85, 3) := by decide +kernel
theorem d_Mo_gather_40 : decode prog_9_method_31_code 40 = .ok (.aload_n 0, 1) := by decide +kernel
theorem d_Mo_gather_41 : decode prog_9_method_31_code 41 = .ok (.getfield 19, 3) := by decide +kernel
theorem d_Mo_gather_44 : decode prog_9_method_31_code 44 = .ok (.iload 5, 2) := by decide +kernel
theorem d_Mo_gather_46 : decode prog_9_method_31_code 46 = .ok (.iaload, 1) := by decide +kernel
theorem d_Mo_gather_47 : decode prog_9_method_31_code 47 = .ok (.iload_n 3, 1) := by decide +kernel
theorem d_Mo_gather_48 : decode prog_9_method_31_code 48 = .ok (.if_icmp .lt 74, 3) := by decide +kernel
theorem d_Mo_gather_51 : decode prog_9_method_31_code 51 = .ok (.aload_n 0, 1) := by decide +kernel
theorem d_Mo_gather_52 : decode prog_9_method_31_code 52 = .ok (.getfield 62, 3) := by decide +kernel
theorem d_Mo_gather_55 : decode prog_9_method_31_code 55 = .ok (.aload_n 0, 1) := by decide +kernel
theorem d_Mo_gather_56 : decode prog_9_method_31_code 56 = .ok (.getfield 181, 3) := by decide +kernel
theorem d_Mo_gather_59 : decode prog_9_method_31_code 59 = .ok (.ldc 184, 2) := by decide +kernel
theorem d_Mo_gather_61 : decode prog_9_method_31_code 61 = .ok (.iload_n 1, 1) := by decide +kernel
theorem d_Mo_gather_62 : decode prog_9_method_31_code 62 = .ok (.imul, 1) := by decide +kernel
theorem d_Mo_gather_63 : decode prog_9_method_31_code 63 = .ok (.sipush 10000, 3) := by decide +kernel
theorem d_Mo_gather_66 : decode prog_9_method_31_code 66 = .ok (.iload_n 2, 1) := by decide +kernel
theorem d_Mo_gather_67 : decode prog_9_method_31_code 67 = .ok (.imul, 1) := by decide +kernel
theorem d_Mo_gather_68 : decode prog_9_method_31_code 68 = .ok (.iadd, 1) := by decide +kernel
theorem d_Mo_gather_69 : decode prog_9_method_31_code 69 = .ok (.aload_n 0, 1) := by decide +kernel
theorem d_Mo_gather_70 : decode prog_9_method_31_code 70 = .ok (.getfield 19, 3) := by decide +kernel
theorem d_Mo_gather_73 : decode prog_9_method_31_code 73 = .ok (.iload 5, 2) := by decide +kernel
theorem d_Mo_gather_75 : decode prog_9_method_31_code 75 = .ok (.iaload, 1) := by decide +kernel
theorem d_Mo_gather_76 : decode prog_9_method_31_code 76 = .ok (.iadd, 1) := by decide +kernel
theorem d_Mo_gather_77 : decode prog_9_method_31_code 77 = .ok (.iastore, 1) := by decide +kernel
theorem d_Mo_gather_78 : decode prog_9_method_31_code 78 = .ok (.aload_n 0, 1) := by decide +kernel
theorem d_Mo_gather_79 : decode prog_9_method_31_code 79 = .ok (.getfield 65, 3) := by decide +kernel
theorem d_Mo_gather_82 : decode prog_9_method_31_code 82 = .ok (.aload_n 0, 1) := by decide +kernel
theorem d_Mo_gather_83 : decode prog_9_method_31_code 83 = .ok (.getfield 181, 3) := by decide +kernel
theorem d_Mo_gather_86 : decode prog_9_method_31_code 86 = .ok (.aload_n 0, 1) := by decide +kernel
theorem d_Mo_gather_87 : decode prog_9_method_31_code 87 = .ok (.getfield 22, 3) := by decide +kernel
theorem d_Mo_gather_90 : decode prog_9_method_31_code 90 = .ok (.iload 5, 2) := by decide +kernel
theorem d_Mo_gather_92 : decode prog_9_method_31_code 92 = .ok (.iaload, 1) := by decide +kernel
theorem d_Mo_gather_93 : decode prog_9_method_31_code 93 = .ok (.iastore, 1) := by decide +kernel
theorem d_Mo_gather_94 : decode prog_9_method_31_code 94 = .ok (.aload_n 0, 1) := by decide +kernel
theorem d_Mo_gather_95 : decode prog_9_method_31_code 95 = .ok (.dup, 1) := by decide +kernel
theorem d_Mo_gather_96 : decode prog_9_method_31_code 96 = .ok (.getfield 181, 3) := by decide +kernel
theorem d_Mo_gather_99 : decode prog_9_method_31_code 99 = .ok (.iconst 1, 1) := by decide +kernel
theorem d_Mo_gather_100 : decode prog_9_method_31_code 100 = .ok (.iadd, 1) := by decide +kernel
theorem d_Mo_gather_101 : decode prog_9_method_31_code 101 = .ok (.putfield 181, 3) := by decide +kernel
theorem d_Mo_gather_104 : decode prog_9_method_31_code 104 = .ok (.aload_n 0, 1) := by decide +kernel
theorem d_Mo_gather_105 : decode prog_9_method_31_code 105 = .ok (.iload_n 1, 1) := by decide +kernel
theorem d_Mo_gather_106 : decode prog_9_method_31_code 106 = .ok (.iload_n 2, 1) := by decide +kernel
theorem d_Mo_gather_107 : decode prog_9_method_31_code 107 = .ok (.aload_n 0, 1) := by decide +kernel
theorem d_Mo_gather_108 : decode prog_9_method_31_code 108 = .ok (.getfield 19, 3) := by decide +kernel
theorem d_Mo_gather_111 : decode prog_9_method_31_code 111 = .ok (.iload 5, 2) := by decide +kernel
theorem d_Mo_gather_113 : decode prog_9_method_31_code 113 = .ok (.iaload, 1) := by decide +kernel
theorem d_Mo_gather_114 : decode prog_9_method_31_code 114 = .ok (.invokevirtual 134, 3) := by decide +kernel
theorem d_Mo_gather_117 : decode prog_9_method_31_code 117 = .ok (.istore 5, 2) := by decide +kernel
theorem d_Mo_gather_119 : decode prog_9_method_31_code 119 = .ok (.goto (-84), 3) := by decide +kernel
theorem d_Mo_gather_122 : decode prog_9_method_31_code 122 = .ok (.return_, 1) := by decide +kernel
theorem d_Mo_scan_0 : decode prog_9_method_32_code 0 = .ok (.iload_n 3, 1) := by decide +kernel
theorem d_Mo_scan_1 : decode prog_9_method_32_code 1 = .ok (.iconst (-1), 1) := by decide +kernel
theorem d_Mo_scan_2 : decode prog_9_method_32_code 2 = .ok (.if_icmp .lt 9, 3) := by decide +kernel
theorem d_Mo_scan_5 : decode prog_9_method_32_code 5 = .ok (.iload_n 3, 1) := by decide +kernel
theorem d_Mo_scan_6 : decode prog_9_method_32_code 6 = .ok (.bipush 7, 2) := by decide +kernel
theorem d_Mo_scan_8 : decode prog_9_method_32_code 8 = .ok (.if_icmp .le 5, 3) := by decide +kernel
theorem d_Mo_scan_11 : decode prog_9_method_32_code 11 = .ok (.iconst (-1), 1) := by decide +kernel
theorem d_Mo_scan_12 : decode prog_9_method_32_code 12 = .ok (.ireturn, 1) := by decide +kernel
theorem d_Mo_scan_13 : decode prog_9_method_32_code 13 = .ok (.aload_n 0, 1) := by decide +kernel
theorem d_Mo_scan_14 : decode prog_9_method_32_code 14 = .ok (.iconst 0, 1) := by decide +kernel
theorem d_Mo_scan_15 : decode prog_9_method_32_code 15 = .ok (.putfield 181, 3) := by decide +kernel
theorem d_Mo_scan_18 : decode prog_9_method_32_code 18 = .ok (.iconst 0, 1) := by decide +kernel
theorem d_Mo_scan_19 : decode prog_9_method_32_code 19 = .ok (.istore 6, 2) := by decide +kernel
theorem d_Mo_scan_21 : decode prog_9_method_32_code 21 = .ok (.iload 6, 2) := by decide +kernel
theorem d_Mo_scan_23 : decode prog_9_method_32_code 23 = .ok (.bipush 64, 2) := by decide +kernel
theorem d_Mo_scan_25 : decode prog_9_method_32_code 25 = .ok (.if_icmp .ge 66, 3) := by decide +kernel
theorem d_Mo_scan_28 : decode prog_9_method_32_code 28 = .ok (.iload 6, 2) := by decide +kernel
theorem d_Mo_scan_30 : decode prog_9_method_32_code 30 = .ok (.iload_n 1, 1) := by decide +kernel
theorem d_Mo_scan_31 : decode prog_9_method_32_code 31 = .ok (.if_icmp .lt 54, 3) := by decide +kernel
theorem d_Mo_scan_34 : decode prog_9_method_32_code 34 = .ok (.iload 6, 2) := by decide +kernel
theorem d_Mo_scan_36 : decode prog_9_method_32_code 36 = .ok (.iload_n 2, 1) := by decide +kernel
theorem d_Mo_scan_37 : decode prog_9_method_32_code 37 = .ok (.if_icmp .gt 48, 3) := by decide +kernel
theorem d_Mo_scan_40 : decode prog_9_method_32_code 40 = .ok (.aload_n 0, 1) := by decide +kernel
theorem d_Mo_scan_41 : decode prog_9_method_32_code 41 = .ok (.iload 6, 2) := by decide +kernel
theorem d_Mo_scan_43 : decode prog_9_method_32_code 43 = .ok (.invokevirtual 173, 3) := by decide +kernel
theorem d_Mo_scan_46 : decode prog_9_method_32_code 46 = .ok (.iconst 0, 1) := by decide +kernel
theorem d_Mo_scan_47 : decode prog_9_method_32_code 47 = .ok (.istore 7, 2) := by decide +kernel
theorem d_Mo_scan_49 : decode prog_9_method_32_code 49 = .ok (.iload 7, 2) := by decide +kernel
theorem d_Mo_scan_51 : decode prog_9_method_32_code 51 = .ok (.bipush 8, 2) := by decide +kernel
theorem d_Mo_scan_53 : decode prog_9_method_32_code 53 = .ok (.if_icmp .ge 32, 3) := by decide +kernel
theorem d_Mo_scan_56 : decode prog_9_method_32_code 56 = .ok (.iload_n 3, 1) := by decide +kernel
theorem d_Mo_scan_57 : decode prog_9_method_32_code 57 = .ok (.iconst (-1), 1) := by decide +kernel
theorem d_Mo_scan_58 : decode prog_9_method_32_code 58 = .ok (.if_icmp .eq 9, 3) := by decide +kernel
theorem d_Mo_scan_61 : decode prog_9_method_32_code 61 = .ok (.iload_n 3, 1) := by decide +kernel
theorem d_Mo_scan_62 : decode prog_9_method_32_code 62 = .ok (.iload 7, 2) := by decide +kernel
theorem d_Mo_scan_64 : decode prog_9_method_32_code 64 = .ok (.if_icmp .ne 15, 3) := by decide +kernel
theorem d_Mo_scan_67 : decode prog_9_method_32_code 67 = .ok (.aload_n 0, 1) := by decide +kernel
theorem d_Mo_scan_68 : decode prog_9_method_32_code 68 = .ok (.iload 6, 2) := by decide +kernel
theorem d_Mo_scan_70 : decode prog_9_method_32_code 70 = .ok (.iload 7, 2) := by decide +kernel
theorem d_Mo_scan_72 : decode prog_9_method_32_code 72 = .ok (.iload 4, 2) := by decide +kernel
theorem d_Mo_scan_74 : decode prog_9_method_32_code 74 = .ok (.iload 5, 2) := by decide +kernel
theorem d_Mo_scan_76 : decode prog_9_method_32_code 76 = .ok (.invokevirtual 185, 3) := by decide +kernel
theorem d_Mo_scan_79 : decode prog_9_method_32_code 79 = .ok (.iinc 7 1, 3) := by decide +kernel
theorem d_Mo_scan_82 : decode prog_9_method_32_code 82 = .ok (.goto (-33), 3) := by decide +kernel
theorem d_Mo_scan_85 : decode prog_9_method_32_code 85 = .ok (.iinc 6 1, 3) := by decide +kernel
theorem d_Mo_scan_88 : decode prog_9_method_32_code 88 = .ok (.goto (-67), 3) := by decide +kernel
theorem d_Mo_scan_91 : decode prog_9_method_32_code 91 = .ok (.aload_n 0, 1) := by decide +kernel
theorem d_Mo_scan_92 : decode prog_9_method_32_code 92 = .ok (.getfield 181, 3) := by decide +kernel
theorem d_Mo_scan_95 : decode prog_9_method_32_code 95 = .ok (.ireturn, 1) := by decide +kernel
theorem d_Mo_found_0 : decode prog_9_method_33_code 0 = .ok (.iload_n 1, 1) := by decide +kernel
theorem d_Mo_found_1 : decode prog_9_method_33_code 1 = .ok (.ifCond .lt 11, 3) := by decide +kernel
theorem d_Mo_found_4 : decode prog_9_method_33_code 4 = .ok (.iload_n 1, 1) := by decide +kernel
theorem d_Mo_found_5 : decode prog_9_method_33_code 5 = .ok (.aload_n 0, 1) := by decide +kernel
theorem d_Mo_found_6 : decode prog_9_method_33_code 6 = .ok (.getfield 181, 3) := by decide +kernel
theorem d_Mo_found_9 : decode prog_9_method_33_code 9 = .ok (.if_icmp .lt 9, 3) := by decide +kernel
theorem d_Mo_found_12 : decode prog_9_method_33_code 12 = .ok (.ldc2_w 171, 3) := by decide +kernel
theorem d_Mo_found_15 : decode prog_9_method_33_code 15 = .ok (.goto 26, 3) := by decide +kernel
theorem d_Mo_found_18 : decode prog_9_method_33_code 18 = .ok (.ldc2_w 177, 3) := by decide +kernel
theorem d_Mo_found_21 : decode prog_9_method_33_code 21 = .ok (.aload_n 0, 1) := by decide +kernel
theorem d_Mo_found_22 : decode prog_9_method_33_code 22 = .ok (.getfield 62, 3) := by decide +kernel
theorem d_Mo_found_25 : decode prog_9_method_33_code 25 = .ok (.iload_n 1, 1) := by decide +kernel
theorem d_Mo_found_26 : decode prog_9_method_33_code 26 = .ok (.iaload, 1) := by decide +kernel
theorem d_Mo_found_27 : decode prog_9_method_33_code 27 = .ok (.i2l, 1) := by decide +kernel
theorem d_Mo_found_28 : decode prog_9_method_33_code 28 = .ok (.lmul, 1) := by decide +kernel
theorem d_Mo_found_29 : decode prog_9_method_33_code 29 = .ok (.aload_n 0, 1) := by decide +kernel
theorem d_Mo_found_30 : decode prog_9_method_33_code 30 = .ok (.getfield 65, 3) := by decide +kernel
theorem d_Mo_found_33 : decode prog_9_method_33_code 33 = .ok (.iload_n 1, 1) := by decide +kernel
theorem d_Mo_found_34 : decode prog_9_method_33_code 34 = .ok (.iaload, 1) := by decide +kernel
theorem d_Mo_found_35 : decode prog_9_method_33_code 35 = .ok (.i2l, 1) := by decide +kernel
theorem d_Mo_found_36 : decode prog_9_method_33_code 36 = .ok (.ldc2_w 179, 3) := by decide +kernel
theorem d_Mo_found_39 : decode prog_9_method_33_code 39 = .ok (.land, 1) := by decide +kernel
theorem d_Mo_found_40 : decode prog_9_method_33_code 40 = .ok (.ladd, 1) := by decide +kernel
theorem d_Mo_found_41 : decode prog_9_method_33_code 41 = .ok (.lreturn, 1) := by decide +kernel
theorem d_Mo_flushed_0 : decode prog_9_method_34_code 0 = .ok (.iconst 0, 1) := by decide +kernel
theorem d_Mo_flushed_1 : decode prog_9_method_34_code 1 = .ok (.istore_n 2, 1) := by decide +kernel
theorem d_Mo_flushed_2 : decode prog_9_method_34_code 2 = .ok (.iconst 0, 1) := by decide +kernel
theorem d_Mo_flushed_3 : decode prog_9_method_34_code 3 = .ok (.istore_n 3, 1) := by decide +kernel
theorem d_Mo_flushed_4 : decode prog_9_method_34_code 4 = .ok (.iload_n 3, 1) := by decide +kernel
theorem d_Mo_flushed_5 : decode prog_9_method_34_code 5 = .ok (.aload_n 0, 1) := by decide +kernel
theorem d_Mo_flushed_6 : decode prog_9_method_34_code 6 = .ok (.getfield 79, 3) := by decide +kernel
theorem d_Mo_flushed_9 : decode prog_9_method_34_code 9 = .ok (.if_icmp .ge 44, 3) := by decide +kernel
theorem d_Mo_flushed_12 : decode prog_9_method_34_code 12 = .ok (.aload_n 0, 1) := by decide +kernel
theorem d_Mo_flushed_13 : decode prog_9_method_34_code 13 = .ok (.getfield 28, 3) := by decide +kernel
theorem d_Mo_flushed_16 : decode prog_9_method_34_code 16 = .ok (.iload_n 3, 1) := by decide +kernel
theorem d_Mo_flushed_17 : decode prog_9_method_34_code 17 = .ok (.iaload, 1) := by decide +kernel
theorem d_Mo_flushed_18 : decode prog_9_method_34_code 18 = .ok (.iload_n 1, 1) := by decide +kernel
theorem d_Mo_flushed_19 : decode prog_9_method_34_code 19 = .ok (.if_icmp .ne 28, 3) := by decide +kernel
theorem d_Mo_flushed_22 : decode prog_9_method_34_code 22 = .ok (.aload_n 0, 1) := by decide +kernel
theorem d_Mo_flushed_23 : decode prog_9_method_34_code 23 = .ok (.getfield 31, 3) := by decide +kernel
theorem d_Mo_flushed_26 : decode prog_9_method_34_code 26 = .ok (.iload_n 3, 1) := by decide +kernel
theorem d_Mo_flushed_27 : decode prog_9_method_34_code 27 = .ok (.iaload, 1) := by decide +kernel
theorem d_Mo_flushed_28 : decode prog_9_method_34_code 28 = .ok (.iconst (-1), 1) := by decide +kernel
theorem d_Mo_flushed_29 : decode prog_9_method_34_code 29 = .ok (.if_icmp .ne 18, 3) := by decide +kernel
theorem d_Mo_flushed_32 : decode prog_9_method_34_code 32 = .ok (.aload_n 0, 1) := by decide +kernel
theorem d_Mo_flushed_33 : decode prog_9_method_34_code 33 = .ok (.getfield 31, 3) := by decide +kernel
theorem d_Mo_flushed_36 : decode prog_9_method_34_code 36 = .ok (.iload_n 3, 1) := by decide +kernel
theorem d_Mo_flushed_37 : decode prog_9_method_34_code 37 = .ok (.aload_n 0, 1) := by decide +kernel
theorem d_Mo_flushed_38 : decode prog_9_method_34_code 38 = .ok (.getfield 41, 3) := by decide +kernel
theorem d_Mo_flushed_41 : decode prog_9_method_34_code 41 = .ok (.iload_n 1, 1) := by decide +kernel
theorem d_Mo_flushed_42 : decode prog_9_method_34_code 42 = .ok (.iaload, 1) := by decide +kernel
theorem d_Mo_flushed_43 : decode prog_9_method_34_code 43 = .ok (.iastore, 1) := by decide +kernel
theorem d_Mo_flushed_44 : decode prog_9_method_34_code 44 = .ok (.iinc 2 1, 3) := by decide +kernel
theorem d_Mo_flushed_47 : decode prog_9_method_34_code 47 = .ok (.iinc 3 1, 3) := by decide +kernel
theorem d_Mo_flushed_50 : decode prog_9_method_34_code 50 = .ok (.goto (-46), 3) := by decide +kernel
theorem d_Mo_flushed_53 : decode prog_9_method_34_code 53 = .ok (.aload_n 0, 1) := by decide +kernel
theorem d_Mo_flushed_54 : decode prog_9_method_34_code 54 = .ok (.getfield 41, 3) := by decide +kernel
theorem d_Mo_flushed_57 : decode prog_9_method_34_code 57 = .ok (.iload_n 1, 1) := by decide +kernel
theorem d_Mo_flushed_58 : decode prog_9_method_34_code 58 = .ok (.dup2, 1) := by decide +kernel
theorem d_Mo_flushed_59 : decode prog_9_method_34_code 59 = .ok (.iaload, 1) := by decide +kernel
theorem d_Mo_flushed_60 : decode prog_9_method_34_code 60 = .ok (.iload_n 2, 1) := by decide +kernel
theorem d_Mo_flushed_61 : decode prog_9_method_34_code 61 = .ok (.ifCond .le 7, 3) := by decide +kernel
theorem d_Mo_flushed_64 : decode prog_9_method_34_code 64 = .ok (.iconst 1, 1) := by decide +kernel
theorem d_Mo_flushed_65 : decode prog_9_method_34_code 65 = .ok (.goto 4, 3) := by decide +kernel
theorem d_Mo_flushed_68 : decode prog_9_method_34_code 68 = .ok (.iconst 0, 1) := by decide +kernel
theorem d_Mo_flushed_69 : decode prog_9_method_34_code 69 = .ok (.iadd, 1) := by decide +kernel
theorem d_Mo_flushed_70 : decode prog_9_method_34_code 70 = .ok (.iastore, 1) := by decide +kernel
theorem d_Mo_flushed_71 : decode prog_9_method_34_code 71 = .ok (.iload_n 2, 1) := by decide +kernel
theorem d_Mo_flushed_72 : decode prog_9_method_34_code 72 = .ok (.ireturn, 1) := by decide +kernel
theorem d_Mo_flush_0 : decode prog_9_method_35_code 0 = .ok (.aload_n 0, 1) := by decide +kernel
theorem d_Mo_flush_1 : decode prog_9_method_35_code 1 = .ok (.iload_n 1, 1) := by decide +kernel
theorem d_Mo_flush_2 : decode prog_9_method_35_code 2 = .ok (.invokevirtual 189, 3) := by decide +kernel
theorem d_Mo_flush_5 : decode prog_9_method_35_code 5 = .ok (.ifCond .eq 11, 3) := by decide +kernel
theorem d_Mo_flush_8 : decode prog_9_method_35_code 8 = .ok (.aload_n 0, 1) := by decide +kernel
theorem d_Mo_flush_9 : decode prog_9_method_35_code 9 = .ok (.iload_n 1, 1) := by decide +kernel
theorem d_Mo_flush_10 : decode prog_9_method_35_code 10 = .ok (.invokevirtual 158, 3) := by decide +kernel
theorem d_Mo_flush_13 : decode prog_9_method_35_code 13 = .ok (.goto 4, 3) := by decide +kernel
theorem d_Mo_flush_16 : decode prog_9_method_35_code 16 = .ok (.iconst (-1), 1) := by decide +kernel
theorem d_Mo_flush_17 : decode prog_9_method_35_code 17 = .ok (.ireturn, 1) := by decide +kernel
theorem d_Mo_isIn_0 : decode prog_9_method_36_code 0 = .ok (.aload_n 0, 1) := by decide +kernel
theorem d_Mo_isIn_1 : decode prog_9_method_36_code 1 = .ok (.getfield 28, 3) := by decide +kernel
theorem d_Mo_isIn_4 : decode prog_9_method_36_code 4 = .ok (.iload_n 1, 1) := by decide +kernel
theorem d_Mo_isIn_5 : decode prog_9_method_36_code 5 = .ok (.iaload, 1) := by decide +kernel
theorem d_Mo_isIn_6 : decode prog_9_method_36_code 6 = .ok (.iload_n 2, 1) := by decide +kernel
theorem d_Mo_isIn_7 : decode prog_9_method_36_code 7 = .ok (.if_icmp .ne 17, 3) := by decide +kernel
theorem d_Mo_isIn_10 : decode prog_9_method_36_code 10 = .ok (.aload_n 0, 1) := by decide +kernel
theorem d_Mo_isIn_11 : decode prog_9_method_36_code 11 = .ok (.getfield 31, 3) := by decide +kernel
theorem d_Mo_isIn_14 : decode prog_9_method_36_code 14 = .ok (.iload_n 1, 1) := by decide +kernel
theorem d_Mo_isIn_15 : decode prog_9_method_36_code 15 = .ok (.iaload, 1) := by decide +kernel
theorem d_Mo_isIn_16 : decode prog_9_method_36_code 16 = .ok (.iload_n 3, 1) := by decide +kernel
theorem d_Mo_isIn_17 : decode prog_9_method_36_code 17 = .ok (.if_icmp .lt 7, 3) := by decide +kernel
theorem d_Mo_isIn_20 : decode prog_9_method_36_code 20 = .ok (.iconst 1, 1) := by decide +kernel
theorem d_Mo_isIn_21 : decode prog_9_method_36_code 21 = .ok (.goto 4, 3) := by decide +kernel
theorem d_Mo_isIn_24 : decode prog_9_method_36_code 24 = .ok (.iconst 0, 1) := by decide +kernel
theorem d_Mo_isIn_25 : decode prog_9_method_36_code 25 = .ok (.ireturn, 1) := by decide +kernel
theorem d_Mo_merge_0 : decode prog_9_method_37_code 0 = .ok (.iconst 0, 1) := by decide +kernel
theorem d_Mo_merge_1 : decode prog_9_method_37_code 1 = .ok (.istore 4, 2) := by decide +kernel
theorem d_Mo_merge_3 : decode prog_9_method_37_code 3 = .ok (.iload 4, 2) := by decide +kernel
theorem d_Mo_merge_5 : decode prog_9_method_37_code 5 = .ok (.aload_n 0, 1) := by decide +kernel
theorem d_Mo_merge_6 : decode prog_9_method_37_code 6 = .ok (.getfield 79, 3) := by decide +kernel
theorem d_Mo_merge_9 : decode prog_9_method_37_code 9 = .ok (.if_icmp .ge 142, 3) := by decide +kernel
theorem d_Mo_merge_12 : decode prog_9_method_37_code 12 = .ok (.iload_n 3, 1) := by decide +kernel
theorem d_Mo_merge_13 : decode prog_9_method_37_code 13 = .ok (.ifCond .eq 12, 3) := by decide +kernel
theorem d_Mo_merge_16 : decode prog_9_method_37_code 16 = .ok (.aload_n 0, 1) := by decide +kernel
theorem d_Mo_merge_17 : decode prog_9_method_37_code 17 = .ok (.iload 4, 2) := by decide +kernel
theorem d_Mo_merge_19 : decode prog_9_method_37_code 19 = .ok (.invokevirtual 86, 3) := by decide +kernel
theorem d_Mo_merge_22 : decode prog_9_method_37_code 22 = .ok (.goto 27, 3) := by decide +kernel
theorem d_Mo_merge_25 : decode prog_9_method_37_code 25 = .ok (.aload_n 0, 1) := by decide +kernel
theorem d_Mo_merge_26 : decode prog_9_method_37_code 26 = .ok (.getfield 7, 3) := by decide +kernel
theorem d_Mo_merge_29 : decode prog_9_method_37_code 29 = .ok (.iload 4, 2) := by decide +kernel
theorem d_Mo_merge_31 : decode prog_9_method_37_code 31 = .ok (.iaload, 1) := by decide +kernel
theorem d_Mo_merge_32 : decode prog_9_method_37_code 32 = .ok (.ifCond .ne 12, 3) := by decide +kernel
theorem d_Mo_merge_35 : decode prog_9_method_37_code 35 = .ok (.aload_n 0, 1) := by decide +kernel
theorem d_Mo_merge_36 : decode prog_9_method_37_code 36 = .ok (.iload 4, 2) := by decide +kernel
theorem d_Mo_merge_38 : decode prog_9_method_37_code 38 = .ok (.invokevirtual 75, 3) := by decide +kernel
theorem d_Mo_merge_41 : decode prog_9_method_37_code 41 = .ok (.ifCond .ne 7, 3) := by decide +kernel
theorem d_Mo_merge_44 : decode prog_9_method_37_code 44 = .ok (.iconst 1, 1) := by decide +kernel
theorem d_Mo_merge_45 : decode prog_9_method_37_code 45 = .ok (.goto 4, 3) := by decide +kernel
theorem d_Mo_merge_48 : decode prog_9_method_37_code 48 = .ok (.iconst 0, 1) := by decide +kernel
theorem d_Mo_merge_49 : decode prog_9_method_37_code 49 = .ok (.istore 5, 2) := by decide +kernel
theorem d_Mo_merge_51 : decode prog_9_method_37_code 51 = .ok (.iload 4, 2) := by decide +kernel
theorem d_Mo_merge_53 : decode prog_9_method_37_code 53 = .ok (.iconst 1, 1) := by decide +kernel
theorem d_Mo_merge_54 : decode prog_9_method_37_code 54 = .ok (.iadd, 1) := by decide +kernel
theorem d_Mo_merge_55 : decode prog_9_method_37_code 55 = .ok (.istore 6, 2) := by decide +kernel
theorem d_Mo_merge_57 : decode prog_9_method_37_code 57 = .ok (.iload 6, 2) := by decide +kernel
theorem d_Mo_merge_59 : decode prog_9_method_37_code 59 = .ok (.aload_n 0, 1) := by decide +kernel
theorem d_Mo_merge_60 : decode prog_9_method_37_code 60 = .ok (.getfield 79, 3) := by decide +kernel
theorem d_Mo_merge_63 : decode prog_9_method_37_code 63 = .ok (.if_icmp .ge 47, 3) := by decide +kernel
theorem d_Mo_merge_66 : decode prog_9_method_37_code 66 = .ok (.iload_n 3, 1) := by decide +kernel
theorem d_Mo_merge_67 : decode prog_9_method_37_code 67 = .ok (.ifCond .ne 43, 3) := by decide +kernel
theorem d_Mo_merge_70 : decode prog_9_method_37_code 70 = .ok (.iload 5, 2) := by decide +kernel
theorem d_Mo_merge_72 : decode prog_9_method_37_code 72 = .ok (.ifCond .eq 29, 3) := by decide +kernel
theorem d_Mo_merge_75 : decode prog_9_method_37_code 75 = .ok (.aload_n 0, 1) := by decide +kernel
theorem d_Mo_merge_76 : decode prog_9_method_37_code 76 = .ok (.iload 6, 2) := by decide +kernel
theorem d_Mo_merge_78 : decode prog_9_method_37_code 78 = .ok (.iload_n 1, 1) := by decide +kernel
theorem d_Mo_merge_79 : decode prog_9_method_37_code 79 = .ok (.iload_n 2, 1) := by decide +kernel
theorem d_Mo_merge_80 : decode prog_9_method_37_code 80 = .ok (.invokevirtual 192, 3) := by decide +kernel
theorem d_Mo_merge_83 : decode prog_9_method_37_code 83 = .ok (.ifCond .eq 14, 3) := by decide +kernel
theorem d_Mo_merge_86 : decode prog_9_method_37_code 86 = .ok (.aload_n 0, 1) := by decide +kernel
theorem d_Mo_merge_87 : decode prog_9_method_37_code 87 = .ok (.iload 6, 2) := by decide +kernel
theorem d_Mo_merge_89 : decode prog_9_method_37_code 89 = .ok (.iload 4, 2) := by decide +kernel
theorem d_Mo_merge_91 : decode prog_9_method_37_code 91 = .ok (.invokevirtual 82, 3) := by decide +kernel
theorem d_Mo_merge_94 : decode prog_9_method_37_code 94 = .ok (.ifCond .ne 7, 3) := by decide +kernel
theorem d_Mo_merge_97 : decode prog_9_method_37_code 97 = .ok (.iconst 1, 1) := by decide +kernel
theorem d_Mo_merge_98 : decode prog_9_method_37_code 98 = .ok (.goto 4, 3) := by decide +kernel
theorem d_Mo_merge_101 : decode prog_9_method_37_code 101 = .ok (.iconst 0, 1) := by decide +kernel
theorem d_Mo_merge_102 : decode prog_9_method_37_code 102 = .ok (.istore 5, 2) := by decide +kernel
theorem d_Mo_merge_104 : decode prog_9_method_37_code 104 = .ok (.iinc 6 1, 3) := by decide +kernel
theorem d_Mo_merge_107 : decode prog_9_method_37_code 107 = .ok (.goto (-50), 3) := by decide +kernel
theorem d_Mo_merge_110 : decode prog_9_method_37_code 110 = .ok (.aload_n 0, 1) := by decide +kernel
theorem d_Mo_merge_111 : decode prog_9_method_37_code 111 = .ok (.getfield 25, 3) := by decide +kernel
theorem d_Mo_merge_114 : decode prog_9_method_37_code 114 = .ok (.iload 4, 2) := by decide +kernel
theorem d_Mo_merge_116 : decode prog_9_method_37_code 116 = .ok (.aload_n 0, 1) := by decide +kernel
theorem d_Mo_merge_117 : decode prog_9_method_37_code 117 = .ok (.iload 4, 2) := by decide +kernel
theorem d_Mo_merge_119 : decode prog_9_method_37_code 119 = .ok (.iload_n 1, 1) := by decide +kernel
theorem d_Mo_merge_120 : decode prog_9_method_37_code 120 = .ok (.iload_n 2, 1) := by decide +kernel
theorem d_Mo_merge_121 : decode prog_9_method_37_code 121 = .ok (.invokevirtual 192, 3) := by decide +kernel
theorem d_Mo_merge_124 : decode prog_9_method_37_code 124 = .ok (.ifCond .eq 13, 3) := by decide +kernel
theorem d_Mo_merge_127 : decode prog_9_method_37_code 127 = .ok (.iload 5, 2) := by decide +kernel
theorem d_Mo_merge_129 : decode prog_9_method_37_code 129 = .ok (.ifCond .ne 8, 3) := by decide +kernel
theorem d_Mo_merge_132 : decode prog_9_method_37_code 132 = .ok (.bipush (-2), 2) := by decide +kernel
theorem d_Mo_merge_134 : decode prog_9_method_37_code 134 = .ok (.goto 10, 3) := by decide +kernel
theorem d_Mo_merge_137 : decode prog_9_method_37_code 137 = .ok (.aload_n 0, 1) := by decide +kernel
theorem d_Mo_merge_138 : decode prog_9_method_37_code 138 = .ok (.getfield 25, 3) := by decide +kernel
theorem d_Mo_merge_141 : decode prog_9_method_37_code 141 = .ok (.iload 4, 2) := by decide +kernel
theorem d_Mo_merge_143 : decode prog_9_method_37_code 143 = .ok (.iaload, 1) := by decide +kernel
theorem d_Mo_merge_144 : decode prog_9_method_37_code 144 = .ok (.iastore, 1) := by decide +kernel
theorem d_Mo_merge_145 : decode prog_9_method_37_code 145 = .ok (.iinc 4 1, 3) := by decide +kernel
theorem d_Mo_merge_148 : decode prog_9_method_37_code 148 = .ok (.goto (-145), 3) := by decide +kernel
theorem d_Mo_merge_151 : decode prog_9_method_37_code 151 = .ok (.iconst 0, 1) := by decide +kernel
theorem d_Mo_merge_152 : decode prog_9_method_37_code 152 = .ok (.istore 4, 2) := by decide +kernel
theorem d_Mo_merge_154 : decode prog_9_method_37_code 154 = .ok (.iconst 0, 1) := by decide +kernel
theorem d_Mo_merge_155 : decode prog_9_method_37_code 155 = .ok (.istore 5, 2) := by decide +kernel
theorem d_Mo_merge_157 : decode prog_9_method_37_code 157 = .ok (.iconst 0, 1) := by decide +kernel
theorem d_Mo_merge_158 : decode prog_9_method_37_code 158 = .ok (.istore 6, 2) := by decide +kernel
theorem d_Mo_merge_160 : decode prog_9_method_37_code 160 = .ok (.iload 6, 2) := by decide +kernel
theorem d_Mo_merge_162 : decode prog_9_method_37_code 162 = .ok (.aload_n 0, 1) := by decide +kernel
theorem d_Mo_merge_163 : decode prog_9_method_37_code 163 = .ok (.getfield 79, 3) := by decide +kernel
theorem d_Mo_merge_166 : decode prog_9_method_37_code 166 = .ok (.if_icmp .ge 54, 3) := by decide +kernel
theorem d_Mo_merge_169 : decode prog_9_method_37_code 169 = .ok (.aload_n 0, 1) := by decide +kernel
theorem d_Mo_merge_170 : decode prog_9_method_37_code 170 = .ok (.getfield 25, 3) := by decide +kernel
theorem d_Mo_merge_173 : decode prog_9_method_37_code 173 = .ok (.iload 6, 2) := by decide +kernel
theorem d_Mo_merge_175 : decode prog_9_method_37_code 175 = .ok (.iaload, 1) := by decide +kernel
theorem d_Mo_merge_176 : decode prog_9_method_37_code 176 = .ok (.bipush (-2), 2) := by decide +kernel
theorem d_Mo_merge_178 : decode prog_9_method_37_code 178 = .ok (.if_icmp .eq 36, 3) := by decide +kernel
theorem d_Mo_merge_181 : decode prog_9_method_37_code 181 = .ok (.aload_n 0, 1) := by decide +kernel
theorem d_Mo_merge_182 : decode prog_9_method_37_code 182 = .ok (.iload 6, 2) := by decide +kernel
theorem d_Mo_merge_184 : decode prog_9_method_37_code 184 = .ok (.iload 4, 2) := by decide +kernel
theorem d_Mo_merge_186 : decode prog_9_method_37_code 186 = .ok (.invokevirtual 196, 3) := by decide +kernel
theorem d_Mo_merge_189 : decode prog_9_method_37_code 189 = .ok (.aload_n 0, 1) := by decide +kernel
theorem d_Mo_merge_190 : decode prog_9_method_37_code 190 = .ok (.iload 4, 2) := by decide +kernel
theorem d_Mo_merge_192 : decode prog_9_method_37_code 192 = .ok (.iload_n 1, 1) := by decide +kernel
theorem d_Mo_merge_193 : decode prog_9_method_37_code 193 = .ok (.iload_n 2, 1) := by decide +kernel
theorem d_Mo_merge_194 : decode prog_9_method_37_code 194 = .ok (.invokevirtual 192, 3) := by decide +kernel
theorem d_Mo_merge_197 : decode prog_9_method_37_code 197 = .ok (.ifCond .eq 14, 3) := by decide +kernel
theorem d_Mo_merge_200 : decode prog_9_method_37_code 200 = .ok (.aload_n 0, 1) := by decide +kernel
theorem d_Mo_merge_201 : decode prog_9_method_37_code 201 = .ok (.getfield 31, 3) := by decide +kernel
theorem d_Mo_merge_204 : decode prog_9_method_37_code 204 = .ok (.iload 4, 2) := by decide +kernel
theorem d_Mo_merge_206 : decode prog_9_method_37_code 206 = .ok (.iload_n 2, 1) := by decide +kernel
theorem d_Mo_merge_207 : decode prog_9_method_37_code 207 = .ok (.iastore, 1) := by decide +kernel
theorem d_Mo_merge_208 : decode prog_9_method_37_code 208 = .ok (.iinc 5 1, 3) := by decide +kernel
theorem d_Mo_merge_211 : decode prog_9_method_37_code 211 = .ok (.iinc 4 1, 3) := by decide +kernel
theorem d_Mo_merge_214 : decode prog_9_method_37_code 214 = .ok (.iinc 6 1, 3) := by decide +kernel
theorem d_Mo_merge_217 : decode prog_9_method_37_code 217 = .ok (.goto (-57), 3) := by decide +kernel
theorem d_Mo_merge_220 : decode prog_9_method_37_code 220 = .ok (.aload_n 0, 1) := by decide +kernel
theorem d_Mo_merge_221 : decode prog_9_method_37_code 221 = .ok (.iload 4, 2) := by decide +kernel
theorem d_Mo_merge_223 : decode prog_9_method_37_code 223 = .ok (.putfield 79, 3) := by decide +kernel
theorem d_Mo_merge_226 : decode prog_9_method_37_code 226 = .ok (.aload_n 0, 1) := by decide +kernel
theorem d_Mo_merge_227 : decode prog_9_method_37_code 227 = .ok (.getfield 41, 3) := by decide +kernel
theorem d_Mo_merge_230 : decode prog_9_method_37_code 230 = .ok (.iload_n 1, 1) := by decide +kernel
theorem d_Mo_merge_231 : decode prog_9_method_37_code 231 = .ok (.iload 5, 2) := by decide +kernel
theorem d_Mo_merge_233 : decode prog_9_method_37_code 233 = .ok (.ifCond .le 9, 3) := by decide +kernel
theorem d_Mo_merge_236 : decode prog_9_method_37_code 236 = .ok (.iload_n 2, 1) := by decide +kernel
theorem d_Mo_merge_237 : decode prog_9_method_37_code 237 = .ok (.iconst 1, 1) := by decide +kernel
theorem d_Mo_merge_238 : decode prog_9_method_37_code 238 = .ok (.iadd, 1) := by decide +kernel
theorem d_Mo_merge_239 : decode prog_9_method_37_code 239 = .ok (.goto 4, 3) := by decide +kernel
theorem d_Mo_merge_242 : decode prog_9_method_37_code 242 = .ok (.iload_n 2, 1) := by decide +kernel
theorem d_Mo_merge_243 : decode prog_9_method_37_code 243 = .ok (.iastore, 1) := by decide +kernel
theorem d_Mo_merge_244 : decode prog_9_method_37_code 244 = .ok (.iload 5, 2) := by decide +kernel
theorem d_Mo_merge_246 : decode prog_9_method_37_code 246 = .ok (.ireturn, 1) := by decide +kernel
theorem d_Mo_compact_0 : decode prog_9_method_38_code 0 = .ok (.aload_n 0, 1) := by decide +kernel
theorem d_Mo_compact_1 : decode prog_9_method_38_code 1 = .ok (.iload_n 1, 1) := by decide +kernel
theorem d_Mo_compact_2 : decode prog_9_method_38_code 2 = .ok (.invokevirtual 189, 3) := by decide +kernel
theorem d_Mo_compact_5 : decode prog_9_method_38_code 5 = .ok (.ifCond .eq 18, 3) := by decide +kernel
theorem d_Mo_compact_8 : decode prog_9_method_38_code 8 = .ok (.iload_n 2, 1) := by decide +kernel
theorem d_Mo_compact_9 : decode prog_9_method_38_code 9 = .ok (.iconst 2, 1) := by decide +kernel
theorem d_Mo_compact_10 : decode prog_9_method_38_code 10 = .ok (.if_icmp .lt 13, 3) := by decide +kernel
theorem d_Mo_compact_13 : decode prog_9_method_38_code 13 = .ok (.iload_n 2, 1) := by decide +kernel
theorem d_Mo_compact_14 : decode prog_9_method_38_code 14 = .ok (.aload_n 0, 1) := by decide +kernel
theorem d_Mo_compact_15 : decode prog_9_method_38_code 15 = .ok (.getfield 41, 3) := by decide +kernel
theorem d_Mo_compact_18 : decode prog_9_method_38_code 18 = .ok (.iload_n 1, 1) := by decide +kernel
theorem d_Mo_compact_19 : decode prog_9_method_38_code 19 = .ok (.iaload, 1) := by decide +kernel
theorem d_Mo_compact_20 : decode prog_9_method_38_code 20 = .ok (.if_icmp .le 5, 3) := by decide +kernel
theorem d_Mo_compact_23 : decode prog_9_method_38_code 23 = .ok (.iconst (-1), 1) := by decide +kernel
theorem d_Mo_compact_24 : decode prog_9_method_38_code 24 = .ok (.ireturn, 1) := by decide +kernel
theorem d_Mo_compact_25 : decode prog_9_method_38_code 25 = .ok (.aload_n 0, 1) := by decide +kernel
theorem d_Mo_compact_26 : decode prog_9_method_38_code 26 = .ok (.iload_n 1, 1) := by decide +kernel
theorem d_Mo_compact_27 : decode prog_9_method_38_code 27 = .ok (.aload_n 0, 1) := by decide +kernel
theorem d_Mo_compact_28 : decode prog_9_method_38_code 28 = .ok (.getfield 41, 3) := by decide +kernel
theorem d_Mo_compact_31 : decode prog_9_method_38_code 31 = .ok (.iload_n 1, 1) := by decide +kernel
theorem d_Mo_compact_32 : decode prog_9_method_38_code 32 = .ok (.iaload, 1) := by decide +kernel
theorem d_Mo_compact_33 : decode prog_9_method_38_code 33 = .ok (.iload_n 2, 1) := by decide +kernel
theorem d_Mo_compact_34 : decode prog_9_method_38_code 34 = .ok (.isub, 1) := by decide +kernel
theorem d_Mo_compact_35 : decode prog_9_method_38_code 35 = .ok (.iconst 0, 1) := by decide +kernel
theorem d_Mo_compact_36 : decode prog_9_method_38_code 36 = .ok (.invokevirtual 199, 3) := by decide +kernel
theorem d_Mo_compact_39 : decode prog_9_method_38_code 39 = .ok (.ireturn, 1) := by decide +kernel
theorem d_Mo_major_0 : decode prog_9_method_39_code 0 = .ok (.aload_n 0, 1) := by decide +kernel
theorem d_Mo_major_1 : decode prog_9_method_39_code 1 = .ok (.iload_n 1, 1) := by decide +kernel
theorem d_Mo_major_2 : decode prog_9_method_39_code 2 = .ok (.invokevirtual 189, 3) := by decide +kernel
theorem d_Mo_major_5 : decode prog_9_method_39_code 5 = .ok (.ifCond .ne 5, 3) := by decide +kernel
theorem d_Mo_major_8 : decode prog_9_method_39_code 8 = .ok (.iconst (-1), 1) := by decide +kernel
theorem d_Mo_major_9 : decode prog_9_method_39_code 9 = .ok (.ireturn, 1) := by decide +kernel
theorem d_Mo_major_10 : decode prog_9_method_39_code 10 = .ok (.aload_n 0, 1) := by decide +kernel
theorem d_Mo_major_11 : decode prog_9_method_39_code 11 = .ok (.iload_n 1, 1) := by decide +kernel
theorem d_Mo_major_12 : decode prog_9_method_39_code 12 = .ok (.invokevirtual 158, 3) := by decide +kernel
theorem d_Mo_major_15 : decode prog_9_method_39_code 15 = .ok (.istore_n 2, 1) := by decide +kernel
theorem d_Mo_major_16 : decode prog_9_method_39_code 16 = .ok (.iload_n 2, 1) := by decide +kernel
theorem d_Mo_major_17 : decode prog_9_method_39_code 17 = .ok (.ifCond .lt 13, 3) := by decide +kernel
theorem d_Mo_major_20 : decode prog_9_method_39_code 20 = .ok (.aload_n 0, 1) := by decide +kernel
theorem d_Mo_major_21 : decode prog_9_method_39_code 21 = .ok (.iload_n 1, 1) := by decide +kernel
theorem d_Mo_major_22 : decode prog_9_method_39_code 22 = .ok (.iconst 0, 1) := by decide +kernel
theorem d_Mo_major_23 : decode prog_9_method_39_code 23 = .ok (.iconst 1, 1) := by decide +kernel
theorem d_Mo_major_24 : decode prog_9_method_39_code 24 = .ok (.invokevirtual 199, 3) := by decide +kernel
theorem d_Mo_major_27 : decode prog_9_method_39_code 27 = .ok (.goto 4, 3) := by decide +kernel
theorem d_Mo_major_30 : decode prog_9_method_39_code 30 = .ok (.iconst 0, 1) := by decide +kernel
theorem d_Mo_major_31 : decode prog_9_method_39_code 31 = .ok (.ireturn, 1) := by decide +kernel
theorem d_Mo_lastRow_0 : decode prog_9_method_40_code 0 = .ok (.iload_n 1, 1) := by decide +kernel
theorem d_Mo_lastRow_1 : decode prog_9_method_40_code 1 = .ok (.aload_n 0, 1) := by decide +kernel
theorem d_Mo_lastRow_2 : decode prog_9_method_40_code 2 = .ok (.getfield 34, 3) := by decide +kernel
theorem d_Mo_lastRow_5 : decode prog_9_method_40_code 5 = .ok (.iconst 1, 1) := by decide +kernel
theorem d_Mo_lastRow_6 : decode prog_9_method_40_code 6 = .ok (.isub, 1) := by decide +kernel
theorem d_Mo_lastRow_7 : decode prog_9_method_40_code 7 = .ok (.if_icmp .ne 8, 3) := by decide +kernel
theorem d_Mo_lastRow_10 : decode prog_9_method_40_code 10 = .ok (.bipush 63, 2) := by decide +kernel
theorem d_Mo_lastRow_12 : decode prog_9_method_40_code 12 = .ok (.goto 13, 3) := by decide +kernel
theorem d_Mo_lastRow_15 : decode prog_9_method_40_code 15 = .ok (.aload_n 0, 1) := by decide +kernel
theorem d_Mo_lastRow_16 : decode prog_9_method_40_code 16 = .ok (.getfield 38, 3) := by decide +kernel
theorem d_Mo_lastRow_19 : decode prog_9_method_40_code 19 = .ok (.iload_n 1, 1) := by decide +kernel
theorem d_Mo_lastRow_20 : decode prog_9_method_40_code 20 = .ok (.iconst 1, 1) := by decide +kernel
theorem d_Mo_lastRow_21 : decode prog_9_method_40_code 21 = .ok (.iadd, 1) := by decide +kernel
theorem d_Mo_lastRow_22 : decode prog_9_method_40_code 22 = .ok (.iaload, 1) := by decide +kernel
theorem d_Mo_lastRow_23 : decode prog_9_method_40_code 23 = .ok (.iconst 1, 1) := by decide +kernel
theorem d_Mo_lastRow_24 : decode prog_9_method_40_code 24 = .ok (.isub, 1) := by decide +kernel
theorem d_Mo_lastRow_25 : decode prog_9_method_40_code 25 = .ok (.ireturn, 1) := by decide +kernel
theorem d_Mo_close_0 : decode prog_9_method_41_code 0 = .ok (.iconst 0, 1) := by decide +kernel
theorem d_Mo_close_1 : decode prog_9_method_41_code 1 = .ok (.istore_n 2, 1) := by decide +kernel
theorem d_Mo_close_2 : decode prog_9_method_41_code 2 = .ok (.iconst 0, 1) := by decide +kernel
theorem d_Mo_close_3 : decode prog_9_method_41_code 3 = .ok (.istore_n 3, 1) := by decide +kernel
theorem d_Mo_close_4 : decode prog_9_method_41_code 4 = .ok (.iload_n 3, 1) := by decide +kernel
theorem d_Mo_close_5 : decode prog_9_method_41_code 5 = .ok (.aload_n 0, 1) := by decide +kernel
theorem d_Mo_close_6 : decode prog_9_method_41_code 6 = .ok (.getfield 41, 3) := by decide +kernel
theorem d_Mo_close_9 : decode prog_9_method_41_code 9 = .ok (.iload_n 1, 1) := by decide +kernel
theorem d_Mo_close_10 : decode prog_9_method_41_code 10 = .ok (.iaload, 1) := by decide +kernel
theorem d_Mo_close_11 : decode prog_9_method_41_code 11 = .ok (.if_icmp .ge 69, 3) := by decide +kernel
theorem d_Mo_close_14 : decode prog_9_method_41_code 14 = .ok (.aload_n 0, 1) := by decide +kernel
theorem d_Mo_close_15 : decode prog_9_method_41_code 15 = .ok (.iload_n 1, 1) := by decide +kernel
theorem d_Mo_close_16 : decode prog_9_method_41_code 16 = .ok (.iload_n 3, 1) := by decide +kernel
theorem d_Mo_close_17 : decode prog_9_method_41_code 17 = .ok (.invokevirtual 155, 3) := by decide +kernel
theorem d_Mo_close_20 : decode prog_9_method_41_code 20 = .ok (.ifCond .le 54, 3) := by decide +kernel
theorem d_Mo_close_23 : decode prog_9_method_41_code 23 = .ok (.iconst 0, 1) := by decide +kernel
theorem d_Mo_close_24 : decode prog_9_method_41_code 24 = .ok (.istore 4, 2) := by decide +kernel
theorem d_Mo_close_26 : decode prog_9_method_41_code 26 = .ok (.iload 4, 2) := by decide +kernel
theorem d_Mo_close_28 : decode prog_9_method_41_code 28 = .ok (.aload_n 0, 1) := by decide +kernel
theorem d_Mo_close_29 : decode prog_9_method_41_code 29 = .ok (.getfield 79, 3) := by decide +kernel
theorem d_Mo_close_32 : decode prog_9_method_41_code 32 = .ok (.if_icmp .ge 39, 3) := by decide +kernel
theorem d_Mo_close_35 : decode prog_9_method_41_code 35 = .ok (.aload_n 0, 1) := by decide +kernel
theorem d_Mo_close_36 : decode prog_9_method_41_code 36 = .ok (.getfield 28, 3) := by decide +kernel
theorem d_Mo_close_39 : decode prog_9_method_41_code 39 = .ok (.iload 4, 2) := by decide +kernel
theorem d_Mo_close_41 : decode prog_9_method_41_code 41 = .ok (.iaload, 1) := by decide +kernel
theorem d_Mo_close_42 : decode prog_9_method_41_code 42 = .ok (.iload_n 1, 1) := by decide +kernel
theorem d_Mo_close_43 : decode prog_9_method_41_code 43 = .ok (.if_icmp .ne 22, 3) := by decide +kernel
theorem d_Mo_close_46 : decode prog_9_method_41_code 46 = .ok (.aload_n 0, 1) := by decide +kernel
theorem d_Mo_close_47 : decode prog_9_method_41_code 47 = .ok (.getfield 31, 3) := by decide +kernel
theorem d_Mo_close_50 : decode prog_9_method_41_code 50 = .ok (.iload 4, 2) := by decide +kernel
theorem d_Mo_close_52 : decode prog_9_method_41_code 52 = .ok (.iaload, 1) := by decide +kernel
theorem d_Mo_close_53 : decode prog_9_method_41_code 53 = .ok (.iload_n 3, 1) := by decide +kernel
theorem d_Mo_close_54 : decode prog_9_method_41_code 54 = .ok (.if_icmp .ne 11, 3) := by decide +kernel
theorem d_Mo_close_57 : decode prog_9_method_41_code 57 = .ok (.aload_n 0, 1) := by decide +kernel
theorem d_Mo_close_58 : decode prog_9_method_41_code 58 = .ok (.getfield 31, 3) := by decide +kernel
theorem d_Mo_close_61 : decode prog_9_method_41_code 61 = .ok (.iload 4, 2) := by decide +kernel
theorem d_Mo_close_63 : decode prog_9_method_41_code 63 = .ok (.iload_n 2, 1) := by decide +kernel
theorem d_Mo_close_64 : decode prog_9_method_41_code 64 = .ok (.iastore, 1) := by decide +kernel
theorem d_Mo_close_65 : decode prog_9_method_41_code 65 = .ok (.iinc 4 1, 3) := by decide +kernel
theorem d_Mo_close_68 : decode prog_9_method_41_code 68 = .ok (.goto (-42), 3) := by decide +kernel
theorem d_Mo_close_71 : decode prog_9_method_41_code 71 = .ok (.iinc 2 1, 3) := by decide +kernel
theorem d_Mo_close_74 : decode prog_9_method_41_code 74 = .ok (.iinc 3 1, 3) := by decide +kernel
theorem d_Mo_close_77 : decode prog_9_method_41_code 77 = .ok (.goto (-73), 3) := by decide +kernel
theorem d_Mo_close_80 : decode prog_9_method_41_code 80 = .ok (.aload_n 0, 1) := by decide +kernel
theorem d_Mo_close_81 : decode prog_9_method_41_code 81 = .ok (.getfield 41, 3) := by decide +kernel
theorem d_Mo_close_84 : decode prog_9_method_41_code 84 = .ok (.iload_n 1, 1) := by decide +kernel
theorem d_Mo_close_85 : decode prog_9_method_41_code 85 = .ok (.iload_n 2, 1) := by decide +kernel
theorem d_Mo_close_86 : decode prog_9_method_41_code 86 = .ok (.iastore, 1) := by decide +kernel
theorem d_Mo_close_87 : decode prog_9_method_41_code 87 = .ok (.return_, 1) := by decide +kernel
theorem d_Mo_split_0 : decode prog_9_method_42_code 0 = .ok (.aload_n 0, 1) := by decide +kernel
theorem d_Mo_split_1 : decode prog_9_method_42_code 1 = .ok (.iload_n 1, 1) := by decide +kernel
theorem d_Mo_split_2 : decode prog_9_method_42_code 2 = .ok (.invokevirtual 189, 3) := by decide +kernel
theorem d_Mo_split_5 : decode prog_9_method_42_code 5 = .ok (.ifCond .eq 12, 3) := by decide +kernel
theorem d_Mo_split_8 : decode prog_9_method_42_code 8 = .ok (.aload_n 0, 1) := by decide +kernel
theorem d_Mo_split_9 : decode prog_9_method_42_code 9 = .ok (.getfield 34, 3) := by decide +kernel
theorem d_Mo_split_12 : decode prog_9_method_42_code 12 = .ok (.bipush 8, 2) := by decide +kernel
theorem d_Mo_split_14 : decode prog_9_method_42_code 14 = .ok (.if_icmp .ne 5, 3) := by decide +kernel
theorem d_Mo_split_17 : decode prog_9_method_42_code 17 = .ok (.iconst 0, 1) := by decide +kernel
theorem d_Mo_split_18 : decode prog_9_method_42_code 18 = .ok (.ireturn, 1) := by decide +kernel
theorem d_Mo_split_19 : decode prog_9_method_42_code 19 = .ok (.iload_n 2, 1) := by decide +kernel
theorem d_Mo_split_20 : decode prog_9_method_42_code 20 = .ok (.aload_n 0, 1) := by decide +kernel
theorem d_Mo_split_21 : decode prog_9_method_42_code 21 = .ok (.getfield 38, 3) := by decide +kernel
theorem d_Mo_split_24 : decode prog_9_method_42_code 24 = .ok (.iload_n 1, 1) := by decide +kernel
theorem d_Mo_split_25 : decode prog_9_method_42_code 25 = .ok (.iaload, 1) := by decide +kernel
theorem d_Mo_split_26 : decode prog_9_method_42_code 26 = .ok (.if_icmp .le 12, 3) := by decide +kernel
theorem d_Mo_split_29 : decode prog_9_method_42_code 29 = .ok (.iload_n 2, 1) := by decide +kernel
theorem d_Mo_split_30 : decode prog_9_method_42_code 30 = .ok (.aload_n 0, 1) := by decide +kernel
theorem d_Mo_split_31 : decode prog_9_method_42_code 31 = .ok (.iload_n 1, 1) := by decide +kernel
theorem d_Mo_split_32 : decode prog_9_method_42_code 32 = .ok (.invokevirtual 203, 3) := by decide +kernel
theorem d_Mo_split_35 : decode prog_9_method_42_code 35 = .ok (.if_icmp .le 5, 3) := by decide +kernel
theorem d_Mo_split_38 : decode prog_9_method_42_code 38 = .ok (.iconst 0, 1) := by decide +kernel
theorem d_Mo_split_39 : decode prog_9_method_42_code 39 = .ok (.ireturn, 1) := by decide +kernel
theorem d_Mo_split_40 : decode prog_9_method_42_code 40 = .ok (.iconst 0, 1) := by decide +kernel
theorem d_Mo_split_41 : decode prog_9_method_42_code 41 = .ok (.istore_n 3, 1) := by decide +kernel
theorem d_Mo_split_42 : decode prog_9_method_42_code 42 = .ok (.iload_n 3, 1) := by decide +kernel
theorem d_Mo_split_43 : decode prog_9_method_42_code 43 = .ok (.aload_n 0, 1) := by decide +kernel
theorem d_Mo_split_44 : decode prog_9_method_42_code 44 = .ok (.getfield 79, 3) := by decide +kernel
theorem d_Mo_split_47 : decode prog_9_method_42_code 47 = .ok (.if_icmp .ge 49, 3) := by decide +kernel
theorem d_Mo_split_50 : decode prog_9_method_42_code 50 = .ok (.aload_n 0, 1) := by decide +kernel
theorem d_Mo_split_51 : decode prog_9_method_42_code 51 = .ok (.getfield 28, 3) := by decide +kernel
theorem d_Mo_split_54 : decode prog_9_method_42_code 54 = .ok (.iload_n 3, 1) := by decide +kernel
theorem d_Mo_split_55 : decode prog_9_method_42_code 55 = .ok (.iaload, 1) := by decide +kernel
theorem d_Mo_split_56 : decode prog_9_method_42_code 56 = .ok (.iload_n 1, 1) := by decide +kernel
theorem d_Mo_split_57 : decode prog_9_method_42_code 57 = .ok (.if_icmp .gt 23, 3) := by decide +kernel
theorem d_Mo_split_60 : decode prog_9_method_42_code 60 = .ok (.aload_n 0, 1) := by decide +kernel
theorem d_Mo_split_61 : decode prog_9_method_42_code 61 = .ok (.getfield 28, 3) := by decide +kernel
theorem d_Mo_split_64 : decode prog_9_method_42_code 64 = .ok (.iload_n 3, 1) := by decide +kernel
theorem d_Mo_split_65 : decode prog_9_method_42_code 65 = .ok (.iaload, 1) := by decide +kernel
theorem d_Mo_split_66 : decode prog_9_method_42_code 66 = .ok (.iload_n 1, 1) := by decide +kernel
theorem d_Mo_split_67 : decode prog_9_method_42_code 67 = .ok (.if_icmp .ne 23, 3) := by decide +kernel
theorem d_Mo_split_70 : decode prog_9_method_42_code 70 = .ok (.aload_n 0, 1) := by decide +kernel
theorem d_Mo_split_71 : decode prog_9_method_42_code 71 = .ok (.getfield 13, 3) := by decide +kernel
theorem d_Mo_split_74 : decode prog_9_method_42_code 74 = .ok (.iload_n 3, 1) := by decide +kernel
theorem d_Mo_split_75 : decode prog_9_method_42_code 75 = .ok (.iaload, 1) := by decide +kernel
theorem d_Mo_split_76 : decode prog_9_method_42_code 76 = .ok (.iload_n 2, 1) := by decide +kernel
theorem d_Mo_split_77 : decode prog_9_method_42_code 77 = .ok (.if_icmp .lt 13, 3) := by decide +kernel
theorem d_Mo_split_80 : decode prog_9_method_42_code 80 = .ok (.aload_n 0, 1) := by decide +kernel
theorem d_Mo_split_81 : decode prog_9_method_42_code 81 = .ok (.getfield 28, 3) := by decide +kernel
theorem d_Mo_split_84 : decode prog_9_method_42_code 84 = .ok (.iload_n 3, 1) := by decide +kernel
theorem d_Mo_split_85 : decode prog_9_method_42_code 85 = .ok (.dup2, 1) := by decide +kernel
theorem d_Mo_split_86 : decode prog_9_method_42_code 86 = .ok (.iaload, 1) := by decide +kernel
theorem d_Mo_split_87 : decode prog_9_method_42_code 87 = .ok (.iconst 1, 1) := by decide +kernel
theorem d_Mo_split_88 : decode prog_9_method_42_code 88 = .ok (.iadd, 1) := by decide +kernel
theorem d_Mo_split_89 : decode prog_9_method_42_code 89 = .ok (.iastore, 1) := by decide +kernel
theorem d_Mo_split_90 : decode prog_9_method_42_code 90 = .ok (.iinc 3 1, 3) := by decide +kernel
theorem d_Mo_split_93 : decode prog_9_method_42_code 93 = .ok (.goto (-51), 3) := by decide +kernel
theorem d_Mo_split_96 : decode prog_9_method_42_code 96 = .ok (.aload_n 0, 1) := by decide +kernel
theorem d_Mo_split_97 : decode prog_9_method_42_code 97 = .ok (.getfield 34, 3) := by decide +kernel
theorem d_Mo_split_100 : decode prog_9_method_42_code 100 = .ok (.istore_n 3, 1) := by decide +kernel
theorem d_Mo_split_101 : decode prog_9_method_42_code 101 = .ok (.iload_n 3, 1) := by decide +kernel
theorem d_Mo_split_102 : decode prog_9_method_42_code 102 = .ok (.iload_n 1, 1) := by decide +kernel
theorem d_Mo_split_103 : decode prog_9_method_42_code 103 = .ok (.iconst 1, 1) := by decide +kernel
theorem d_Mo_split_104 : decode prog_9_method_42_code 104 = .ok (.iadd, 1) := by decide +kernel
theorem d_Mo_split_105 : decode prog_9_method_42_code 105 = .ok (.if_icmp .le 37, 3) := by decide +kernel
theorem d_Mo_split_108 : decode prog_9_method_42_code 108 = .ok (.aload_n 0, 1) := by decide +kernel
theorem d_Mo_split_109 : decode prog_9_method_42_code 109 = .ok (.getfield 38, 3) := by decide +kernel
theorem d_Mo_split_112 : decode prog_9_method_42_code 112 = .ok (.iload_n 3, 1) := by decide +kernel
theorem d_Mo_split_113 : decode prog_9_method_42_code 113 = .ok (.aload_n 0, 1) := by decide +kernel
theorem d_Mo_split_114 : decode prog_9_method_42_code 114 = .ok (.getfield 38, 3) := by decide +kernel
theorem d_Mo_split_117 : decode prog_9_method_42_code 117 = .ok (.iload_n 3, 1) := by decide +kernel
theorem d_Mo_split_118 : decode prog_9_method_42_code 118 = .ok (.iconst 1, 1) := by decide +kernel
theorem d_Mo_split_119 : decode prog_9_method_42_code 119 = .ok (.isub, 1) := by decide +kernel
theorem d_Mo_split_120 : decode prog_9_method_42_code 120 = .ok (.iaload, 1) := by decide +kernel
theorem d_Mo_split_121 : decode prog_9_method_42_code 121 = .ok (.iastore, 1) := by decide +kernel
theorem d_Mo_split_122 : decode prog_9_method_42_code 122 = .ok (.aload_n 0, 1) := by decide +kernel
theorem d_Mo_split_123 : decode prog_9_method_42_code 123 = .ok (.getfield 41, 3) := by decide +kernel
theorem d_Mo_split_126 : decode prog_9_method_42_code 126 = .ok (.iload_n 3, 1) := by decide +kernel
theorem d_Mo_split_127 : decode prog_9_method_42_code 127 = .ok (.aload_n 0, 1) := by decide +kernel
theorem d_Mo_split_128 : decode prog_9_method_42_code 128 = .ok (.getfield 41, 3) := by decide +kernel
theorem d_Mo_split_131 : decode prog_9_method_42_code 131 = .ok (.iload_n 3, 1) := by decide +kernel
theorem d_Mo_split_132 : decode prog_9_method_42_code 132 = .ok (.iconst 1, 1) := by decide +kernel
theorem d_Mo_split_133 : decode prog_9_method_42_code 133 = .ok (.isub, 1) := by decide +kernel
theorem d_Mo_split_134 : decode prog_9_method_42_code 134 = .ok (.iaload, 1) := by decide +kernel
theorem d_Mo_split_135 : decode prog_9_method_42_code 135 = .ok (.iastore, 1) := by decide +kernel
theorem d_Mo_split_136 : decode prog_9_method_42_code 136 = .ok (.iinc 3 (-1), 3) := by decide +kernel
theorem d_Mo_split_139 : decode prog_9_method_42_code 139 = .ok (.goto (-38), 3) := by decide +kernel
theorem d_Mo_split_142 : decode prog_9_method_42_code 142 = .ok (.aload_n 0, 1) := by decide +kernel
theorem d_Mo_split_143 : decode prog_9_method_42_code 143 = .ok (.getfield 38, 3) := by decide +kernel
theorem d_Mo_split_146 : decode prog_9_method_42_code 146 = .ok (.iload_n 1, 1) := by decide +kernel
theorem d_Mo_split_147 : decode prog_9_method_42_code 147 = .ok (.iconst 1, 1) := by decide +kernel
theorem d_Mo_split_148 : decode prog_9_method_42_code 148 = .ok (.iadd, 1) := by decide +kernel
theorem d_Mo_split_149 : decode prog_9_method_42_code 149 = .ok (.iload_n 2, 1) := by decide +kernel
theorem d_Mo_split_150 : decode prog_9_method_42_code 150 = .ok (.iastore, 1) := by decide +kernel
theorem d_Mo_split_151 : decode prog_9_method_42_code 151 = .ok (.aload_n 0, 1) := by decide +kernel
theorem d_Mo_split_152 : decode prog_9_method_42_code 152 = .ok (.getfield 41, 3) := by decide +kernel
theorem d_Mo_split_155 : decode prog_9_method_42_code 155 = .ok (.iload_n 1, 1) := by decide +kernel
theorem d_Mo_split_156 : decode prog_9_method_42_code 156 = .ok (.iconst 1, 1) := by decide +kernel
theorem d_Mo_split_157 : decode prog_9_method_42_code 157 = .ok (.iadd, 1) := by decide +kernel
theorem d_Mo_split_158 : decode prog_9_method_42_code 158 = .ok (.aload_n 0, 1) := by decide +kernel
theorem d_Mo_split_159 : decode prog_9_method_42_code 159 = .ok (.getfield 41, 3) := by decide +kernel
theorem d_Mo_split_162 : decode prog_9_method_42_code 162 = .ok (.iload_n 1, 1) := by decide +kernel
theorem d_Mo_split_163 : decode prog_9_method_42_code 163 = .ok (.iaload, 1) := by decide +kernel
theorem d_Mo_split_164 : decode prog_9_method_42_code 164 = .ok (.iastore, 1) := by decide +kernel
theorem d_Mo_split_165 : decode prog_9_method_42_code 165 = .ok (.aload_n 0, 1) := by decide +kernel
theorem d_Mo_split_166 : decode prog_9_method_42_code 166 = .ok (.dup, 1) := by decide +kernel
theorem d_Mo_split_167 : decode prog_9_method_42_code 167 = .ok (.getfield 34, 3) := by decide +kernel
theorem d_Mo_split_170 : decode prog_9_method_42_code 170 = .ok (.iconst 1, 1) := by decide +kernel
theorem d_Mo_split_171 : decode prog_9_method_42_code 171 = .ok (.iadd, 1) := by decide +kernel
theorem d_Mo_split_172 : decode prog_9_method_42_code 172 = .ok (.putfield 34, 3) := by decide +kernel
theorem d_Mo_split_175 : decode prog_9_method_42_code 175 = .ok (.aload_n 0, 1) := by decide +kernel
theorem d_Mo_split_176 : decode prog_9_method_42_code 176 = .ok (.iload_n 1, 1) := by decide +kernel
theorem d_Mo_split_177 : decode prog_9_method_42_code 177 = .ok (.invokevirtual 206, 3) := by decide +kernel
theorem d_Mo_split_180 : decode prog_9_method_42_code 180 = .ok (.aload_n 0, 1) := by decide +kernel
theorem d_Mo_split_181 : decode prog_9_method_42_code 181 = .ok (.iload_n 1, 1) := by decide +kernel
theorem d_Mo_split_182 : decode prog_9_method_42_code 182 = .ok (.iconst 1, 1) := by decide +kernel
theorem d_Mo_split_183 : decode prog_9_method_42_code 183 = .ok (.iadd, 1) := by decide +kernel
theorem d_Mo_split_184 : decode prog_9_method_42_code 184 = .ok (.invokevirtual 206, 3) := by decide +kernel
theorem d_Mo_split_187 : decode prog_9_method_42_code 187 = .ok (.iconst 1, 1) := by decide +kernel
theorem d_Mo_split_188 : decode prog_9_method_42_code 188 = .ok (.ireturn, 1) := by decide +kernel
theorem d_Mo_join_0 : decode prog_9_method_43_code 0 = .ok (.aload_n 0, 1) := by decide +kernel
theorem d_Mo_join_1 : decode prog_9_method_43_code 1 = .ok (.iload_n 1, 1) := by decide +kernel
theorem d_Mo_join_2 : decode prog_9_method_43_code 2 = .ok (.invokevirtual 189, 3) := by decide +kernel
theorem d_Mo_join_5 : decode prog_9_method_43_code 5 = .ok (.ifCond .eq 13, 3) := by decide +kernel
theorem d_Mo_join_8 : decode prog_9_method_43_code 8 = .ok (.aload_n 0, 1) := by decide +kernel
theorem d_Mo_join_9 : decode prog_9_method_43_code 9 = .ok (.iload_n 1, 1) := by decide +kernel
theorem d_Mo_join_10 : decode prog_9_method_43_code 10 = .ok (.iconst 1, 1) := by decide +kernel
theorem d_Mo_join_11 : decode prog_9_method_43_code 11 = .ok (.iadd, 1) := by decide +kernel
theorem d_Mo_join_12 : decode prog_9_method_43_code 12 = .ok (.invokevirtual 189, 3) := by decide +kernel
theorem d_Mo_join_15 : decode prog_9_method_43_code 15 = .ok (.ifCond .ne 5, 3) := by decide +kernel
theorem d_Mo_join_18 : decode prog_9_method_43_code 18 = .ok (.iconst 0, 1) := by decide +kernel
theorem d_Mo_join_19 : decode prog_9_method_43_code 19 = .ok (.ireturn, 1) := by decide +kernel
theorem d_Mo_join_20 : decode prog_9_method_43_code 20 = .ok (.iconst 0, 1) := by decide +kernel
theorem d_Mo_join_21 : decode prog_9_method_43_code 21 = .ok (.istore_n 2, 1) := by decide +kernel
theorem d_Mo_join_22 : decode prog_9_method_43_code 22 = .ok (.iload_n 2, 1) := by decide +kernel
theorem d_Mo_join_23 : decode prog_9_method_43_code 23 = .ok (.aload_n 0, 1) := by decide +kernel
theorem d_Mo_join_24 : decode prog_9_method_43_code 24 = .ok (.getfield 79, 3) := by decide +kernel
theorem d_Mo_join_27 : decode prog_9_method_43_code 27 = .ok (.if_icmp .ge 65, 3) := by decide +kernel
theorem d_Mo_join_30 : decode prog_9_method_43_code 30 = .ok (.aload_n 0, 1) := by decide +kernel
theorem d_Mo_join_31 : decode prog_9_method_43_code 31 = .ok (.getfield 28, 3) := by decide +kernel
theorem d_Mo_join_34 : decode prog_9_method_43_code 34 = .ok (.iload_n 2, 1) := by decide +kernel
theorem d_Mo_join_35 : decode prog_9_method_43_code 35 = .ok (.iaload, 1) := by decide +kernel
theorem d_Mo_join_36 : decode prog_9_method_43_code 36 = .ok (.iload_n 1, 1) := by decide +kernel
theorem d_Mo_join_37 : decode prog_9_method_43_code 37 = .ok (.iconst 1, 1) := by decide +kernel
theorem d_Mo_join_38 : decode prog_9_method_43_code 38 = .ok (.iadd, 1) := by decide +kernel
theorem d_Mo_join_39 : decode prog_9_method_43_code 39 = .ok (.if_icmp .ne 27, 3) := by decide +kernel
theorem d_Mo_join_42 : decode prog_9_method_43_code 42 = .ok (.aload_n 0, 1) := by decide +kernel
theorem d_Mo_join_43 : decode prog_9_method_43_code 43 = .ok (.getfield 31, 3) := by decide +kernel
theorem d_Mo_join_46 : decode prog_9_method_43_code 46 = .ok (.iload_n 2, 1) := by decide +kernel
theorem d_Mo_join_47 : decode prog_9_method_43_code 47 = .ok (.iaload, 1) := by decide +kernel
theorem d_Mo_join_48 : decode prog_9_method_43_code 48 = .ok (.ifCond .lt 18, 3) := by decide +kernel
theorem d_Mo_join_51 : decode prog_9_method_43_code 51 = .ok (.aload_n 0, 1) := by decide +kernel
theorem d_Mo_join_52 : decode prog_9_method_43_code 52 = .ok (.getfield 31, 3) := by decide +kernel
theorem d_Mo_join_55 : decode prog_9_method_43_code 55 = .ok (.iload_n 2, 1) := by decide +kernel
theorem d_Mo_join_56 : decode prog_9_method_43_code 56 = .ok (.dup2, 1) := by decide +kernel
theorem d_Mo_join_57 : decode prog_9_method_43_code 57 = .ok (.iaload, 1) := by decide +kernel
theorem d_Mo_join_58 : decode prog_9_method_43_code 58 = .ok (.aload_n 0, 1) := by decide +kernel
theorem d_Mo_join_59 : decode prog_9_method_43_code 59 = .ok (.getfield 41, 3) := by decide +kernel
theorem d_Mo_join_62 : decode prog_9_method_43_code 62 = .ok (.iload_n 1, 1) := by decide +kernel
theorem d_Mo_join_63 : decode prog_9_method_43_code 63 = .ok (.iaload, 1) := by decide +kernel
theorem d_Mo_join_64 : decode prog_9_method_43_code 64 = .ok (.iadd, 1) := by decide +kernel
theorem d_Mo_join_65 : decode prog_9_method_43_code 65 = .ok (.iastore, 1) := by decide +kernel
theorem d_Mo_join_66 : decode prog_9_method_43_code 66 = .ok (.aload_n 0, 1) := by decide +kernel
theorem d_Mo_join_67 : decode prog_9_method_43_code 67 = .ok (.getfield 28, 3) := by decide +kernel
theorem d_Mo_join_70 : decode prog_9_method_43_code 70 = .ok (.iload_n 2, 1) := by decide +kernel
theorem d_Mo_join_71 : decode prog_9_method_43_code 71 = .ok (.iaload, 1) := by decide +kernel
theorem d_Mo_join_72 : decode prog_9_method_43_code 72 = .ok (.iload_n 1, 1) := by decide +kernel
theorem d_Mo_join_73 : decode prog_9_method_43_code 73 = .ok (.if_icmp .le 13, 3) := by decide +kernel
theorem d_Mo_join_76 : decode prog_9_method_43_code 76 = .ok (.aload_n 0, 1) := by decide +kernel
theorem d_Mo_join_77 : decode prog_9_method_43_code 77 = .ok (.getfield 28, 3) := by decide +kernel
theorem d_Mo_join_80 : decode prog_9_method_43_code 80 = .ok (.iload_n 2, 1) := by decide +kernel
theorem d_Mo_join_81 : decode prog_9_method_43_code 81 = .ok (.dup2, 1) := by decide +kernel
theorem d_Mo_join_82 : decode prog_9_method_43_code 82 = .ok (.iaload, 1) := by decide +kernel
theorem d_Mo_join_83 : decode prog_9_method_43_code 83 = .ok (.iconst 1, 1) := by decide +kernel
theorem d_Mo_join_84 : decode prog_9_method_43_code 84 = .ok (.isub, 1) := by decide +kernel
theorem d_Mo_join_85 : decode prog_9_method_43_code 85 = .ok (.iastore, 1) := by decide +kernel
theorem d_Mo_join_86 : decode prog_9_method_43_code 86 = .ok (.iinc 2 1, 3) := by decide +kernel
theorem d_Mo_join_89 : decode prog_9_method_43_code 89 = .ok (.goto (-67), 3) := by decide +kernel
theorem d_Mo_join_92 : decode prog_9_method_43_code 92 = .ok (.aload_n 0, 1) := by decide +kernel
theorem d_Mo_join_93 : decode prog_9_method_43_code 93 = .ok (.getfield 41, 3) := by decide +kernel
theorem d_Mo_join_96 : decode prog_9_method_43_code 96 = .ok (.iload_n 1, 1) := by decide +kernel
theorem d_Mo_join_97 : decode prog_9_method_43_code 97 = .ok (.dup2, 1) := by decide +kernel
theorem d_Mo_join_98 : decode prog_9_method_43_code 98 = .ok (.iaload, 1) := by decide +kernel
theorem d_Mo_join_99 : decode prog_9_method_43_code 99 = .ok (.aload_n 0, 1) := by decide +kernel
theorem d_Mo_join_100 : decode prog_9_method_43_code 100 = .ok (.getfield 41, 3) := by decide +kernel
theorem d_Mo_join_103 : decode prog_9_method_43_code 103 = .ok (.iload_n 1, 1) := by decide +kernel
theorem d_Mo_join_104 : decode prog_9_method_43_code 104 = .ok (.iconst 1, 1) := by decide +kernel
theorem d_Mo_join_105 : decode prog_9_method_43_code 105 = .ok (.iadd, 1) := by decide +kernel
theorem d_Mo_join_106 : decode prog_9_method_43_code 106 = .ok (.iaload, 1) := by decide +kernel
theorem d_Mo_join_107 : decode prog_9_method_43_code 107 = .ok (.iadd, 1) := by decide +kernel
theorem d_Mo_join_108 : decode prog_9_method_43_code 108 = .ok (.iastore, 1) := by decide +kernel
theorem d_Mo_join_109 : decode prog_9_method_43_code 109 = .ok (.aload_n 0, 1) := by decide +kernel
theorem d_Mo_join_110 : decode prog_9_method_43_code 110 = .ok (.dup, 1) := by decide +kernel
theorem d_Mo_join_111 : decode prog_9_method_43_code 111 = .ok (.getfield 34, 3) := by decide +kernel
theorem d_Mo_join_114 : decode prog_9_method_43_code 114 = .ok (.iconst 1, 1) := by decide +kernel
theorem d_Mo_join_115 : decode prog_9_method_43_code 115 = .ok (.isub, 1) := by decide +kernel
theorem d_Mo_join_116 : decode prog_9_method_43_code 116 = .ok (.putfield 34, 3) := by decide +kernel
theorem d_Mo_join_119 : decode prog_9_method_43_code 119 = .ok (.iload_n 1, 1) := by decide +kernel
theorem d_Mo_join_120 : decode prog_9_method_43_code 120 = .ok (.iconst 1, 1) := by decide +kernel
theorem d_Mo_join_121 : decode prog_9_method_43_code 121 = .ok (.iadd, 1) := by decide +kernel
theorem d_Mo_join_122 : decode prog_9_method_43_code 122 = .ok (.istore_n 2, 1) := by decide +kernel
theorem d_Mo_join_123 : decode prog_9_method_43_code 123 = .ok (.iload_n 2, 1) := by decide +kernel
theorem d_Mo_join_124 : decode prog_9_method_43_code 124 = .ok (.aload_n 0, 1) := by decide +kernel
theorem d_Mo_join_125 : decode prog_9_method_43_code 125 = .ok (.getfield 34, 3) := by decide +kernel
theorem d_Mo_join_128 : decode prog_9_method_43_code 128 = .ok (.if_icmp .ge 37, 3) := by decide +kernel
theorem d_Mo_join_131 : decode prog_9_method_43_code 131 = .ok (.aload_n 0, 1) := by decide +kernel
theorem d_Mo_join_132 : decode prog_9_method_43_code 132 = .ok (.getfield 38, 3) := by decide +kernel
theorem d_Mo_join_135 : decode prog_9_method_43_code 135 = .ok (.iload_n 2, 1) := by decide +kernel
theorem d_Mo_join_136 : decode prog_9_method_43_code 136 = .ok (.aload_n 0, 1) := by decide +kernel
theorem d_Mo_join_137 : decode prog_9_method_43_code 137 = .ok (.getfield 38, 3) := by decide +kernel
theorem d_Mo_join_140 : decode prog_9_method_43_code 140 = .ok (.iload_n 2, 1) := by decide +kernel
theorem d_Mo_join_141 : decode prog_9_method_43_code 141 = .ok (.iconst 1, 1) := by decide +kernel
theorem d_Mo_join_142 : decode prog_9_method_43_code 142 = .ok (.iadd, 1) := by decide +kernel
theorem d_Mo_join_143 : decode prog_9_method_43_code 143 = .ok (.iaload, 1) := by decide +kernel
theorem d_Mo_join_144 : decode prog_9_method_43_code 144 = .ok (.iastore, 1) := by decide +kernel
theorem d_Mo_join_145 : decode prog_9_method_43_code 145 = .ok (.aload_n 0, 1) := by decide +kernel
theorem d_Mo_join_146 : decode prog_9_method_43_code 146 = .ok (.getfield 41, 3) := by decide +kernel
theorem d_Mo_join_149 : decode prog_9_method_43_code 149 = .ok (.iload_n 2, 1) := by decide +kernel
theorem d_Mo_join_150 : decode prog_9_method_43_code 150 = .ok (.aload_n 0, 1) := by decide +kernel
theorem d_Mo_join_151 : decode prog_9_method_43_code 151 = .ok (.getfield 41, 3) := by decide +kernel
theorem d_Mo_join_154 : decode prog_9_method_43_code 154 = .ok (.iload_n 2, 1) := by decide +kernel
theorem d_Mo_join_155 : decode prog_9_method_43_code 155 = .ok (.iconst 1, 1) := by decide +kernel
theorem d_Mo_join_156 : decode prog_9_method_43_code 156 = .ok (.iadd, 1) := by decide +kernel
theorem d_Mo_join_157 : decode prog_9_method_43_code 157 = .ok (.iaload, 1) := by decide +kernel
theorem d_Mo_join_158 : decode prog_9_method_43_code 158 = .ok (.iastore, 1) := by decide +kernel
theorem d_Mo_join_159 : decode prog_9_method_43_code 159 = .ok (.iinc 2 1, 3) := by decide +kernel
theorem d_Mo_join_162 : decode prog_9_method_43_code 162 = .ok (.goto (-39), 3) := by decide +kernel
theorem d_Mo_join_165 : decode prog_9_method_43_code 165 = .ok (.iconst 1, 1) := by decide +kernel
theorem d_Mo_join_166 : decode prog_9_method_43_code 166 = .ok (.ireturn, 1) := by decide +kernel
theorem d_Mo_tablet_0 : decode prog_9_method_44_code 0 = .ok (.aload_n 0, 1) := by decide +kernel
theorem d_Mo_tablet_1 : decode prog_9_method_44_code 1 = .ok (.iload_n 1, 1) := by decide +kernel
theorem d_Mo_tablet_2 : decode prog_9_method_44_code 2 = .ok (.invokevirtual 189, 3) := by decide +kernel
theorem d_Mo_tablet_5 : decode prog_9_method_44_code 5 = .ok (.ifCond .eq 12, 3) := by decide +kernel
theorem d_Mo_tablet_8 : decode prog_9_method_44_code 8 = .ok (.iload_n 2, 1) := by decide +kernel
theorem d_Mo_tablet_9 : decode prog_9_method_44_code 9 = .ok (.ifCond .lt 8, 3) := by decide +kernel
theorem d_Mo_tablet_12 : decode prog_9_method_44_code 12 = .ok (.iload_n 2, 1) := by decide +kernel
theorem d_Mo_tablet_13 : decode prog_9_method_44_code 13 = .ok (.iconst 3, 1) := by decide +kernel
theorem d_Mo_tablet_14 : decode prog_9_method_44_code 14 = .ok (.if_icmp .le 5, 3) := by decide +kernel
theorem d_Mo_tablet_17 : decode prog_9_method_44_code 17 = .ok (.iconst (-1), 1) := by decide +kernel
theorem d_Mo_tablet_18 : decode prog_9_method_44_code 18 = .ok (.ireturn, 1) := by decide +kernel
theorem d_Mo_tablet_19 : decode prog_9_method_44_code 19 = .ok (.iload_n 2, 1) := by decide +kernel
theorem d_Mo_tablet_20 : decode prog_9_method_44_code 20 = .ok (.ifCond .ne 12, 3) := by decide +kernel
theorem d_Mo_tablet_23 : decode prog_9_method_44_code 23 = .ok (.aload_n 0, 1) := by decide +kernel
theorem d_Mo_tablet_24 : decode prog_9_method_44_code 24 = .ok (.getfield 38, 3) := by decide +kernel
theorem d_Mo_tablet_27 : decode prog_9_method_44_code 27 = .ok (.iload_n 1, 1) := by decide +kernel
theorem d_Mo_tablet_28 : decode prog_9_method_44_code 28 = .ok (.iaload, 1) := by decide +kernel
theorem d_Mo_tablet_29 : decode prog_9_method_44_code 29 = .ok (.goto 36, 3) := by decide +kernel
theorem d_Mo_tablet_32 : decode prog_9_method_44_code 32 = .ok (.iload_n 2, 1) := by decide +kernel
theorem d_Mo_tablet_33 : decode prog_9_method_44_code 33 = .ok (.iconst 1, 1) := by decide +kernel
theorem d_Mo_tablet_34 : decode prog_9_method_44_code 34 = .ok (.if_icmp .ne 11, 3) := by decide +kernel
theorem d_Mo_tablet_37 : decode prog_9_method_44_code 37 = .ok (.aload_n 0, 1) := by decide +kernel
theorem d_Mo_tablet_38 : decode prog_9_method_44_code 38 = .ok (.iload_n 1, 1) := by decide +kernel
theorem d_Mo_tablet_39 : decode prog_9_method_44_code 39 = .ok (.invokevirtual 203, 3) := by decide +kernel
theorem d_Mo_tablet_42 : decode prog_9_method_44_code 42 = .ok (.goto 23, 3) := by decide +kernel
theorem d_Mo_tablet_45 : decode prog_9_method_44_code 45 = .ok (.iload_n 2, 1) := by decide +kernel
theorem d_Mo_tablet_46 : decode prog_9_method_44_code 46 = .ok (.iconst 2, 1) := by decide +kernel
theorem d_Mo_tablet_47 : decode prog_9_method_44_code 47 = .ok (.if_icmp .ne 12, 3) := by decide +kernel
theorem d_Mo_tablet_50 : decode prog_9_method_44_code 50 = .ok (.aload_n 0, 1) := by decide +kernel
theorem d_Mo_tablet_51 : decode prog_9_method_44_code 51 = .ok (.getfield 41, 3) := by decide +kernel
theorem d_Mo_tablet_54 : decode prog_9_method_44_code 54 = .ok (.iload_n 1, 1) := by decide +kernel
theorem d_Mo_tablet_55 : decode prog_9_method_44_code 55 = .ok (.iaload, 1) := by decide +kernel
theorem d_Mo_tablet_56 : decode prog_9_method_44_code 56 = .ok (.goto 9, 3) := by decide +kernel
theorem d_Mo_tablet_59 : decode prog_9_method_44_code 59 = .ok (.aload_n 0, 1) := by decide +kernel
theorem d_Mo_tablet_60 : decode prog_9_method_44_code 60 = .ok (.iload_n 1, 1) := by decide +kernel
theorem d_Mo_tablet_61 : decode prog_9_method_44_code 61 = .ok (.iconst (-1), 1) := by decide +kernel
theorem d_Mo_tablet_62 : decode prog_9_method_44_code 62 = .ok (.invokevirtual 155, 3) := by decide +kernel
theorem d_Mo_tablet_65 : decode prog_9_method_44_code 65 = .ok (.ireturn, 1) := by decide +kernel
theorem d_Mo_table_0 : decode prog_9_method_45_code 0 = .ok (.aload_n 0, 1) := by decide +kernel
theorem d_Mo_table_1 : decode prog_9_method_45_code 1 = .ok (.iload_n 1, 1) := by decide +kernel
theorem d_Mo_table_2 : decode prog_9_method_45_code 2 = .ok (.invokevirtual 189, 3) := by decide +kernel
theorem d_Mo_table_5 : decode prog_9_method_45_code 5 = .ok (.ifCond .eq 26, 3) := by decide +kernel
theorem d_Mo_table_8 : decode prog_9_method_45_code 8 = .ok (.iload_n 2, 1) := by decide +kernel
theorem d_Mo_table_9 : decode prog_9_method_45_code 9 = .ok (.ifCond .lt 22, 3) := by decide +kernel
theorem d_Mo_table_12 : decode prog_9_method_45_code 12 = .ok (.iload_n 2, 1) := by decide +kernel
theorem d_Mo_table_13 : decode prog_9_method_45_code 13 = .ok (.aload_n 0, 1) := by decide +kernel
theorem d_Mo_table_14 : decode prog_9_method_45_code 14 = .ok (.getfield 41, 3) := by decide +kernel
theorem d_Mo_table_17 : decode prog_9_method_45_code 17 = .ok (.iload_n 1, 1) := by decide +kernel
theorem d_Mo_table_18 : decode prog_9_method_45_code 18 = .ok (.iaload, 1) := by decide +kernel
theorem d_Mo_table_19 : decode prog_9_method_45_code 19 = .ok (.if_icmp .ge 12, 3) := by decide +kernel
theorem d_Mo_table_22 : decode prog_9_method_45_code 22 = .ok (.iload_n 3, 1) := by decide +kernel
theorem d_Mo_table_23 : decode prog_9_method_45_code 23 = .ok (.ifCond .lt 8, 3) := by decide +kernel
theorem d_Mo_table_26 : decode prog_9_method_45_code 26 = .ok (.iload_n 3, 1) := by decide +kernel
theorem d_Mo_table_27 : decode prog_9_method_45_code 27 = .ok (.iconst 3, 1) := by decide +kernel
theorem d_Mo_table_28 : decode prog_9_method_45_code 28 = .ok (.if_icmp .le 5, 3) := by decide +kernel
theorem d_Mo_table_31 : decode prog_9_method_45_code 31 = .ok (.iconst (-1), 1) := by decide +kernel
theorem d_Mo_table_32 : decode prog_9_method_45_code 32 = .ok (.ireturn, 1) := by decide +kernel
theorem d_Mo_table_33 : decode prog_9_method_45_code 33 = .ok (.iconst 0, 1) := by decide +kernel
theorem d_Mo_table_34 : decode prog_9_method_45_code 34 = .ok (.istore 4, 2) := by decide +kernel
theorem d_Mo_table_36 : decode prog_9_method_45_code 36 = .ok (.bipush 64, 2) := by decide +kernel
theorem d_Mo_table_38 : decode prog_9_method_45_code 38 = .ok (.istore 5, 2) := by decide +kernel
theorem d_Mo_table_40 : decode prog_9_method_45_code 40 = .ok (.iconst 0, 1) := by decide +kernel
theorem d_Mo_table_41 : decode prog_9_method_45_code 41 = .ok (.istore 6, 2) := by decide +kernel
theorem d_Mo_table_43 : decode prog_9_method_45_code 43 = .ok (.iload 6, 2) := by decide +kernel
theorem d_Mo_table_45 : decode prog_9_method_45_code 45 = .ok (.aload_n 0, 1) := by decide +kernel
theorem d_Mo_table_46 : decode prog_9_method_45_code 46 = .ok (.getfield 79, 3) := by decide +kernel
theorem d_Mo_table_49 : decode prog_9_method_45_code 49 = .ok (.if_icmp .ge 77, 3) := by decide +kernel
theorem d_Mo_table_52 : decode prog_9_method_45_code 52 = .ok (.aload_n 0, 1) := by decide +kernel
theorem d_Mo_table_53 : decode prog_9_method_45_code 53 = .ok (.getfield 28, 3) := by decide +kernel
theorem d_Mo_table_56 : decode prog_9_method_45_code 56 = .ok (.iload 6, 2) := by decide +kernel
theorem d_Mo_table_58 : decode prog_9_method_45_code 58 = .ok (.iaload, 1) := by decide +kernel
theorem d_Mo_table_59 : decode prog_9_method_45_code 59 = .ok (.iload_n 1, 1) := by decide +kernel
theorem d_Mo_table_60 : decode prog_9_method_45_code 60 = .ok (.if_icmp .ne 60, 3) := by decide +kernel
theorem d_Mo_table_63 : decode prog_9_method_45_code 63 = .ok (.aload_n 0, 1) := by decide +kernel
theorem d_Mo_table_64 : decode prog_9_method_45_code 64 = .ok (.getfield 31, 3) := by decide +kernel
theorem d_Mo_table_67 : decode prog_9_method_45_code 67 = .ok (.iload 6, 2) := by decide +kernel
theorem d_Mo_table_69 : decode prog_9_method_45_code 69 = .ok (.iaload, 1) := by decide +kernel
theorem d_Mo_table_70 : decode prog_9_method_45_code 70 = .ok (.iload_n 2, 1) := by decide +kernel
theorem d_Mo_table_71 : decode prog_9_method_45_code 71 = .ok (.if_icmp .ne 49, 3) := by decide +kernel
theorem d_Mo_table_74 : decode prog_9_method_45_code 74 = .ok (.iload 4, 2) := by decide +kernel
theorem d_Mo_table_76 : decode prog_9_method_45_code 76 = .ok (.aload_n 0, 1) := by decide +kernel
theorem d_Mo_table_77 : decode prog_9_method_45_code 77 = .ok (.getfield 7, 3) := by decide +kernel
theorem d_Mo_table_80 : decode prog_9_method_45_code 80 = .ok (.iload 6, 2) := by decide +kernel
theorem d_Mo_table_82 : decode prog_9_method_45_code 82 = .ok (.iaload, 1) := by decide +kernel
theorem d_Mo_table_83 : decode prog_9_method_45_code 83 = .ok (.ifCond .ne 7, 3) := by decide +kernel
theorem d_Mo_table_86 : decode prog_9_method_45_code 86 = .ok (.iconst 0, 1) := by decide +kernel
theorem d_Mo_table_87 : decode prog_9_method_45_code 87 = .ok (.goto 4, 3) := by decide +kernel
theorem d_Mo_table_90 : decode prog_9_method_45_code 90 = .ok (.iconst 1, 1) := by decide +kernel
theorem d_Mo_table_91 : decode prog_9_method_45_code 91 = .ok (.iadd, 1) := by decide +kernel
theorem d_Mo_table_92 : decode prog_9_method_45_code 92 = .ok (.istore 4, 2) := by decide +kernel
theorem d_Mo_table_94 : decode prog_9_method_45_code 94 = .ok (.aload_n 0, 1) := by decide +kernel
theorem d_Mo_table_95 : decode prog_9_method_45_code 95 = .ok (.getfield 13, 3) := by decide +kernel
theorem d_Mo_table_98 : decode prog_9_method_45_code 98 = .ok (.iload 6, 2) := by decide +kernel
theorem d_Mo_table_100 : decode prog_9_method_45_code 100 = .ok (.iaload, 1) := by decide +kernel
theorem d_Mo_table_101 : decode prog_9_method_45_code 101 = .ok (.iload 5, 2) := by decide +kernel
theorem d_Mo_table_103 : decode prog_9_method_45_code 103 = .ok (.if_icmp .ge 13, 3) := by decide +kernel
theorem d_Mo_table_106 : decode prog_9_method_45_code 106 = .ok (.aload_n 0, 1) := by decide +kernel
theorem d_Mo_table_107 : decode prog_9_method_45_code 107 = .ok (.getfield 13, 3) := by decide +kernel
theorem d_Mo_table_110 : decode prog_9_method_45_code 110 = .ok (.iload 6, 2) := by decide +kernel
theorem d_Mo_table_112 : decode prog_9_method_45_code 112 = .ok (.iaload, 1) := by decide +kernel
theorem d_Mo_table_113 : decode prog_9_method_45_code 113 = .ok (.goto 5, 3) := by decide +kernel
theorem d_Mo_table_116 : decode prog_9_method_45_code 116 = .ok (.iload 5, 2) := by decide +kernel
theorem d_Mo_table_118 : decode prog_9_method_45_code 118 = .ok (.istore 5, 2) := by decide +kernel
theorem d_Mo_table_120 : decode prog_9_method_45_code 120 = .ok (.iinc 6 1, 3) := by decide +kernel
theorem d_Mo_table_123 : decode prog_9_method_45_code 123 = .ok (.goto (-80), 3) := by decide +kernel
theorem d_Mo_table_126 : decode prog_9_method_45_code 126 = .ok (.aload_n 0, 1) := by decide +kernel
theorem d_Mo_table_127 : decode prog_9_method_45_code 127 = .ok (.iload_n 1, 1) := by decide +kernel
theorem d_Mo_table_128 : decode prog_9_method_45_code 128 = .ok (.iload_n 2, 1) := by decide +kernel
theorem d_Mo_table_129 : decode prog_9_method_45_code 129 = .ok (.invokevirtual 155, 3) := by decide +kernel
theorem d_Mo_table_132 : decode prog_9_method_45_code 132 = .ok (.istore 6, 2) := by decide +kernel
theorem d_Mo_table_134 : decode prog_9_method_45_code 134 = .ok (.iload_n 3, 1) := by decide +kernel
theorem d_Mo_table_135 : decode prog_9_method_45_code 135 = .ok (.ifCond .ne 8, 3) := by decide +kernel
theorem d_Mo_table_138 : decode prog_9_method_45_code 138 = .ok (.iload 6, 2) := by decide +kernel
theorem d_Mo_table_140 : decode prog_9_method_45_code 140 = .ok (.goto 29, 3) := by decide +kernel
theorem d_Mo_table_143 : decode prog_9_method_45_code 143 = .ok (.iload_n 3, 1) := by decide +kernel
theorem d_Mo_table_144 : decode prog_9_method_45_code 144 = .ok (.iconst 1, 1) := by decide +kernel
theorem d_Mo_table_145 : decode prog_9_method_45_code 145 = .ok (.if_icmp .ne 8, 3) := by decide +kernel
theorem d_Mo_table_148 : decode prog_9_method_45_code 148 = .ok (.iload 4, 2) := by decide +kernel
theorem d_Mo_table_150 : decode prog_9_method_45_code 150 = .ok (.goto 19, 3) := by decide +kernel
theorem d_Mo_table_153 : decode prog_9_method_45_code 153 = .ok (.iload_n 3, 1) := by decide +kernel
theorem d_Mo_table_154 : decode prog_9_method_45_code 154 = .ok (.iconst 2, 1) := by decide +kernel
theorem d_Mo_table_155 : decode prog_9_method_45_code 155 = .ok (.if_icmp .ne 12, 3) := by decide +kernel
theorem d_Mo_table_158 : decode prog_9_method_45_code 158 = .ok (.iload 6, 2) := by decide +kernel
theorem d_Mo_table_160 : decode prog_9_method_45_code 160 = .ok (.iconst 3, 1) := by decide +kernel
theorem d_Mo_table_161 : decode prog_9_method_45_code 161 = .ok (.iadd, 1) := by decide +kernel
theorem d_Mo_table_162 : decode prog_9_method_45_code 162 = .ok (.iconst 4, 1) := by decide +kernel
theorem d_Mo_table_163 : decode prog_9_method_45_code 163 = .ok (.idiv, 1) := by decide +kernel
theorem d_Mo_table_164 : decode prog_9_method_45_code 164 = .ok (.goto 5, 3) := by decide +kernel
theorem d_Mo_table_167 : decode prog_9_method_45_code 167 = .ok (.iload 5, 2) := by decide +kernel
theorem d_Mo_table_169 : decode prog_9_method_45_code 169 = .ok (.ireturn, 1) := by decide +kernel
theorem d_Mo_log_0 : decode prog_9_method_46_code 0 = .ok (.iconst 0, 1) := by decide +kernel
theorem d_Mo_log_1 : decode prog_9_method_46_code 1 = .ok (.istore_n 1, 1) := by decide +kernel
theorem d_Mo_log_2 : decode prog_9_method_46_code 2 = .ok (.iconst 0, 1) := by decide +kernel
theorem d_Mo_log_3 : decode prog_9_method_46_code 3 = .ok (.istore_n 2, 1) := by decide +kernel
theorem d_Mo_log_4 : decode prog_9_method_46_code 4 = .ok (.iload_n 2, 1) := by decide +kernel
theorem d_Mo_log_5 : decode prog_9_method_46_code 5 = .ok (.aload_n 0, 1) := by decide +kernel
theorem d_Mo_log_6 : decode prog_9_method_46_code 6 = .ok (.getfield 79, 3) := by decide +kernel
theorem d_Mo_log_9 : decode prog_9_method_46_code 9 = .ok (.if_icmp .ge 89, 3) := by decide +kernel
theorem d_Mo_log_12 : decode prog_9_method_46_code 12 = .ok (.aload_n 0, 1) := by decide +kernel
theorem d_Mo_log_13 : decode prog_9_method_46_code 13 = .ok (.getfield 31, 3) := by decide +kernel
theorem d_Mo_log_16 : decode prog_9_method_46_code 16 = .ok (.iload_n 2, 1) := by decide +kernel
theorem d_Mo_log_17 : decode prog_9_method_46_code 17 = .ok (.iaload, 1) := by decide +kernel
theorem d_Mo_log_18 : decode prog_9_method_46_code 18 = .ok (.iconst (-1), 1) := by decide +kernel
theorem d_Mo_log_19 : decode prog_9_method_46_code 19 = .ok (.if_icmp .ne 7, 3) := by decide +kernel
theorem d_Mo_log_22 : decode prog_9_method_46_code 22 = .ok (.iconst 1, 1) := by decide +kernel
theorem d_Mo_log_23 : decode prog_9_method_46_code 23 = .ok (.goto 4, 3) := by decide +kernel
theorem d_Mo_log_26 : decode prog_9_method_46_code 26 = .ok (.iconst 0, 1) := by decide +kernel
theorem d_Mo_log_27 : decode prog_9_method_46_code 27 = .ok (.istore_n 3, 1) := by decide +kernel
theorem d_Mo_log_28 : decode prog_9_method_46_code 28 = .ok (.iconst 0, 1) := by decide +kernel
theorem d_Mo_log_29 : decode prog_9_method_46_code 29 = .ok (.istore 4, 2) := by decide +kernel
theorem d_Mo_log_31 : decode prog_9_method_46_code 31 = .ok (.iload 4, 2) := by decide +kernel
theorem d_Mo_log_33 : decode prog_9_method_46_code 33 = .ok (.iload_n 2, 1) := by decide +kernel
theorem d_Mo_log_34 : decode prog_9_method_46_code 34 = .ok (.if_icmp .ge 46, 3) := by decide +kernel
theorem d_Mo_log_37 : decode prog_9_method_46_code 37 = .ok (.iload_n 3, 1) := by decide +kernel
theorem d_Mo_log_38 : decode prog_9_method_46_code 38 = .ok (.ifCond .eq 34, 3) := by decide +kernel
theorem d_Mo_log_41 : decode prog_9_method_46_code 41 = .ok (.aload_n 0, 1) := by decide +kernel
theorem d_Mo_log_42 : decode prog_9_method_46_code 42 = .ok (.getfield 31, 3) := by decide +kernel
theorem d_Mo_log_45 : decode prog_9_method_46_code 45 = .ok (.iload 4, 2) := by decide +kernel
theorem d_Mo_log_47 : decode prog_9_method_46_code 47 = .ok (.iaload, 1) := by decide +kernel
theorem d_Mo_log_48 : decode prog_9_method_46_code 48 = .ok (.iconst (-1), 1) := by decide +kernel
theorem d_Mo_log_49 : decode prog_9_method_46_code 49 = .ok (.if_icmp .ne 19, 3) := by decide +kernel
theorem d_Mo_log_52 : decode prog_9_method_46_code 52 = .ok (.aload_n 0, 1) := by decide +kernel
theorem d_Mo_log_53 : decode prog_9_method_46_code 53 = .ok (.getfield 25, 3) := by decide +kernel
theorem d_Mo_log_56 : decode prog_9_method_46_code 56 = .ok (.iload 4, 2) := by decide +kernel
theorem d_Mo_log_58 : decode prog_9_method_46_code 58 = .ok (.iaload, 1) := by decide +kernel
theorem d_Mo_log_59 : decode prog_9_method_46_code 59 = .ok (.aload_n 0, 1) := by decide +kernel
theorem d_Mo_log_60 : decode prog_9_method_46_code 60 = .ok (.getfield 25, 3) := by decide +kernel
theorem d_Mo_log_63 : decode prog_9_method_46_code 63 = .ok (.iload_n 2, 1) := by decide +kernel
theorem d_Mo_log_64 : decode prog_9_method_46_code 64 = .ok (.iaload, 1) := by decide +kernel
theorem d_Mo_log_65 : decode prog_9_method_46_code 65 = .ok (.if_icmp .eq 7, 3) := by decide +kernel
theorem d_Mo_log_68 : decode prog_9_method_46_code 68 = .ok (.iconst 1, 1) := by decide +kernel
theorem d_Mo_log_69 : decode prog_9_method_46_code 69 = .ok (.goto 4, 3) := by decide +kernel
theorem d_Mo_log_72 : decode prog_9_method_46_code 72 = .ok (.iconst 0, 1) := by decide +kernel
theorem d_Mo_log_73 : decode prog_9_method_46_code 73 = .ok (.istore_n 3, 1) := by decide +kernel
theorem d_Mo_log_74 : decode prog_9_method_46_code 74 = .ok (.iinc 4 1, 3) := by decide +kernel
theorem d_Mo_log_77 : decode prog_9_method_46_code 77 = .ok (.goto (-46), 3) := by decide +kernel
theorem d_Mo_log_80 : decode prog_9_method_46_code 80 = .ok (.iload_n 1, 1) := by decide +kernel
theorem d_Mo_log_81 : decode prog_9_method_46_code 81 = .ok (.iload_n 3, 1) := by decide +kernel
theorem d_Mo_log_82 : decode prog_9_method_46_code 82 = .ok (.ifCond .eq 7, 3) := by decide +kernel
theorem d_Mo_log_85 : decode prog_9_method_46_code 85 = .ok (.iconst 1, 1) := by decide +kernel
theorem d_Mo_log_86 : decode prog_9_method_46_code 86 = .ok (.goto 4, 3) := by decide +kernel
theorem d_Mo_log_89 : decode prog_9_method_46_code 89 = .ok (.iconst 0, 1) := by decide +kernel
theorem d_Mo_log_90 : decode prog_9_method_46_code 90 = .ok (.iadd, 1) := by decide +kernel
theorem d_Mo_log_91 : decode prog_9_method_46_code 91 = .ok (.istore_n 1, 1) := by decide +kernel
theorem d_Mo_log_92 : decode prog_9_method_46_code 92 = .ok (.iinc 2 1, 3) := by decide +kernel
theorem d_Mo_log_95 : decode prog_9_method_46_code 95 = .ok (.goto (-91), 3) := by decide +kernel
theorem d_Mo_log_98 : decode prog_9_method_46_code 98 = .ok (.iload_n 1, 1) := by decide +kernel
theorem d_Mo_log_99 : decode prog_9_method_46_code 99 = .ok (.ireturn, 1) := by decide +kernel
theorem d_Mo_looked_0 : decode prog_9_method_47_code 0 = .ok (.aload_n 0, 1) := by decide +kernel
theorem d_Mo_looked_1 : decode prog_9_method_47_code 1 = .ok (.getfield 165, 3) := by decide +kernel
theorem d_Mo_looked_4 : decode prog_9_method_47_code 4 = .ok (.ireturn, 1) := by decide +kernel
