theorem d_Obj_init_0 : decode object_method_1_code 0 = .ok (.return_, 1) := by decide +kernel
theorem d_Int_compare_0 : decode prog_12_method_40_code 0 = .ok (.iload_n 0, 1) := by decide +kernel
theorem d_Int_compare_1 : decode prog_12_method_40_code 1 = .ok (.iload_n 1, 1) := by decide +kernel
theorem d_Int_compare_2 : decode prog_12_method_40_code 2 = .ok (.if_icmp .ge 7, 3) := by decide +kernel
theorem d_Int_compare_5 : decode prog_12_method_40_code 5 = .ok (.iconst (-1), 1) := by decide +kernel
theorem d_Int_compare_6 : decode prog_12_method_40_code 6 = .ok (.goto 13, 3) := by decide +kernel
theorem d_Int_compare_9 : decode prog_12_method_40_code 9 = .ok (.iload_n 0, 1) := by decide +kernel
theorem d_Int_compare_10 : decode prog_12_method_40_code 10 = .ok (.iload_n 1, 1) := by decide +kernel
theorem d_Int_compare_11 : decode prog_12_method_40_code 11 = .ok (.if_icmp .ne 7, 3) := by decide +kernel
theorem d_Int_compare_14 : decode prog_12_method_40_code 14 = .ok (.iconst 0, 1) := by decide +kernel
theorem d_Int_compare_15 : decode prog_12_method_40_code 15 = .ok (.goto 4, 3) := by decide +kernel
theorem d_Int_compare_18 : decode prog_12_method_40_code 18 = .ok (.iconst 1, 1) := by decide +kernel
theorem d_Int_compare_19 : decode prog_12_method_40_code 19 = .ok (.ireturn, 1) := by decide +kernel
theorem d_Math_max_0 : decode prog_14_method_65_code 0 = .ok (.iload_n 0, 1) := by decide +kernel
theorem d_Math_max_1 : decode prog_14_method_65_code 1 = .ok (.iload_n 1, 1) := by decide +kernel
theorem d_Math_max_2 : decode prog_14_method_65_code 2 = .ok (.if_icmp .lt 7, 3) := by decide +kernel
theorem d_Math_max_5 : decode prog_14_method_65_code 5 = .ok (.iload_n 0, 1) := by decide +kernel
theorem d_Math_max_6 : decode prog_14_method_65_code 6 = .ok (.goto 4, 3) := by decide +kernel
theorem d_Math_max_9 : decode prog_14_method_65_code 9 = .ok (.iload_n 1, 1) := by decide +kernel
theorem d_Math_max_10 : decode prog_14_method_65_code 10 = .ok (.ireturn, 1) := by decide +kernel
theorem d_Math_min_0 : decode prog_14_method_69_code 0 = .ok (.iload_n 0, 1) := by decide +kernel
theorem d_Math_min_1 : decode prog_14_method_69_code 1 = .ok (.iload_n 1, 1) := by decide +kernel
theorem d_Math_min_2 : decode prog_14_method_69_code 2 = .ok (.if_icmp .gt 7, 3) := by decide +kernel
theorem d_Math_min_5 : decode prog_14_method_69_code 5 = .ok (.iload_n 0, 1) := by decide +kernel
theorem d_Math_min_6 : decode prog_14_method_69_code 6 = .ok (.goto 4, 3) := by decide +kernel
theorem d_Math_min_9 : decode prog_14_method_69_code 9 = .ok (.iload_n 1, 1) := by decide +kernel
theorem d_Math_min_10 : decode prog_14_method_69_code 10 = .ok (.ireturn, 1) := by decide +kernel
theorem d_AbC_init_0 : decode prog_16_method_1_code 0 = .ok (.aload_n 0, 1) := by decide +kernel
theorem d_AbC_init_1 : decode prog_16_method_1_code 1 = .ok (.invokespecial 1, 3) := by decide +kernel
theorem d_AbC_init_4 : decode prog_16_method_1_code 4 = .ok (.return_, 1) := by decide +kernel
theorem d_AbL_init_0 : decode prog_17_method_1_code 0 = .ok (.aload_n 0, 1) := by decide +kernel
theorem d_AbL_init_1 : decode prog_17_method_1_code 1 = .ok (.invokespecial 1, 3) := by decide +kernel
theorem d_AbL_init_4 : decode prog_17_method_1_code 4 = .ok (.aload_n 0, 1) := by decide +kernel
theorem d_AbL_init_5 : decode prog_17_method_1_code 5 = .ok (.iconst 0, 1) := by decide +kernel
theorem d_AbL_init_6 : decode prog_17_method_1_code 6 = .ok (.putfield 7, 3) := by decide +kernel
theorem d_AbL_init_9 : decode prog_17_method_1_code 9 = .ok (.return_, 1) := by decide +kernel
theorem d_AL_init_0_0 : decode prog_18_method_2_code 0 = .ok (.aload_n 0, 1) := by decide +kernel
theorem d_AL_init_0_1 : decode prog_18_method_2_code 1 = .ok (.invokespecial 1, 3) := by decide +kernel
theorem d_AL_init_0_4 : decode prog_18_method_2_code 4 = .ok (.aload_n 0, 1) := by decide +kernel
theorem d_AL_init_0_5 : decode prog_18_method_2_code 5 = .ok (.getstatic 39, 3) := by decide +kernel
theorem d_AL_init_0_8 : decode prog_18_method_2_code 8 = .ok (.putfield 9, 3) := by decide +kernel
theorem d_AL_init_0_11 : decode prog_18_method_2_code 11 = .ok (.return_, 1) := by decide +kernel
theorem d_AL_init_I_0 : decode prog_18_method_1_code 0 = .ok (.aload_n 0, 1) := by decide +kernel
theorem d_AL_init_I_1 : decode prog_18_method_1_code 1 = .ok (.invokespecial 1, 3) := by decide +kernel
theorem d_AL_init_I_4 : decode prog_18_method_1_code 4 = .ok (.iload_n 1, 1) := by decide +kernel
theorem d_AL_init_I_5 : decode prog_18_method_1_code 5 = .ok (.ifCond .le 14, 3) := by decide +kernel
theorem d_AL_init_I_8 : decode prog_18_method_1_code 8 = .ok (.aload_n 0, 1) := by decide +kernel
theorem d_AL_init_I_9 : decode prog_18_method_1_code 9 = .ok (.iload_n 1, 1) := by decide +kernel
theorem d_AL_init_I_10 : decode prog_18_method_1_code 10 = .ok (.anewarray 7, 3) := by decide +kernel
theorem d_AL_init_I_13 : decode prog_18_method_1_code 13 = .ok (.putfield 9, 3) := by decide +kernel
theorem d_AL_init_I_16 : decode prog_18_method_1_code 16 = .ok (.goto 44, 3) := by decide +kernel
theorem d_AL_init_I_19 : decode prog_18_method_1_code 19 = .ok (.iload_n 1, 1) := by decide +kernel
theorem d_AL_init_I_20 : decode prog_18_method_1_code 20 = .ok (.ifCond .ne 13, 3) := by decide +kernel
theorem d_AL_init_I_23 : decode prog_18_method_1_code 23 = .ok (.aload_n 0, 1) := by decide +kernel
theorem d_AL_init_I_24 : decode prog_18_method_1_code 24 = .ok (.getstatic 15, 3) := by decide +kernel
theorem d_AL_init_I_27 : decode prog_18_method_1_code 27 = .ok (.putfield 9, 3) := by decide +kernel
theorem d_AL_init_I_30 : decode prog_18_method_1_code 30 = .ok (.goto 30, 3) := by decide +kernel
theorem d_AL_init_I_33 : decode prog_18_method_1_code 33 = .ok (.new 18, 3) := by decide +kernel
theorem d_AL_init_I_36 : decode prog_18_method_1_code 36 = .ok (.dup, 1) := by decide +kernel
theorem d_AL_init_I_37 : decode prog_18_method_1_code 37 = .ok (.new 20, 3) := by decide +kernel
theorem d_AL_init_I_40 : decode prog_18_method_1_code 40 = .ok (.dup, 1) := by decide +kernel
theorem d_AL_init_I_41 : decode prog_18_method_1_code 41 = .ok (.invokespecial 22, 3) := by decide +kernel
theorem d_AL_init_I_44 : decode prog_18_method_1_code 44 = .ok (.ldc 23, 2) := by decide +kernel
theorem d_AL_init_I_46 : decode prog_18_method_1_code 46 = .ok (.invokevirtual 25, 3) := by decide +kernel
theorem d_AL_init_I_49 : decode prog_18_method_1_code 49 = .ok (.iload_n 1, 1) := by decide +kernel
theorem d_AL_init_I_50 : decode prog_18_method_1_code 50 = .ok (.invokevirtual 29, 3) := by decide +kernel
theorem d_AL_init_I_53 : decode prog_18_method_1_code 53 = .ok (.invokevirtual 32, 3) := by decide +kernel
theorem d_AL_init_I_56 : decode prog_18_method_1_code 56 = .ok (.invokespecial 36, 3) := by decide +kernel
theorem d_AL_init_I_59 : decode prog_18_method_1_code 59 = .ok (.athrow, 1) := by decide +kernel
theorem d_AL_init_I_60 : decode prog_18_method_1_code 60 = .ok (.return_, 1) := by decide +kernel
theorem d_AL_add_IL_0 : decode prog_18_method_26_code 0 = .ok (.aload_n 0, 1) := by decide +kernel
theorem d_AL_add_IL_1 : decode prog_18_method_26_code 1 = .ok (.iload_n 1, 1) := by decide +kernel
theorem d_AL_add_IL_2 : decode prog_18_method_26_code 2 = .ok (.invokevirtual 135, 3) := by decide +kernel
theorem d_AL_add_IL_5 : decode prog_18_method_26_code 5 = .ok (.aload_n 0, 1) := by decide +kernel
theorem d_AL_add_IL_6 : decode prog_18_method_26_code 6 = .ok (.dup, 1) := by decide +kernel
theorem d_AL_add_IL_7 : decode prog_18_method_26_code 7 = .ok (.getfield 63, 3) := by decide +kernel
theorem d_AL_add_IL_10 : decode prog_18_method_26_code 10 = .ok (.iconst 1, 1) := by decide +kernel
theorem d_AL_add_IL_11 : decode prog_18_method_26_code 11 = .ok (.iadd, 1) := by decide +kernel
theorem d_AL_add_IL_12 : decode prog_18_method_26_code 12 = .ok (.putfield 63, 3) := by decide +kernel
theorem d_AL_add_IL_15 : decode prog_18_method_26_code 15 = .ok (.aload_n 0, 1) := by decide +kernel
theorem d_AL_add_IL_16 : decode prog_18_method_26_code 16 = .ok (.getfield 48, 3) := by decide +kernel
theorem d_AL_add_IL_19 : decode prog_18_method_26_code 19 = .ok (.dup, 1) := by decide +kernel
theorem d_AL_add_IL_20 : decode prog_18_method_26_code 20 = .ok (.istore_n 3, 1) := by decide +kernel
theorem d_AL_add_IL_21 : decode prog_18_method_26_code 21 = .ok (.aload_n 0, 1) := by decide +kernel
theorem d_AL_add_IL_22 : decode prog_18_method_26_code 22 = .ok (.getfield 9, 3) := by decide +kernel
theorem d_AL_add_IL_25 : decode prog_18_method_26_code 25 = .ok (.dup, 1) := by decide +kernel
theorem d_AL_add_IL_26 : decode prog_18_method_26_code 26 = .ok (.astore 4, 2) := by decide +kernel
theorem d_AL_add_IL_28 : decode prog_18_method_26_code 28 = .ok (.arraylength, 1) := by decide +kernel
theorem d_AL_add_IL_29 : decode prog_18_method_26_code 29 = .ok (.if_icmp .ne 9, 3) := by decide +kernel
theorem d_AL_add_IL_32 : decode prog_18_method_26_code 32 = .ok (.aload_n 0, 1) := by decide +kernel
theorem d_AL_add_IL_33 : decode prog_18_method_26_code 33 = .ok (.invokevirtual 129, 3) := by decide +kernel
theorem d_AL_add_IL_36 : decode prog_18_method_26_code 36 = .ok (.astore 4, 2) := by decide +kernel
theorem d_AL_add_IL_38 : decode prog_18_method_26_code 38 = .ok (.aload 4, 2) := by decide +kernel
theorem d_AL_add_IL_40 : decode prog_18_method_26_code 40 = .ok (.iload_n 1, 1) := by decide +kernel
theorem d_AL_add_IL_41 : decode prog_18_method_26_code 41 = .ok (.aload 4, 2) := by decide +kernel
theorem d_AL_add_IL_43 : decode prog_18_method_26_code 43 = .ok (.iload_n 1, 1) := by decide +kernel
theorem d_AL_add_IL_44 : decode prog_18_method_26_code 44 = .ok (.iconst 1, 1) := by decide +kernel
theorem d_AL_add_IL_45 : decode prog_18_method_26_code 45 = .ok (.iadd, 1) := by decide +kernel
theorem d_AL_add_IL_46 : decode prog_18_method_26_code 46 = .ok (.iload_n 3, 1) := by decide +kernel
theorem d_AL_add_IL_47 : decode prog_18_method_26_code 47 = .ok (.iload_n 1, 1) := by decide +kernel
theorem d_AL_add_IL_48 : decode prog_18_method_26_code 48 = .ok (.isub, 1) := by decide +kernel
theorem d_AL_add_IL_49 : decode prog_18_method_26_code 49 = .ok (.invokestatic 112, 3) := by decide +kernel
theorem d_AL_add_IL_52 : decode prog_18_method_26_code 52 = .ok (.aload 4, 2) := by decide +kernel
theorem d_AL_add_IL_54 : decode prog_18_method_26_code 54 = .ok (.iload_n 1, 1) := by decide +kernel
theorem d_AL_add_IL_55 : decode prog_18_method_26_code 55 = .ok (.aload_n 2, 1) := by decide +kernel
theorem d_AL_add_IL_56 : decode prog_18_method_26_code 56 = .ok (.aastore, 1) := by decide +kernel
theorem d_AL_add_IL_57 : decode prog_18_method_26_code 57 = .ok (.aload_n 0, 1) := by decide +kernel
theorem d_AL_add_IL_58 : decode prog_18_method_26_code 58 = .ok (.iload_n 3, 1) := by decide +kernel
theorem d_AL_add_IL_59 : decode prog_18_method_26_code 59 = .ok (.iconst 1, 1) := by decide +kernel
theorem d_AL_add_IL_60 : decode prog_18_method_26_code 60 = .ok (.iadd, 1) := by decide +kernel
theorem d_AL_add_IL_61 : decode prog_18_method_26_code 61 = .ok (.putfield 48, 3) := by decide +kernel
theorem d_AL_add_IL_64 : decode prog_18_method_26_code 64 = .ok (.return_, 1) := by decide +kernel
theorem d_AL_add_L_0 : decode prog_18_method_25_code 0 = .ok (.aload_n 0, 1) := by decide +kernel
theorem d_AL_add_L_1 : decode prog_18_method_25_code 1 = .ok (.dup, 1) := by decide +kernel
theorem d_AL_add_L_2 : decode prog_18_method_25_code 2 = .ok (.getfield 63, 3) := by decide +kernel
theorem d_AL_add_L_5 : decode prog_18_method_25_code 5 = .ok (.iconst 1, 1) := by decide +kernel
theorem d_AL_add_L_6 : decode prog_18_method_25_code 6 = .ok (.iadd, 1) := by decide +kernel
theorem d_AL_add_L_7 : decode prog_18_method_25_code 7 = .ok (.putfield 63, 3) := by decide +kernel
theorem d_AL_add_L_10 : decode prog_18_method_25_code 10 = .ok (.aload_n 0, 1) := by decide +kernel
theorem d_AL_add_L_11 : decode prog_18_method_25_code 11 = .ok (.aload_n 1, 1) := by decide +kernel
theorem d_AL_add_L_12 : decode prog_18_method_25_code 12 = .ok (.aload_n 0, 1) := by decide +kernel
theorem d_AL_add_L_13 : decode prog_18_method_25_code 13 = .ok (.getfield 9, 3) := by decide +kernel
theorem d_AL_add_L_16 : decode prog_18_method_25_code 16 = .ok (.aload_n 0, 1) := by decide +kernel
theorem d_AL_add_L_17 : decode prog_18_method_25_code 17 = .ok (.getfield 48, 3) := by decide +kernel
theorem d_AL_add_L_20 : decode prog_18_method_25_code 20 = .ok (.invokevirtual 131, 3) := by decide +kernel
theorem d_AL_add_L_23 : decode prog_18_method_25_code 23 = .ok (.iconst 1, 1) := by decide +kernel
theorem d_AL_add_L_24 : decode prog_18_method_25_code 24 = .ok (.ireturn, 1) := by decide +kernel
theorem d_AL_add_LALI_0 : decode prog_18_method_24_code 0 = .ok (.iload_n 3, 1) := by decide +kernel
theorem d_AL_add_LALI_1 : decode prog_18_method_24_code 1 = .ok (.aload_n 2, 1) := by decide +kernel
theorem d_AL_add_LALI_2 : decode prog_18_method_24_code 2 = .ok (.arraylength, 1) := by decide +kernel
theorem d_AL_add_LALI_3 : decode prog_18_method_24_code 3 = .ok (.if_icmp .ne 8, 3) := by decide +kernel
theorem d_AL_add_LALI_6 : decode prog_18_method_24_code 6 = .ok (.aload_n 0, 1) := by decide +kernel
theorem d_AL_add_LALI_7 : decode prog_18_method_24_code 7 = .ok (.invokevirtual 129, 3) := by decide +kernel
theorem d_AL_add_LALI_10 : decode prog_18_method_24_code 10 = .ok (.astore_n 2, 1) := by decide +kernel
theorem d_AL_add_LALI_11 : decode prog_18_method_24_code 11 = .ok (.aload_n 2, 1) := by decide +kernel
theorem d_AL_add_LALI_12 : decode prog_18_method_24_code 12 = .ok (.iload_n 3, 1) := by decide +kernel
theorem d_AL_add_LALI_13 : decode prog_18_method_24_code 13 = .ok (.aload_n 1, 1) := by decide +kernel
theorem d_AL_add_LALI_14 : decode prog_18_method_24_code 14 = .ok (.aastore, 1) := by decide +kernel
theorem d_AL_add_LALI_15 : decode prog_18_method_24_code 15 = .ok (.aload_n 0, 1) := by decide +kernel
theorem d_AL_add_LALI_16 : decode prog_18_method_24_code 16 = .ok (.iload_n 3, 1) := by decide +kernel
theorem d_AL_add_LALI_17 : decode prog_18_method_24_code 17 = .ok (.iconst 1, 1) := by decide +kernel
theorem d_AL_add_LALI_18 : decode prog_18_method_24_code 18 = .ok (.iadd, 1) := by decide +kernel
theorem d_AL_add_LALI_19 : decode prog_18_method_24_code 19 = .ok (.putfield 48, 3) := by decide +kernel
theorem d_AL_add_LALI_22 : decode prog_18_method_24_code 22 = .ok (.return_, 1) := by decide +kernel
theorem d_AL_clear_0 : decode prog_18_method_40_code 0 = .ok (.aload_n 0, 1) := by decide +kernel
theorem d_AL_clear_1 : decode prog_18_method_40_code 1 = .ok (.dup, 1) := by decide +kernel
theorem d_AL_clear_2 : decode prog_18_method_40_code 2 = .ok (.getfield 63, 3) := by decide +kernel
theorem d_AL_clear_5 : decode prog_18_method_40_code 5 = .ok (.iconst 1, 1) := by decide +kernel
theorem d_AL_clear_6 : decode prog_18_method_40_code 6 = .ok (.iadd, 1) := by decide +kernel
theorem d_AL_clear_7 : decode prog_18_method_40_code 7 = .ok (.putfield 63, 3) := by decide +kernel
theorem d_AL_clear_10 : decode prog_18_method_40_code 10 = .ok (.aload_n 0, 1) := by decide +kernel
theorem d_AL_clear_11 : decode prog_18_method_40_code 11 = .ok (.getfield 9, 3) := by decide +kernel
theorem d_AL_clear_14 : decode prog_18_method_40_code 14 = .ok (.astore_n 1, 1) := by decide +kernel
theorem d_AL_clear_15 : decode prog_18_method_40_code 15 = .ok (.aload_n 0, 1) := by decide +kernel
theorem d_AL_clear_16 : decode prog_18_method_40_code 16 = .ok (.getfield 48, 3) := by decide +kernel
theorem d_AL_clear_19 : decode prog_18_method_40_code 19 = .ok (.istore_n 2, 1) := by decide +kernel
theorem d_AL_clear_20 : decode prog_18_method_40_code 20 = .ok (.aload_n 0, 1) := by decide +kernel
theorem d_AL_clear_21 : decode prog_18_method_40_code 21 = .ok (.iconst 0, 1) := by decide +kernel
theorem d_AL_clear_22 : decode prog_18_method_40_code 22 = .ok (.dup_x1, 1) := by decide +kernel
theorem d_AL_clear_23 : decode prog_18_method_40_code 23 = .ok (.putfield 48, 3) := by decide +kernel
theorem d_AL_clear_26 : decode prog_18_method_40_code 26 = .ok (.istore_n 3, 1) := by decide +kernel
theorem d_AL_clear_27 : decode prog_18_method_40_code 27 = .ok (.iload_n 3, 1) := by decide +kernel
theorem d_AL_clear_28 : decode prog_18_method_40_code 28 = .ok (.iload_n 2, 1) := by decide +kernel
theorem d_AL_clear_29 : decode prog_18_method_40_code 29 = .ok (.if_icmp .ge 13, 3) := by decide +kernel
theorem d_AL_clear_32 : decode prog_18_method_40_code 32 = .ok (.aload_n 1, 1) := by decide +kernel
theorem d_AL_clear_33 : decode prog_18_method_40_code 33 = .ok (.iload_n 3, 1) := by decide +kernel
theorem d_AL_clear_34 : decode prog_18_method_40_code 34 = .ok (.aconst_null, 1) := by decide +kernel
theorem d_AL_clear_35 : decode prog_18_method_40_code 35 = .ok (.aastore, 1) := by decide +kernel
theorem d_AL_clear_36 : decode prog_18_method_40_code 36 = .ok (.iinc 3 1, 3) := by decide +kernel
theorem d_AL_clear_39 : decode prog_18_method_40_code 39 = .ok (.goto (-12), 3) := by decide +kernel
theorem d_AL_clear_42 : decode prog_18_method_40_code 42 = .ok (.return_, 1) := by decide +kernel
theorem d_AL_elementData_0 : decode prog_18_method_18_code 0 = .ok (.aload_n 0, 1) := by decide +kernel
theorem d_AL_elementData_1 : decode prog_18_method_18_code 1 = .ok (.getfield 9, 3) := by decide +kernel
theorem d_AL_elementData_4 : decode prog_18_method_18_code 4 = .ok (.iload_n 1, 1) := by decide +kernel
theorem d_AL_elementData_5 : decode prog_18_method_18_code 5 = .ok (.aaload, 1) := by decide +kernel
theorem d_AL_elementData_6 : decode prog_18_method_18_code 6 = .ok (.areturn, 1) := by decide +kernel
theorem d_AL_fastRemove_0 : decode prog_18_method_39_code 0 = .ok (.aload_n 0, 1) := by decide +kernel
theorem d_AL_fastRemove_1 : decode prog_18_method_39_code 1 = .ok (.dup, 1) := by decide +kernel
theorem d_AL_fastRemove_2 : decode prog_18_method_39_code 2 = .ok (.getfield 63, 3) := by decide +kernel
theorem d_AL_fastRemove_5 : decode prog_18_method_39_code 5 = .ok (.iconst 1, 1) := by decide +kernel
theorem d_AL_fastRemove_6 : decode prog_18_method_39_code 6 = .ok (.iadd, 1) := by decide +kernel
theorem d_AL_fastRemove_7 : decode prog_18_method_39_code 7 = .ok (.putfield 63, 3) := by decide +kernel
theorem d_AL_fastRemove_10 : decode prog_18_method_39_code 10 = .ok (.aload_n 0, 1) := by decide +kernel
theorem d_AL_fastRemove_11 : decode prog_18_method_39_code 11 = .ok (.getfield 48, 3) := by decide +kernel
theorem d_AL_fastRemove_14 : decode prog_18_method_39_code 14 = .ok (.iconst 1, 1) := by decide +kernel
theorem d_AL_fastRemove_15 : decode prog_18_method_39_code 15 = .ok (.isub, 1) := by decide +kernel
theorem d_AL_fastRemove_16 : decode prog_18_method_39_code 16 = .ok (.dup, 1) := by decide +kernel
theorem d_AL_fastRemove_17 : decode prog_18_method_39_code 17 = .ok (.istore_n 3, 1) := by decide +kernel
theorem d_AL_fastRemove_18 : decode prog_18_method_39_code 18 = .ok (.iload_n 2, 1) := by decide +kernel
theorem d_AL_fastRemove_19 : decode prog_18_method_39_code 19 = .ok (.if_icmp .le 15, 3) := by decide +kernel
theorem d_AL_fastRemove_22 : decode prog_18_method_39_code 22 = .ok (.aload_n 1, 1) := by decide +kernel
theorem d_AL_fastRemove_23 : decode prog_18_method_39_code 23 = .ok (.iload_n 2, 1) := by decide +kernel
theorem d_AL_fastRemove_24 : decode prog_18_method_39_code 24 = .ok (.iconst 1, 1) := by decide +kernel
theorem d_AL_fastRemove_25 : decode prog_18_method_39_code 25 = .ok (.iadd, 1) := by decide +kernel
theorem d_AL_fastRemove_26 : decode prog_18_method_39_code 26 = .ok (.aload_n 1, 1) := by decide +kernel
theorem d_AL_fastRemove_27 : decode prog_18_method_39_code 27 = .ok (.iload_n 2, 1) := by decide +kernel
theorem d_AL_fastRemove_28 : decode prog_18_method_39_code 28 = .ok (.iload_n 3, 1) := by decide +kernel
theorem d_AL_fastRemove_29 : decode prog_18_method_39_code 29 = .ok (.iload_n 2, 1) := by decide +kernel
theorem d_AL_fastRemove_30 : decode prog_18_method_39_code 30 = .ok (.isub, 1) := by decide +kernel
theorem d_AL_fastRemove_31 : decode prog_18_method_39_code 31 = .ok (.invokestatic 112, 3) := by decide +kernel
theorem d_AL_fastRemove_34 : decode prog_18_method_39_code 34 = .ok (.aload_n 1, 1) := by decide +kernel
theorem d_AL_fastRemove_35 : decode prog_18_method_39_code 35 = .ok (.aload_n 0, 1) := by decide +kernel
theorem d_AL_fastRemove_36 : decode prog_18_method_39_code 36 = .ok (.iload_n 3, 1) := by decide +kernel
theorem d_AL_fastRemove_37 : decode prog_18_method_39_code 37 = .ok (.dup_x1, 1) := by decide +kernel
theorem d_AL_fastRemove_38 : decode prog_18_method_39_code 38 = .ok (.putfield 48, 3) := by decide +kernel
theorem d_AL_fastRemove_41 : decode prog_18_method_39_code 41 = .ok (.aconst_null, 1) := by decide +kernel
theorem d_AL_fastRemove_42 : decode prog_18_method_39_code 42 = .ok (.aastore, 1) := by decide +kernel
theorem d_AL_fastRemove_43 : decode prog_18_method_39_code 43 = .ok (.return_, 1) := by decide +kernel
theorem d_AL_get_0 : decode prog_18_method_20_code 0 = .ok (.iload_n 1, 1) := by decide +kernel
theorem d_AL_get_1 : decode prog_18_method_20_code 1 = .ok (.aload_n 0, 1) := by decide +kernel
theorem d_AL_get_2 : decode prog_18_method_20_code 2 = .ok (.getfield 48, 3) := by decide +kernel
theorem d_AL_get_5 : decode prog_18_method_20_code 5 = .ok (.invokestatic 118, 3) := by decide +kernel
theorem d_AL_get_8 : decode prog_18_method_20_code 8 = .ok (.pop, 1) := by decide +kernel
theorem d_AL_get_9 : decode prog_18_method_20_code 9 = .ok (.aload_n 0, 1) := by decide +kernel
theorem d_AL_get_10 : decode prog_18_method_20_code 10 = .ok (.iload_n 1, 1) := by decide +kernel
theorem d_AL_get_11 : decode prog_18_method_20_code 11 = .ok (.invokevirtual 123, 3) := by decide +kernel
theorem d_AL_get_14 : decode prog_18_method_20_code 14 = .ok (.areturn, 1) := by decide +kernel
theorem d_AL_grow_0_0 : decode prog_18_method_7_code 0 = .ok (.aload_n 0, 1) := by decide +kernel
theorem d_AL_grow_0_1 : decode prog_18_method_7_code 1 = .ok (.aload_n 0, 1) := by decide +kernel
theorem d_AL_grow_0_2 : decode prog_18_method_7_code 2 = .ok (.getfield 48, 3) := by decide +kernel
theorem d_AL_grow_0_5 : decode prog_18_method_7_code 5 = .ok (.iconst 1, 1) := by decide +kernel
theorem d_AL_grow_0_6 : decode prog_18_method_7_code 6 = .ok (.iadd, 1) := by decide +kernel
theorem d_AL_grow_0_7 : decode prog_18_method_7_code 7 = .ok (.invokevirtual 69, 3) := by decide +kernel
theorem d_AL_grow_0_10 : decode prog_18_method_7_code 10 = .ok (.areturn, 1) := by decide +kernel
theorem d_AL_grow_I_0 : decode prog_18_method_6_code 0 = .ok (.aload_n 0, 1) := by decide +kernel
theorem d_AL_grow_I_1 : decode prog_18_method_6_code 1 = .ok (.getfield 9, 3) := by decide +kernel
theorem d_AL_grow_I_4 : decode prog_18_method_6_code 4 = .ok (.arraylength, 1) := by decide +kernel
theorem d_AL_grow_I_5 : decode prog_18_method_6_code 5 = .ok (.istore_n 2, 1) := by decide +kernel
theorem d_AL_grow_I_6 : decode prog_18_method_6_code 6 = .ok (.iload_n 2, 1) := by decide +kernel
theorem d_AL_grow_I_7 : decode prog_18_method_6_code 7 = .ok (.ifCond .gt 13, 3) := by decide +kernel
theorem d_AL_grow_I_10 : decode prog_18_method_6_code 10 = .ok (.aload_n 0, 1) := by decide +kernel
theorem d_AL_grow_I_11 : decode prog_18_method_6_code 11 = .ok (.getfield 9, 3) := by decide +kernel
theorem d_AL_grow_I_14 : decode prog_18_method_6_code 14 = .ok (.getstatic 39, 3) := by decide +kernel
theorem d_AL_grow_I_17 : decode prog_18_method_6_code 17 = .ok (.if_acmp .eq 28, 3) := by decide +kernel
theorem d_AL_grow_I_20 : decode prog_18_method_6_code 20 = .ok (.iload_n 2, 1) := by decide +kernel
theorem d_AL_grow_I_21 : decode prog_18_method_6_code 21 = .ok (.iload_n 1, 1) := by decide +kernel
theorem d_AL_grow_I_22 : decode prog_18_method_6_code 22 = .ok (.iload_n 2, 1) := by decide +kernel
theorem d_AL_grow_I_23 : decode prog_18_method_6_code 23 = .ok (.isub, 1) := by decide +kernel
theorem d_AL_grow_I_24 : decode prog_18_method_6_code 24 = .ok (.iload_n 2, 1) := by decide +kernel
theorem d_AL_grow_I_25 : decode prog_18_method_6_code 25 = .ok (.iconst 1, 1) := by decide +kernel
theorem d_AL_grow_I_26 : decode prog_18_method_6_code 26 = .ok (.ishr, 1) := by decide +kernel
theorem d_AL_grow_I_27 : decode prog_18_method_6_code 27 = .ok (.invokestatic 73, 3) := by decide +kernel
theorem d_AL_grow_I_30 : decode prog_18_method_6_code 30 = .ok (.istore_n 3, 1) := by decide +kernel
theorem d_AL_grow_I_31 : decode prog_18_method_6_code 31 = .ok (.aload_n 0, 1) := by decide +kernel
theorem d_AL_grow_I_32 : decode prog_18_method_6_code 32 = .ok (.aload_n 0, 1) := by decide +kernel
theorem d_AL_grow_I_33 : decode prog_18_method_6_code 33 = .ok (.getfield 9, 3) := by decide +kernel
theorem d_AL_grow_I_36 : decode prog_18_method_6_code 36 = .ok (.iload_n 3, 1) := by decide +kernel
theorem d_AL_grow_I_37 : decode prog_18_method_6_code 37 = .ok (.invokestatic 66, 3) := by decide +kernel
theorem d_AL_grow_I_40 : decode prog_18_method_6_code 40 = .ok (.dup_x1, 1) := by decide +kernel
theorem d_AL_grow_I_41 : decode prog_18_method_6_code 41 = .ok (.putfield 9, 3) := by decide +kernel
theorem d_AL_grow_I_44 : decode prog_18_method_6_code 44 = .ok (.areturn, 1) := by decide +kernel
theorem d_AL_grow_I_45 : decode prog_18_method_6_code 45 = .ok (.aload_n 0, 1) := by decide +kernel
theorem d_AL_grow_I_46 : decode prog_18_method_6_code 46 = .ok (.bipush 10, 2) := by decide +kernel
theorem d_AL_grow_I_48 : decode prog_18_method_6_code 48 = .ok (.iload_n 1, 1) := by decide +kernel
theorem d_AL_grow_I_49 : decode prog_18_method_6_code 49 = .ok (.invokestatic 79, 3) := by decide +kernel
theorem d_AL_grow_I_52 : decode prog_18_method_6_code 52 = .ok (.anewarray 7, 3) := by decide +kernel
theorem d_AL_grow_I_55 : decode prog_18_method_6_code 55 = .ok (.dup_x1, 1) := by decide +kernel
theorem d_AL_grow_I_56 : decode prog_18_method_6_code 56 = .ok (.putfield 9, 3) := by decide +kernel
theorem d_AL_grow_I_59 : decode prog_18_method_6_code 59 = .ok (.areturn, 1) := by decide +kernel
theorem d_AL_isEmpty_0 : decode prog_18_method_9_code 0 = .ok (.aload_n 0, 1) := by decide +kernel
theorem d_AL_isEmpty_1 : decode prog_18_method_9_code 1 = .ok (.getfield 48, 3) := by decide +kernel
theorem d_AL_isEmpty_4 : decode prog_18_method_9_code 4 = .ok (.ifCond .ne 7, 3) := by decide +kernel
theorem d_AL_isEmpty_7 : decode prog_18_method_9_code 7 = .ok (.iconst 1, 1) := by decide +kernel
theorem d_AL_isEmpty_8 : decode prog_18_method_9_code 8 = .ok (.goto 4, 3) := by decide +kernel
theorem d_AL_isEmpty_11 : decode prog_18_method_9_code 11 = .ok (.iconst 0, 1) := by decide +kernel
theorem d_AL_isEmpty_12 : decode prog_18_method_9_code 12 = .ok (.ireturn, 1) := by decide +kernel
theorem d_AL_rangeCheckForAdd_0 : decode prog_18_method_45_code 0 = .ok (.iload_n 1, 1) := by decide +kernel
theorem d_AL_rangeCheckForAdd_1 : decode prog_18_method_45_code 1 = .ok (.aload_n 0, 1) := by decide +kernel
theorem d_AL_rangeCheckForAdd_2 : decode prog_18_method_45_code 2 = .ok (.getfield 48, 3) := by decide +kernel
theorem d_AL_rangeCheckForAdd_5 : decode prog_18_method_45_code 5 = .ok (.if_icmp .gt 7, 3) := by decide +kernel
theorem d_AL_rangeCheckForAdd_8 : decode prog_18_method_45_code 8 = .ok (.iload_n 1, 1) := by decide +kernel
theorem d_AL_rangeCheckForAdd_9 : decode prog_18_method_45_code 9 = .ok (.ifCond .ge 16, 3) := by decide +kernel
theorem d_AL_rangeCheckForAdd_12 : decode prog_18_method_45_code 12 = .ok (.new 187, 3) := by decide +kernel
theorem d_AL_rangeCheckForAdd_15 : decode prog_18_method_45_code 15 = .ok (.dup, 1) := by decide +kernel
theorem d_AL_rangeCheckForAdd_16 : decode prog_18_method_45_code 16 = .ok (.aload_n 0, 1) := by decide +kernel
theorem d_AL_rangeCheckForAdd_17 : decode prog_18_method_45_code 17 = .ok (.iload_n 1, 1) := by decide +kernel
theorem d_AL_rangeCheckForAdd_18 : decode prog_18_method_45_code 18 = .ok (.invokevirtual 198, 3) := by decide +kernel
theorem d_AL_rangeCheckForAdd_21 : decode prog_18_method_45_code 21 = .ok (.invokespecial 193, 3) := by decide +kernel
theorem d_AL_rangeCheckForAdd_24 : decode prog_18_method_45_code 24 = .ok (.athrow, 1) := by decide +kernel
theorem d_AL_rangeCheckForAdd_25 : decode prog_18_method_45_code 25 = .ok (.return_, 1) := by decide +kernel
theorem d_AL_remove_0 : decode prog_18_method_29_code 0 = .ok (.iload_n 1, 1) := by decide +kernel
theorem d_AL_remove_1 : decode prog_18_method_29_code 1 = .ok (.aload_n 0, 1) := by decide +kernel
theorem d_AL_remove_2 : decode prog_18_method_29_code 2 = .ok (.getfield 48, 3) := by decide +kernel
theorem d_AL_remove_5 : decode prog_18_method_29_code 5 = .ok (.invokestatic 118, 3) := by decide +kernel
theorem d_AL_remove_8 : decode prog_18_method_29_code 8 = .ok (.pop, 1) := by decide +kernel
theorem d_AL_remove_9 : decode prog_18_method_29_code 9 = .ok (.aload_n 0, 1) := by decide +kernel
theorem d_AL_remove_10 : decode prog_18_method_29_code 10 = .ok (.getfield 9, 3) := by decide +kernel
theorem d_AL_remove_13 : decode prog_18_method_29_code 13 = .ok (.astore_n 2, 1) := by decide +kernel
theorem d_AL_remove_14 : decode prog_18_method_29_code 14 = .ok (.aload_n 2, 1) := by decide +kernel
theorem d_AL_remove_15 : decode prog_18_method_29_code 15 = .ok (.iload_n 1, 1) := by decide +kernel
theorem d_AL_remove_16 : decode prog_18_method_29_code 16 = .ok (.aaload, 1) := by decide +kernel
theorem d_AL_remove_17 : decode prog_18_method_29_code 17 = .ok (.astore_n 3, 1) := by decide +kernel
theorem d_AL_remove_18 : decode prog_18_method_29_code 18 = .ok (.aload_n 0, 1) := by decide +kernel
theorem d_AL_remove_19 : decode prog_18_method_29_code 19 = .ok (.aload_n 2, 1) := by decide +kernel
theorem d_AL_remove_20 : decode prog_18_method_29_code 20 = .ok (.iload_n 1, 1) := by decide +kernel
theorem d_AL_remove_21 : decode prog_18_method_29_code 21 = .ok (.invokevirtual 144, 3) := by decide +kernel
theorem d_AL_remove_24 : decode prog_18_method_29_code 24 = .ok (.aload_n 3, 1) := by decide +kernel
theorem d_AL_remove_25 : decode prog_18_method_29_code 25 = .ok (.areturn, 1) := by decide +kernel
theorem d_AL_set_0 : decode prog_18_method_23_code 0 = .ok (.iload_n 1, 1) := by decide +kernel
theorem d_AL_set_1 : decode prog_18_method_23_code 1 = .ok (.aload_n 0, 1) := by decide +kernel
theorem d_AL_set_2 : decode prog_18_method_23_code 2 = .ok (.getfield 48, 3) := by decide +kernel
theorem d_AL_set_5 : decode prog_18_method_23_code 5 = .ok (.invokestatic 118, 3) := by decide +kernel
theorem d_AL_set_8 : decode prog_18_method_23_code 8 = .ok (.pop, 1) := by decide +kernel
theorem d_AL_set_9 : decode prog_18_method_23_code 9 = .ok (.aload_n 0, 1) := by decide +kernel
theorem d_AL_set_10 : decode prog_18_method_23_code 10 = .ok (.iload_n 1, 1) := by decide +kernel
theorem d_AL_set_11 : decode prog_18_method_23_code 11 = .ok (.invokevirtual 123, 3) := by decide +kernel
theorem d_AL_set_14 : decode prog_18_method_23_code 14 = .ok (.astore_n 3, 1) := by decide +kernel
theorem d_AL_set_15 : decode prog_18_method_23_code 15 = .ok (.aload_n 0, 1) := by decide +kernel
theorem d_AL_set_16 : decode prog_18_method_23_code 16 = .ok (.getfield 9, 3) := by decide +kernel
theorem d_AL_set_19 : decode prog_18_method_23_code 19 = .ok (.iload_n 1, 1) := by decide +kernel
theorem d_AL_set_20 : decode prog_18_method_23_code 20 = .ok (.aload_n 2, 1) := by decide +kernel
theorem d_AL_set_21 : decode prog_18_method_23_code 21 = .ok (.aastore, 1) := by decide +kernel
theorem d_AL_set_22 : decode prog_18_method_23_code 22 = .ok (.aload_n 3, 1) := by decide +kernel
theorem d_AL_set_23 : decode prog_18_method_23_code 23 = .ok (.areturn, 1) := by decide +kernel
theorem d_AL_size_0 : decode prog_18_method_8_code 0 = .ok (.aload_n 0, 1) := by decide +kernel
theorem d_AL_size_1 : decode prog_18_method_8_code 1 = .ok (.getfield 48, 3) := by decide +kernel
theorem d_AL_size_4 : decode prog_18_method_8_code 4 = .ok (.ireturn, 1) := by decide +kernel
theorem d_Ars_copyOf_ALI_0 : decode prog_19_method_119_code 0 = .ok (.aload_n 0, 1) := by decide +kernel
theorem d_Ars_copyOf_ALI_1 : decode prog_19_method_119_code 1 = .ok (.iload_n 1, 1) := by decide +kernel
theorem d_Ars_copyOf_ALI_2 : decode prog_19_method_119_code 2 = .ok (.aload_n 0, 1) := by decide +kernel
theorem d_Ars_copyOf_ALI_3 : decode prog_19_method_119_code 3 = .ok (.invokevirtual 86, 3) := by decide +kernel
theorem d_Ars_copyOf_ALI_6 : decode prog_19_method_119_code 6 = .ok (.invokestatic 300, 3) := by decide +kernel
theorem d_Ars_copyOf_ALI_9 : decode prog_19_method_119_code 9 = .ok (.areturn, 1) := by decide +kernel
theorem d_Ars_copyOf_ALIL_0 : decode prog_19_method_120_code 0 = .ok (.aload_n 2, 1) := by decide +kernel
theorem d_Ars_copyOf_ALIL_1 : decode prog_19_method_120_code 1 = .ok (.ldc 110, 2) := by decide +kernel
theorem d_Ars_copyOf_ALIL_3 : decode prog_19_method_120_code 3 = .ok (.if_acmp .ne 10, 3) := by decide +kernel
theorem d_Ars_copyOf_ALIL_6 : decode prog_19_method_120_code 6 = .ok (.iload_n 1, 1) := by decide +kernel
theorem d_Ars_copyOf_ALIL_7 : decode prog_19_method_120_code 7 = .ok (.anewarray 2, 3) := by decide +kernel
theorem d_Ars_copyOf_ALIL_10 : decode prog_19_method_120_code 10 = .ok (.goto 14, 3) := by decide +kernel
theorem d_Ars_copyOf_ALIL_13 : decode prog_19_method_120_code 13 = .ok (.aload_n 2, 1) := by decide +kernel
theorem d_Ars_copyOf_ALIL_14 : decode prog_19_method_120_code 14 = .ok (.invokevirtual 90, 3) := by decide +kernel
theorem d_Ars_copyOf_ALIL_17 : decode prog_19_method_120_code 17 = .ok (.iload_n 1, 1) := by decide +kernel
theorem d_Ars_copyOf_ALIL_18 : decode prog_19_method_120_code 18 = .ok (.invokestatic 95, 3) := by decide +kernel
theorem d_Ars_copyOf_ALIL_21 : decode prog_19_method_120_code 21 = .ok (.checkcast 110, 3) := by decide +kernel
theorem d_Ars_copyOf_ALIL_24 : decode prog_19_method_120_code 24 = .ok (.astore_n 3, 1) := by decide +kernel
theorem d_Ars_copyOf_ALIL_25 : decode prog_19_method_120_code 25 = .ok (.aload_n 0, 1) := by decide +kernel
theorem d_Ars_copyOf_ALIL_26 : decode prog_19_method_120_code 26 = .ok (.iconst 0, 1) := by decide +kernel
theorem d_Ars_copyOf_ALIL_27 : decode prog_19_method_120_code 27 = .ok (.aload_n 3, 1) := by decide +kernel
theorem d_Ars_copyOf_ALIL_28 : decode prog_19_method_120_code 28 = .ok (.iconst 0, 1) := by decide +kernel
theorem d_Ars_copyOf_ALIL_29 : decode prog_19_method_120_code 29 = .ok (.aload_n 0, 1) := by decide +kernel
theorem d_Ars_copyOf_ALIL_30 : decode prog_19_method_120_code 30 = .ok (.arraylength, 1) := by decide +kernel
theorem d_Ars_copyOf_ALIL_31 : decode prog_19_method_120_code 31 = .ok (.iload_n 1, 1) := by decide +kernel
theorem d_Ars_copyOf_ALIL_32 : decode prog_19_method_120_code 32 = .ok (.invokestatic 304, 3) := by decide +kernel
theorem d_Ars_copyOf_ALIL_35 : decode prog_19_method_120_code 35 = .ok (.invokestatic 150, 3) := by decide +kernel
theorem d_Ars_copyOf_ALIL_38 : decode prog_19_method_120_code 38 = .ok (.aload_n 3, 1) := by decide +kernel
theorem d_Ars_copyOf_ALIL_39 : decode prog_19_method_120_code 39 = .ok (.areturn, 1) := by decide +kernel
theorem d_Obs_checkIndex_0 : decode prog_22_method_17_code 0 = .ok (.iload_n 0, 1) := by decide +kernel
theorem d_Obs_checkIndex_1 : decode prog_22_method_17_code 1 = .ok (.iload_n 1, 1) := by decide +kernel
theorem d_Obs_checkIndex_2 : decode prog_22_method_17_code 2 = .ok (.aconst_null, 1) := by decide +kernel
theorem d_Obs_checkIndex_3 : decode prog_22_method_17_code 3 = .ok (.invokestatic 105, 3) := by decide +kernel
theorem d_Obs_checkIndex_6 : decode prog_22_method_17_code 6 = .ok (.ireturn, 1) := by decide +kernel
theorem d_ASu_hugeLength_0 : decode prog_25_method_28_code 0 = .ok (.iload_n 0, 1) := by decide +kernel
theorem d_ASu_hugeLength_1 : decode prog_25_method_28_code 1 = .ok (.iload_n 1, 1) := by decide +kernel
theorem d_ASu_hugeLength_2 : decode prog_25_method_28_code 2 = .ok (.iadd, 1) := by decide +kernel
theorem d_ASu_hugeLength_3 : decode prog_25_method_28_code 3 = .ok (.istore_n 2, 1) := by decide +kernel
theorem d_ASu_hugeLength_4 : decode prog_25_method_28_code 4 = .ok (.iload_n 2, 1) := by decide +kernel
theorem d_ASu_hugeLength_5 : decode prog_25_method_28_code 5 = .ok (.ifCond .ge 44, 3) := by decide +kernel
theorem d_ASu_hugeLength_8 : decode prog_25_method_28_code 8 = .ok (.new 204, 3) := by decide +kernel
theorem d_ASu_hugeLength_11 : decode prog_25_method_28_code 11 = .ok (.dup, 1) := by decide +kernel
theorem d_ASu_hugeLength_12 : decode prog_25_method_28_code 12 = .ok (.new 89, 3) := by decide +kernel
theorem d_ASu_hugeLength_15 : decode prog_25_method_28_code 15 = .ok (.dup, 1) := by decide +kernel
theorem d_ASu_hugeLength_16 : decode prog_25_method_28_code 16 = .ok (.invokespecial 91, 3) := by decide +kernel
theorem d_ASu_hugeLength_19 : decode prog_25_method_28_code 19 = .ok (.ldc 206, 2) := by decide +kernel
theorem d_ASu_hugeLength_21 : decode prog_25_method_28_code 21 = .ok (.invokevirtual 94, 3) := by decide +kernel
theorem d_ASu_hugeLength_24 : decode prog_25_method_28_code 24 = .ok (.iload_n 0, 1) := by decide +kernel
theorem d_ASu_hugeLength_25 : decode prog_25_method_28_code 25 = .ok (.invokevirtual 98, 3) := by decide +kernel
theorem d_ASu_hugeLength_28 : decode prog_25_method_28_code 28 = .ok (.ldc 208, 2) := by decide +kernel
theorem d_ASu_hugeLength_30 : decode prog_25_method_28_code 30 = .ok (.invokevirtual 94, 3) := by decide +kernel
theorem d_ASu_hugeLength_33 : decode prog_25_method_28_code 33 = .ok (.iload_n 1, 1) := by decide +kernel
theorem d_ASu_hugeLength_34 : decode prog_25_method_28_code 34 = .ok (.invokevirtual 98, 3) := by decide +kernel
theorem d_ASu_hugeLength_37 : decode prog_25_method_28_code 37 = .ok (.ldc 210, 2) := by decide +kernel
theorem d_ASu_hugeLength_39 : decode prog_25_method_28_code 39 = .ok (.invokevirtual 94, 3) := by decide +kernel
theorem d_ASu_hugeLength_42 : decode prog_25_method_28_code 42 = .ok (.invokevirtual 101, 3) := by decide +kernel
theorem d_ASu_hugeLength_45 : decode prog_25_method_28_code 45 = .ok (.invokespecial 212, 3) := by decide +kernel
theorem d_ASu_hugeLength_48 : decode prog_25_method_28_code 48 = .ok (.athrow, 1) := by decide +kernel
theorem d_ASu_hugeLength_49 : decode prog_25_method_28_code 49 = .ok (.iload_n 2, 1) := by decide +kernel
theorem d_ASu_hugeLength_50 : decode prog_25_method_28_code 50 = .ok (.ldc 200, 2) := by decide +kernel
theorem d_ASu_hugeLength_52 : decode prog_25_method_28_code 52 = .ok (.if_icmp .gt 6, 3) := by decide +kernel
theorem d_ASu_hugeLength_55 : decode prog_25_method_28_code 55 = .ok (.ldc 200, 2) := by decide +kernel
theorem d_ASu_hugeLength_57 : decode prog_25_method_28_code 57 = .ok (.ireturn, 1) := by decide +kernel
theorem d_ASu_hugeLength_58 : decode prog_25_method_28_code 58 = .ok (.iload_n 2, 1) := by decide +kernel
theorem d_ASu_hugeLength_59 : decode prog_25_method_28_code 59 = .ok (.ireturn, 1) := by decide +kernel
theorem d_ASu_newLength_0 : decode prog_25_method_27_code 0 = .ok (.iload_n 0, 1) := by decide +kernel
theorem d_ASu_newLength_1 : decode prog_25_method_27_code 1 = .ok (.iload_n 1, 1) := by decide +kernel
theorem d_ASu_newLength_2 : decode prog_25_method_27_code 2 = .ok (.iload_n 2, 1) := by decide +kernel
theorem d_ASu_newLength_3 : decode prog_25_method_27_code 3 = .ok (.invokestatic 194, 3) := by decide +kernel
theorem d_ASu_newLength_6 : decode prog_25_method_27_code 6 = .ok (.iadd, 1) := by decide +kernel
theorem d_ASu_newLength_7 : decode prog_25_method_27_code 7 = .ok (.istore_n 3, 1) := by decide +kernel
theorem d_ASu_newLength_8 : decode prog_25_method_27_code 8 = .ok (.iconst 0, 1) := by decide +kernel
theorem d_ASu_newLength_9 : decode prog_25_method_27_code 9 = .ok (.iload_n 3, 1) := by decide +kernel
theorem d_ASu_newLength_10 : decode prog_25_method_27_code 10 = .ok (.if_icmp .ge 11, 3) := by decide +kernel
theorem d_ASu_newLength_13 : decode prog_25_method_27_code 13 = .ok (.iload_n 3, 1) := by decide +kernel
theorem d_ASu_newLength_14 : decode prog_25_method_27_code 14 = .ok (.ldc 200, 2) := by decide +kernel
theorem d_ASu_newLength_16 : decode prog_25_method_27_code 16 = .ok (.if_icmp .gt 5, 3) := by decide +kernel
theorem d_ASu_newLength_19 : decode prog_25_method_27_code 19 = .ok (.iload_n 3, 1) := by decide +kernel
theorem d_ASu_newLength_20 : decode prog_25_method_27_code 20 = .ok (.ireturn, 1) := by decide +kernel
theorem d_ASu_newLength_21 : decode prog_25_method_27_code 21 = .ok (.iload_n 0, 1) := by decide +kernel
theorem d_ASu_newLength_22 : decode prog_25_method_27_code 22 = .ok (.iload_n 1, 1) := by decide +kernel
theorem d_ASu_newLength_23 : decode prog_25_method_27_code 23 = .ok (.invokestatic 201, 3) := by decide +kernel
theorem d_ASu_newLength_26 : decode prog_25_method_27_code 26 = .ok (.ireturn, 1) := by decide +kernel
theorem d_Pre_checkIndex_0 : decode prog_26_method_11_code 0 = .ok (.iload_n 0, 1) := by decide +kernel
theorem d_Pre_checkIndex_1 : decode prog_26_method_11_code 1 = .ok (.ifCond .lt 8, 3) := by decide +kernel
theorem d_Pre_checkIndex_4 : decode prog_26_method_11_code 4 = .ok (.iload_n 0, 1) := by decide +kernel
theorem d_Pre_checkIndex_5 : decode prog_26_method_11_code 5 = .ok (.iload_n 1, 1) := by decide +kernel
theorem d_Pre_checkIndex_6 : decode prog_26_method_11_code 6 = .ok (.if_icmp .lt 10, 3) := by decide +kernel
theorem d_Pre_checkIndex_9 : decode prog_26_method_11_code 9 = .ok (.aload_n 2, 1) := by decide +kernel
theorem d_Pre_checkIndex_10 : decode prog_26_method_11_code 10 = .ok (.iload_n 0, 1) := by decide +kernel
theorem d_Pre_checkIndex_11 : decode prog_26_method_11_code 11 = .ok (.iload_n 1, 1) := by decide +kernel
theorem d_Pre_checkIndex_12 : decode prog_26_method_11_code 12 = .ok (.invokestatic 95, 3) := by decide +kernel
theorem d_Pre_checkIndex_15 : decode prog_26_method_11_code 15 = .ok (.athrow, 1) := by decide +kernel
theorem d_Pre_checkIndex_16 : decode prog_26_method_11_code 16 = .ok (.iload_n 0, 1) := by decide +kernel
theorem d_Pre_checkIndex_17 : decode prog_26_method_11_code 17 = .ok (.ireturn, 1) := by decide +kernel
