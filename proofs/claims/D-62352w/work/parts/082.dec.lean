theorem d_En_init_0 : decode prog_2_method_1_code 0 = .ok (.aload_n 0, 1) := by decide +kernel
theorem d_En_init_1 : decode prog_2_method_1_code 1 = .ok (.invokespecial 3, 3) := by decide +kernel
theorem d_En_init_4 : decode prog_2_method_1_code 4 = .ok (.aload_n 0, 1) := by decide +kernel
theorem d_En_init_5 : decode prog_2_method_1_code 5 = .ok (.iload_n 1, 1) := by decide +kernel
theorem d_En_init_6 : decode prog_2_method_1_code 6 = .ok (.putfield 9, 3) := by decide +kernel
theorem d_En_init_9 : decode prog_2_method_1_code 9 = .ok (.aload_n 0, 1) := by decide +kernel
theorem d_En_init_10 : decode prog_2_method_1_code 10 = .ok (.iload_n 2, 1) := by decide +kernel
theorem d_En_init_11 : decode prog_2_method_1_code 11 = .ok (.putfield 15, 3) := by decide +kernel
theorem d_En_init_14 : decode prog_2_method_1_code 14 = .ok (.aload_n 0, 1) := by decide +kernel
theorem d_En_init_15 : decode prog_2_method_1_code 15 = .ok (.iload_n 3, 1) := by decide +kernel
theorem d_En_init_16 : decode prog_2_method_1_code 16 = .ok (.putfield 18, 3) := by decide +kernel
theorem d_En_init_19 : decode prog_2_method_1_code 19 = .ok (.aload_n 0, 1) := by decide +kernel
theorem d_En_init_20 : decode prog_2_method_1_code 20 = .ok (.iload 4, 2) := by decide +kernel
theorem d_En_init_22 : decode prog_2_method_1_code 22 = .ok (.putfield 21, 3) := by decide +kernel
theorem d_En_init_25 : decode prog_2_method_1_code 25 = .ok (.aload_n 0, 1) := by decide +kernel
theorem d_En_init_26 : decode prog_2_method_1_code 26 = .ok (.iload 5, 2) := by decide +kernel
theorem d_En_init_28 : decode prog_2_method_1_code 28 = .ok (.putfield 25, 3) := by decide +kernel
theorem d_En_init_31 : decode prog_2_method_1_code 31 = .ok (.return_, 1) := by decide +kernel
theorem d_En_against_0 : decode prog_2_method_2_code 0 = .ok (.aload_n 0, 1) := by decide +kernel
theorem d_En_against_1 : decode prog_2_method_2_code 1 = .ok (.getfield 9, 3) := by decide +kernel
theorem d_En_against_4 : decode prog_2_method_2_code 4 = .ok (.aload_n 1, 1) := by decide +kernel
theorem d_En_against_5 : decode prog_2_method_2_code 5 = .ok (.getfield 9, 3) := by decide +kernel
theorem d_En_against_8 : decode prog_2_method_2_code 8 = .ok (.if_icmp .eq 15, 3) := by decide +kernel
theorem d_En_against_11 : decode prog_2_method_2_code 11 = .ok (.aload_n 0, 1) := by decide +kernel
theorem d_En_against_12 : decode prog_2_method_2_code 12 = .ok (.getfield 9, 3) := by decide +kernel
theorem d_En_against_15 : decode prog_2_method_2_code 15 = .ok (.aload_n 1, 1) := by decide +kernel
theorem d_En_against_16 : decode prog_2_method_2_code 16 = .ok (.getfield 9, 3) := by decide +kernel
theorem d_En_against_19 : decode prog_2_method_2_code 19 = .ok (.invokestatic 28, 3) := by decide +kernel
theorem d_En_against_22 : decode prog_2_method_2_code 22 = .ok (.ireturn, 1) := by decide +kernel
theorem d_En_against_23 : decode prog_2_method_2_code 23 = .ok (.aload_n 0, 1) := by decide +kernel
theorem d_En_against_24 : decode prog_2_method_2_code 24 = .ok (.getfield 15, 3) := by decide +kernel
theorem d_En_against_27 : decode prog_2_method_2_code 27 = .ok (.aload_n 1, 1) := by decide +kernel
theorem d_En_against_28 : decode prog_2_method_2_code 28 = .ok (.getfield 15, 3) := by decide +kernel
theorem d_En_against_31 : decode prog_2_method_2_code 31 = .ok (.if_icmp .eq 15, 3) := by decide +kernel
theorem d_En_against_34 : decode prog_2_method_2_code 34 = .ok (.aload_n 0, 1) := by decide +kernel
theorem d_En_against_35 : decode prog_2_method_2_code 35 = .ok (.getfield 15, 3) := by decide +kernel
theorem d_En_against_38 : decode prog_2_method_2_code 38 = .ok (.aload_n 1, 1) := by decide +kernel
theorem d_En_against_39 : decode prog_2_method_2_code 39 = .ok (.getfield 15, 3) := by decide +kernel
theorem d_En_against_42 : decode prog_2_method_2_code 42 = .ok (.invokestatic 28, 3) := by decide +kernel
theorem d_En_against_45 : decode prog_2_method_2_code 45 = .ok (.ireturn, 1) := by decide +kernel
theorem d_En_against_46 : decode prog_2_method_2_code 46 = .ok (.aload_n 0, 1) := by decide +kernel
theorem d_En_against_47 : decode prog_2_method_2_code 47 = .ok (.getfield 18, 3) := by decide +kernel
theorem d_En_against_50 : decode prog_2_method_2_code 50 = .ok (.aload_n 1, 1) := by decide +kernel
theorem d_En_against_51 : decode prog_2_method_2_code 51 = .ok (.getfield 18, 3) := by decide +kernel
theorem d_En_against_54 : decode prog_2_method_2_code 54 = .ok (.if_icmp .eq 39, 3) := by decide +kernel
theorem d_En_against_57 : decode prog_2_method_2_code 57 = .ok (.aload_n 0, 1) := by decide +kernel
theorem d_En_against_58 : decode prog_2_method_2_code 58 = .ok (.getfield 18, 3) := by decide +kernel
theorem d_En_against_61 : decode prog_2_method_2_code 61 = .ok (.iconst (-1), 1) := by decide +kernel
theorem d_En_against_62 : decode prog_2_method_2_code 62 = .ok (.if_icmp .ne 7, 3) := by decide +kernel
theorem d_En_against_65 : decode prog_2_method_2_code 65 = .ok (.iconst (-1), 1) := by decide +kernel
theorem d_En_against_66 : decode prog_2_method_2_code 66 = .ok (.goto 26, 3) := by decide +kernel
theorem d_En_against_69 : decode prog_2_method_2_code 69 = .ok (.aload_n 1, 1) := by decide +kernel
theorem d_En_against_70 : decode prog_2_method_2_code 70 = .ok (.getfield 18, 3) := by decide +kernel
theorem d_En_against_73 : decode prog_2_method_2_code 73 = .ok (.iconst (-1), 1) := by decide +kernel
theorem d_En_against_74 : decode prog_2_method_2_code 74 = .ok (.if_icmp .ne 7, 3) := by decide +kernel
theorem d_En_against_77 : decode prog_2_method_2_code 77 = .ok (.iconst 1, 1) := by decide +kernel
theorem d_En_against_78 : decode prog_2_method_2_code 78 = .ok (.goto 14, 3) := by decide +kernel
theorem d_En_against_81 : decode prog_2_method_2_code 81 = .ok (.aload_n 1, 1) := by decide +kernel
theorem d_En_against_82 : decode prog_2_method_2_code 82 = .ok (.getfield 18, 3) := by decide +kernel
theorem d_En_against_85 : decode prog_2_method_2_code 85 = .ok (.aload_n 0, 1) := by decide +kernel
theorem d_En_against_86 : decode prog_2_method_2_code 86 = .ok (.getfield 18, 3) := by decide +kernel
theorem d_En_against_89 : decode prog_2_method_2_code 89 = .ok (.invokestatic 28, 3) := by decide +kernel
theorem d_En_against_92 : decode prog_2_method_2_code 92 = .ok (.ireturn, 1) := by decide +kernel
theorem d_En_against_93 : decode prog_2_method_2_code 93 = .ok (.aload_n 1, 1) := by decide +kernel
theorem d_En_against_94 : decode prog_2_method_2_code 94 = .ok (.getfield 34, 3) := by decide +kernel
theorem d_En_against_97 : decode prog_2_method_2_code 97 = .ok (.aload_n 0, 1) := by decide +kernel
theorem d_En_against_98 : decode prog_2_method_2_code 98 = .ok (.getfield 34, 3) := by decide +kernel
theorem d_En_against_101 : decode prog_2_method_2_code 101 = .ok (.invokestatic 28, 3) := by decide +kernel
theorem d_En_against_104 : decode prog_2_method_2_code 104 = .ok (.ireturn, 1) := by decide +kernel
theorem d_En_packed_0 : decode prog_2_method_3_code 0 = .ok (.aload_n 0, 1) := by decide +kernel
theorem d_En_packed_1 : decode prog_2_method_3_code 1 = .ok (.getfield 25, 3) := by decide +kernel
theorem d_En_packed_4 : decode prog_2_method_3_code 4 = .ok (.i2l, 1) := by decide +kernel
theorem d_En_packed_5 : decode prog_2_method_3_code 5 = .ok (.ldc2_w 37, 3) := by decide +kernel
theorem d_En_packed_8 : decode prog_2_method_3_code 8 = .ok (.land, 1) := by decide +kernel
theorem d_En_packed_9 : decode prog_2_method_3_code 9 = .ok (.lreturn, 1) := by decide +kernel
theorem d_Mt_init_0 : decode prog_3_method_1_code 0 = .ok (.aload_n 0, 1) := by decide +kernel
theorem d_Mt_init_1 : decode prog_3_method_1_code 1 = .ok (.invokespecial 1, 3) := by decide +kernel
theorem d_Mt_init_4 : decode prog_3_method_1_code 4 = .ok (.aload_n 0, 1) := by decide +kernel
theorem d_Mt_init_5 : decode prog_3_method_1_code 5 = .ok (.new 7, 3) := by decide +kernel
theorem d_Mt_init_8 : decode prog_3_method_1_code 8 = .ok (.dup, 1) := by decide +kernel
theorem d_Mt_init_9 : decode prog_3_method_1_code 9 = .ok (.invokespecial 9, 3) := by decide +kernel
theorem d_Mt_init_12 : decode prog_3_method_1_code 12 = .ok (.putfield 10, 3) := by decide +kernel
theorem d_Mt_init_15 : decode prog_3_method_1_code 15 = .ok (.return_, 1) := by decide +kernel
theorem d_Mt_size_0 : decode prog_3_method_2_code 0 = .ok (.aload_n 0, 1) := by decide +kernel
theorem d_Mt_size_1 : decode prog_3_method_2_code 1 = .ok (.getfield 10, 3) := by decide +kernel
theorem d_Mt_size_4 : decode prog_3_method_2_code 4 = .ok (.invokevirtual 16, 3) := by decide +kernel
theorem d_Mt_size_7 : decode prog_3_method_2_code 7 = .ok (.ireturn, 1) := by decide +kernel
theorem d_Mt_at_0 : decode prog_3_method_3_code 0 = .ok (.aload_n 0, 1) := by decide +kernel
theorem d_Mt_at_1 : decode prog_3_method_3_code 1 = .ok (.getfield 10, 3) := by decide +kernel
theorem d_Mt_at_4 : decode prog_3_method_3_code 4 = .ok (.iload_n 1, 1) := by decide +kernel
theorem d_Mt_at_5 : decode prog_3_method_3_code 5 = .ok (.invokevirtual 20, 3) := by decide +kernel
theorem d_Mt_at_8 : decode prog_3_method_3_code 8 = .ok (.checkcast 24, 3) := by decide +kernel
theorem d_Mt_at_11 : decode prog_3_method_3_code 11 = .ok (.areturn, 1) := by decide +kernel
theorem d_Mt_insert_0 : decode prog_3_method_4_code 0 = .ok (.iconst 0, 1) := by decide +kernel
theorem d_Mt_insert_1 : decode prog_3_method_4_code 1 = .ok (.istore_n 2, 1) := by decide +kernel
theorem d_Mt_insert_2 : decode prog_3_method_4_code 2 = .ok (.aload_n 0, 1) := by decide +kernel
theorem d_Mt_insert_3 : decode prog_3_method_4_code 3 = .ok (.getfield 10, 3) := by decide +kernel
theorem d_Mt_insert_6 : decode prog_3_method_4_code 6 = .ok (.invokevirtual 16, 3) := by decide +kernel
theorem d_Mt_insert_9 : decode prog_3_method_4_code 9 = .ok (.istore_n 3, 1) := by decide +kernel
theorem d_Mt_insert_10 : decode prog_3_method_4_code 10 = .ok (.iload_n 2, 1) := by decide +kernel
theorem d_Mt_insert_11 : decode prog_3_method_4_code 11 = .ok (.iload_n 3, 1) := by decide +kernel
theorem d_Mt_insert_12 : decode prog_3_method_4_code 12 = .ok (.if_icmp .ge 43, 3) := by decide +kernel
theorem d_Mt_insert_15 : decode prog_3_method_4_code 15 = .ok (.iload_n 2, 1) := by decide +kernel
theorem d_Mt_insert_16 : decode prog_3_method_4_code 16 = .ok (.iload_n 3, 1) := by decide +kernel
theorem d_Mt_insert_17 : decode prog_3_method_4_code 17 = .ok (.iadd, 1) := by decide +kernel
theorem d_Mt_insert_18 : decode prog_3_method_4_code 18 = .ok (.iconst 2, 1) := by decide +kernel
theorem d_Mt_insert_19 : decode prog_3_method_4_code 19 = .ok (.idiv, 1) := by decide +kernel
theorem d_Mt_insert_20 : decode prog_3_method_4_code 20 = .ok (.istore 4, 2) := by decide +kernel
theorem d_Mt_insert_22 : decode prog_3_method_4_code 22 = .ok (.aload_n 0, 1) := by decide +kernel
theorem d_Mt_insert_23 : decode prog_3_method_4_code 23 = .ok (.getfield 10, 3) := by decide +kernel
theorem d_Mt_insert_26 : decode prog_3_method_4_code 26 = .ok (.iload 4, 2) := by decide +kernel
theorem d_Mt_insert_28 : decode prog_3_method_4_code 28 = .ok (.invokevirtual 20, 3) := by decide +kernel
theorem d_Mt_insert_31 : decode prog_3_method_4_code 31 = .ok (.checkcast 24, 3) := by decide +kernel
theorem d_Mt_insert_34 : decode prog_3_method_4_code 34 = .ok (.aload_n 1, 1) := by decide +kernel
theorem d_Mt_insert_35 : decode prog_3_method_4_code 35 = .ok (.invokevirtual 26, 3) := by decide +kernel
theorem d_Mt_insert_38 : decode prog_3_method_4_code 38 = .ok (.ifCond .ge 11, 3) := by decide +kernel
theorem d_Mt_insert_41 : decode prog_3_method_4_code 41 = .ok (.iload 4, 2) := by decide +kernel
theorem d_Mt_insert_43 : decode prog_3_method_4_code 43 = .ok (.iconst 1, 1) := by decide +kernel
theorem d_Mt_insert_44 : decode prog_3_method_4_code 44 = .ok (.iadd, 1) := by decide +kernel
theorem d_Mt_insert_45 : decode prog_3_method_4_code 45 = .ok (.istore_n 2, 1) := by decide +kernel
theorem d_Mt_insert_46 : decode prog_3_method_4_code 46 = .ok (.goto 6, 3) := by decide +kernel
theorem d_Mt_insert_49 : decode prog_3_method_4_code 49 = .ok (.iload 4, 2) := by decide +kernel
theorem d_Mt_insert_51 : decode prog_3_method_4_code 51 = .ok (.istore_n 3, 1) := by decide +kernel
theorem d_Mt_insert_52 : decode prog_3_method_4_code 52 = .ok (.goto (-42), 3) := by decide +kernel
theorem d_Mt_insert_55 : decode prog_3_method_4_code 55 = .ok (.aload_n 0, 1) := by decide +kernel
theorem d_Mt_insert_56 : decode prog_3_method_4_code 56 = .ok (.getfield 10, 3) := by decide +kernel
theorem d_Mt_insert_59 : decode prog_3_method_4_code 59 = .ok (.iload_n 2, 1) := by decide +kernel
theorem d_Mt_insert_60 : decode prog_3_method_4_code 60 = .ok (.aload_n 1, 1) := by decide +kernel
theorem d_Mt_insert_61 : decode prog_3_method_4_code 61 = .ok (.invokevirtual 30, 3) := by decide +kernel
theorem d_Mt_insert_64 : decode prog_3_method_4_code 64 = .ok (.return_, 1) := by decide +kernel
theorem d_Mg_init_0 : decode prog_4_method_1_code 0 = .ok (.aload_n 0, 1) := by decide +kernel
theorem d_Mg_init_1 : decode prog_4_method_1_code 1 = .ok (.invokespecial 3, 3) := by decide +kernel
theorem d_Mg_init_4 : decode prog_4_method_1_code 4 = .ok (.aload_n 0, 1) := by decide +kernel
theorem d_Mg_init_5 : decode prog_4_method_1_code 5 = .ok (.new 9, 3) := by decide +kernel
theorem d_Mg_init_8 : decode prog_4_method_1_code 8 = .ok (.dup, 1) := by decide +kernel
theorem d_Mg_init_9 : decode prog_4_method_1_code 9 = .ok (.invokespecial 11, 3) := by decide +kernel
theorem d_Mg_init_12 : decode prog_4_method_1_code 12 = .ok (.putfield 12, 3) := by decide +kernel
theorem d_Mg_init_15 : decode prog_4_method_1_code 15 = .ok (.aload_n 0, 1) := by decide +kernel
theorem d_Mg_init_16 : decode prog_4_method_1_code 16 = .ok (.sipush 300, 3) := by decide +kernel
theorem d_Mg_init_19 : decode prog_4_method_1_code 19 = .ok (.newarray .int, 2) := by decide +kernel
theorem d_Mg_init_21 : decode prog_4_method_1_code 21 = .ok (.putfield 18, 3) := by decide +kernel
theorem d_Mg_init_24 : decode prog_4_method_1_code 24 = .ok (.aload_n 0, 1) := by decide +kernel
theorem d_Mg_init_25 : decode prog_4_method_1_code 25 = .ok (.new 9, 3) := by decide +kernel
theorem d_Mg_init_28 : decode prog_4_method_1_code 28 = .ok (.dup, 1) := by decide +kernel
theorem d_Mg_init_29 : decode prog_4_method_1_code 29 = .ok (.invokespecial 11, 3) := by decide +kernel
theorem d_Mg_init_32 : decode prog_4_method_1_code 32 = .ok (.putfield 22, 3) := by decide +kernel
theorem d_Mg_init_35 : decode prog_4_method_1_code 35 = .ok (.return_, 1) := by decide +kernel
theorem d_Mg_begin_0 : decode prog_4_method_2_code 0 = .ok (.aload_n 0, 1) := by decide +kernel
theorem d_Mg_begin_1 : decode prog_4_method_2_code 1 = .ok (.getfield 12, 3) := by decide +kernel
theorem d_Mg_begin_4 : decode prog_4_method_2_code 4 = .ok (.invokevirtual 25, 3) := by decide +kernel
theorem d_Mg_begin_7 : decode prog_4_method_2_code 7 = .ok (.aload_n 0, 1) := by decide +kernel
theorem d_Mg_begin_8 : decode prog_4_method_2_code 8 = .ok (.getfield 22, 3) := by decide +kernel
theorem d_Mg_begin_11 : decode prog_4_method_2_code 11 = .ok (.invokevirtual 25, 3) := by decide +kernel
theorem d_Mg_begin_14 : decode prog_4_method_2_code 14 = .ok (.aload_n 0, 1) := by decide +kernel
theorem d_Mg_begin_15 : decode prog_4_method_2_code 15 = .ok (.iconst (-1), 1) := by decide +kernel
theorem d_Mg_begin_16 : decode prog_4_method_2_code 16 = .ok (.putfield 28, 3) := by decide +kernel
theorem d_Mg_begin_19 : decode prog_4_method_2_code 19 = .ok (.return_, 1) := by decide +kernel
theorem d_Mg_add_0 : decode prog_4_method_3_code 0 = .ok (.aload_n 1, 1) := by decide +kernel
theorem d_Mg_add_1 : decode prog_4_method_3_code 1 = .ok (.invokeinterface 32 1, 5) := by decide +kernel
theorem d_Mg_add_6 : decode prog_4_method_3_code 6 = .ok (.ifCond .le 12, 3) := by decide +kernel
theorem d_Mg_add_9 : decode prog_4_method_3_code 9 = .ok (.aload_n 0, 1) := by decide +kernel
theorem d_Mg_add_10 : decode prog_4_method_3_code 10 = .ok (.getfield 12, 3) := by decide +kernel
theorem d_Mg_add_13 : decode prog_4_method_3_code 13 = .ok (.aload_n 1, 1) := by decide +kernel
theorem d_Mg_add_14 : decode prog_4_method_3_code 14 = .ok (.invokevirtual 38, 3) := by decide +kernel
theorem d_Mg_add_17 : decode prog_4_method_3_code 17 = .ok (.pop, 1) := by decide +kernel
theorem d_Mg_add_18 : decode prog_4_method_3_code 18 = .ok (.return_, 1) := by decide +kernel
theorem d_Mg_next_0 : decode prog_4_method_4_code 0 = .ok (.aconst_null, 1) := by decide +kernel
theorem d_Mg_next_1 : decode prog_4_method_4_code 1 = .ok (.astore_n 2, 1) := by decide +kernel
theorem d_Mg_next_2 : decode prog_4_method_4_code 2 = .ok (.iconst 0, 1) := by decide +kernel
theorem d_Mg_next_3 : decode prog_4_method_4_code 3 = .ok (.istore_n 3, 1) := by decide +kernel
theorem d_Mg_next_4 : decode prog_4_method_4_code 4 = .ok (.iconst 0, 1) := by decide +kernel
theorem d_Mg_next_5 : decode prog_4_method_4_code 5 = .ok (.istore 4, 2) := by decide +kernel
theorem d_Mg_next_7 : decode prog_4_method_4_code 7 = .ok (.iload 4, 2) := by decide +kernel
theorem d_Mg_next_9 : decode prog_4_method_4_code 9 = .ok (.aload_n 0, 1) := by decide +kernel
theorem d_Mg_next_10 : decode prog_4_method_4_code 10 = .ok (.getfield 12, 3) := by decide +kernel
theorem d_Mg_next_13 : decode prog_4_method_4_code 13 = .ok (.invokevirtual 42, 3) := by decide +kernel
theorem d_Mg_next_16 : decode prog_4_method_4_code 16 = .ok (.if_icmp .ge 93, 3) := by decide +kernel
theorem d_Mg_next_19 : decode prog_4_method_4_code 19 = .ok (.aload_n 0, 1) := by decide +kernel
theorem d_Mg_next_20 : decode prog_4_method_4_code 20 = .ok (.getfield 12, 3) := by decide +kernel
theorem d_Mg_next_23 : decode prog_4_method_4_code 23 = .ok (.iload 4, 2) := by decide +kernel
theorem d_Mg_next_25 : decode prog_4_method_4_code 25 = .ok (.invokevirtual 43, 3) := by decide +kernel
theorem d_Mg_next_28 : decode prog_4_method_4_code 28 = .ok (.checkcast 33, 3) := by decide +kernel
theorem d_Mg_next_31 : decode prog_4_method_4_code 31 = .ok (.astore 5, 2) := by decide +kernel
theorem d_Mg_next_33 : decode prog_4_method_4_code 33 = .ok (.aload_n 0, 1) := by decide +kernel
theorem d_Mg_next_34 : decode prog_4_method_4_code 34 = .ok (.getfield 18, 3) := by decide +kernel
theorem d_Mg_next_37 : decode prog_4_method_4_code 37 = .ok (.iload 4, 2) := by decide +kernel
theorem d_Mg_next_39 : decode prog_4_method_4_code 39 = .ok (.iaload, 1) := by decide +kernel
theorem d_Mg_next_40 : decode prog_4_method_4_code 40 = .ok (.aload 5, 2) := by decide +kernel
theorem d_Mg_next_42 : decode prog_4_method_4_code 42 = .ok (.invokeinterface 32 1, 5) := by decide +kernel
theorem d_Mg_next_47 : decode prog_4_method_4_code 47 = .ok (.if_icmp .ge 20, 3) := by decide +kernel
theorem d_Mg_next_50 : decode prog_4_method_4_code 50 = .ok (.aload 5, 2) := by decide +kernel
theorem d_Mg_next_52 : decode prog_4_method_4_code 52 = .ok (.aload_n 0, 1) := by decide +kernel
theorem d_Mg_next_53 : decode prog_4_method_4_code 53 = .ok (.getfield 18, 3) := by decide +kernel
theorem d_Mg_next_56 : decode prog_4_method_4_code 56 = .ok (.iload 4, 2) := by decide +kernel
theorem d_Mg_next_58 : decode prog_4_method_4_code 58 = .ok (.iaload, 1) := by decide +kernel
theorem d_Mg_next_59 : decode prog_4_method_4_code 59 = .ok (.invokeinterface 47 2, 5) := by decide +kernel
theorem d_Mg_next_64 : decode prog_4_method_4_code 64 = .ok (.goto 4, 3) := by decide +kernel
theorem d_Mg_next_67 : decode prog_4_method_4_code 67 = .ok (.aconst_null, 1) := by decide +kernel
theorem d_Mg_next_68 : decode prog_4_method_4_code 68 = .ok (.astore 6, 2) := by decide +kernel
theorem d_Mg_next_70 : decode prog_4_method_4_code 70 = .ok (.aload 6, 2) := by decide +kernel
theorem d_Mg_next_72 : decode prog_4_method_4_code 72 = .ok (.ifnull 31, 3) := by decide +kernel
theorem d_Mg_next_75 : decode prog_4_method_4_code 75 = .ok (.aload 6, 2) := by decide +kernel
theorem d_Mg_next_77 : decode prog_4_method_4_code 77 = .ok (.getfield 50, 3) := by decide +kernel
theorem d_Mg_next_80 : decode prog_4_method_4_code 80 = .ok (.iload_n 1, 1) := by decide +kernel
theorem d_Mg_next_81 : decode prog_4_method_4_code 81 = .ok (.if_icmp .ge 22, 3) := by decide +kernel
theorem d_Mg_next_84 : decode prog_4_method_4_code 84 = .ok (.aload_n 2, 1) := by decide +kernel
theorem d_Mg_next_85 : decode prog_4_method_4_code 85 = .ok (.ifnull 12, 3) := by decide +kernel
theorem d_Mg_next_88 : decode prog_4_method_4_code 88 = .ok (.aload 6, 2) := by decide +kernel
theorem d_Mg_next_90 : decode prog_4_method_4_code 90 = .ok (.aload_n 2, 1) := by decide +kernel
theorem d_Mg_next_91 : decode prog_4_method_4_code 91 = .ok (.invokevirtual 53, 3) := by decide +kernel
theorem d_Mg_next_94 : decode prog_4_method_4_code 94 = .ok (.ifCond .ge 9, 3) := by decide +kernel
theorem d_Mg_next_97 : decode prog_4_method_4_code 97 = .ok (.aload 6, 2) := by decide +kernel
theorem d_Mg_next_99 : decode prog_4_method_4_code 99 = .ok (.astore_n 2, 1) := by decide +kernel
theorem d_Mg_next_100 : decode prog_4_method_4_code 100 = .ok (.iload 4, 2) := by decide +kernel
theorem d_Mg_next_102 : decode prog_4_method_4_code 102 = .ok (.istore_n 3, 1) := by decide +kernel
theorem d_Mg_next_103 : decode prog_4_method_4_code 103 = .ok (.iinc 4 1, 3) := by decide +kernel
theorem d_Mg_next_106 : decode prog_4_method_4_code 106 = .ok (.goto (-99), 3) := by decide +kernel
theorem d_Mg_next_109 : decode prog_4_method_4_code 109 = .ok (.aload_n 2, 1) := by decide +kernel
theorem d_Mg_next_110 : decode prog_4_method_4_code 110 = .ok (.ifnull 13, 3) := by decide +kernel
theorem d_Mg_next_113 : decode prog_4_method_4_code 113 = .ok (.aload_n 0, 1) := by decide +kernel
theorem d_Mg_next_114 : decode prog_4_method_4_code 114 = .ok (.getfield 18, 3) := by decide +kernel
theorem d_Mg_next_117 : decode prog_4_method_4_code 117 = .ok (.iload_n 3, 1) := by decide +kernel
theorem d_Mg_next_118 : decode prog_4_method_4_code 118 = .ok (.dup2, 1) := by decide +kernel
theorem d_Mg_next_119 : decode prog_4_method_4_code 119 = .ok (.iaload, 1) := by decide +kernel
theorem d_Mg_next_120 : decode prog_4_method_4_code 120 = .ok (.iconst 1, 1) := by decide +kernel
theorem d_Mg_next_121 : decode prog_4_method_4_code 121 = .ok (.iadd, 1) := by decide +kernel
theorem d_Mg_next_122 : decode prog_4_method_4_code 122 = .ok (.iastore, 1) := by decide +kernel
theorem d_Mg_next_123 : decode prog_4_method_4_code 123 = .ok (.aload_n 2, 1) := by decide +kernel
theorem d_Mg_next_124 : decode prog_4_method_4_code 124 = .ok (.areturn, 1) := by decide +kernel
theorem d_Mg_enter_0 : decode prog_4_method_5_code 0 = .ok (.aload_n 1, 1) := by decide +kernel
theorem d_Mg_enter_1 : decode prog_4_method_5_code 1 = .ok (.getfield 50, 3) := by decide +kernel
theorem d_Mg_enter_4 : decode prog_4_method_5_code 4 = .ok (.aload_n 0, 1) := by decide +kernel
theorem d_Mg_enter_5 : decode prog_4_method_5_code 5 = .ok (.getfield 28, 3) := by decide +kernel
theorem d_Mg_enter_8 : decode prog_4_method_5_code 8 = .ok (.if_icmp .eq 31, 3) := by decide +kernel
theorem d_Mg_enter_11 : decode prog_4_method_5_code 11 = .ok (.aload_n 0, 1) := by decide +kernel
theorem d_Mg_enter_12 : decode prog_4_method_5_code 12 = .ok (.aload_n 1, 1) := by decide +kernel
theorem d_Mg_enter_13 : decode prog_4_method_5_code 13 = .ok (.getfield 50, 3) := by decide +kernel
theorem d_Mg_enter_16 : decode prog_4_method_5_code 16 = .ok (.putfield 28, 3) := by decide +kernel
theorem d_Mg_enter_19 : decode prog_4_method_5_code 19 = .ok (.aload_n 0, 1) := by decide +kernel
theorem d_Mg_enter_20 : decode prog_4_method_5_code 20 = .ok (.iconst 0, 1) := by decide +kernel
theorem d_Mg_enter_21 : decode prog_4_method_5_code 21 = .ok (.putfield 57, 3) := by decide +kernel
theorem d_Mg_enter_24 : decode prog_4_method_5_code 24 = .ok (.aload_n 0, 1) := by decide +kernel
theorem d_Mg_enter_25 : decode prog_4_method_5_code 25 = .ok (.iconst (-1), 1) := by decide +kernel
theorem d_Mg_enter_26 : decode prog_4_method_5_code 26 = .ok (.putfield 60, 3) := by decide +kernel
theorem d_Mg_enter_29 : decode prog_4_method_5_code 29 = .ok (.aload_n 0, 1) := by decide +kernel
theorem d_Mg_enter_30 : decode prog_4_method_5_code 30 = .ok (.iconst 0, 1) := by decide +kernel
theorem d_Mg_enter_31 : decode prog_4_method_5_code 31 = .ok (.putfield 63, 3) := by decide +kernel
theorem d_Mg_enter_34 : decode prog_4_method_5_code 34 = .ok (.aload_n 0, 1) := by decide +kernel
theorem d_Mg_enter_35 : decode prog_4_method_5_code 35 = .ok (.iconst (-1), 1) := by decide +kernel
theorem d_Mg_enter_36 : decode prog_4_method_5_code 36 = .ok (.putfield 66, 3) := by decide +kernel
theorem d_Mg_enter_39 : decode prog_4_method_5_code 39 = .ok (.aload_n 1, 1) := by decide +kernel
theorem d_Mg_enter_40 : decode prog_4_method_5_code 40 = .ok (.getfield 69, 3) := by decide +kernel
theorem d_Mg_enter_43 : decode prog_4_method_5_code 43 = .ok (.aload_n 0, 1) := by decide +kernel
theorem d_Mg_enter_44 : decode prog_4_method_5_code 44 = .ok (.getfield 60, 3) := by decide +kernel
theorem d_Mg_enter_47 : decode prog_4_method_5_code 47 = .ok (.if_icmp .eq 21, 3) := by decide +kernel
theorem d_Mg_enter_50 : decode prog_4_method_5_code 50 = .ok (.aload_n 0, 1) := by decide +kernel
theorem d_Mg_enter_51 : decode prog_4_method_5_code 51 = .ok (.aload_n 1, 1) := by decide +kernel
theorem d_Mg_enter_52 : decode prog_4_method_5_code 52 = .ok (.getfield 69, 3) := by decide +kernel
theorem d_Mg_enter_55 : decode prog_4_method_5_code 55 = .ok (.putfield 60, 3) := by decide +kernel
theorem d_Mg_enter_58 : decode prog_4_method_5_code 58 = .ok (.aload_n 0, 1) := by decide +kernel
theorem d_Mg_enter_59 : decode prog_4_method_5_code 59 = .ok (.iconst 0, 1) := by decide +kernel
theorem d_Mg_enter_60 : decode prog_4_method_5_code 60 = .ok (.putfield 63, 3) := by decide +kernel
theorem d_Mg_enter_63 : decode prog_4_method_5_code 63 = .ok (.aload_n 0, 1) := by decide +kernel
theorem d_Mg_enter_64 : decode prog_4_method_5_code 64 = .ok (.iconst (-1), 1) := by decide +kernel
theorem d_Mg_enter_65 : decode prog_4_method_5_code 65 = .ok (.putfield 66, 3) := by decide +kernel
theorem d_Mg_enter_68 : decode prog_4_method_5_code 68 = .ok (.return_, 1) := by decide +kernel
theorem d_Mg_stands_0 : decode prog_4_method_6_code 0 = .ok (.aload_n 0, 1) := by decide +kernel
theorem d_Mg_stands_1 : decode prog_4_method_6_code 1 = .ok (.aload_n 1, 1) := by decide +kernel
theorem d_Mg_stands_2 : decode prog_4_method_6_code 2 = .ok (.invokevirtual 70, 3) := by decide +kernel
theorem d_Mg_stands_5 : decode prog_4_method_6_code 5 = .ok (.aload_n 1, 1) := by decide +kernel
theorem d_Mg_stands_6 : decode prog_4_method_6_code 6 = .ok (.getfield 74, 3) := by decide +kernel
theorem d_Mg_stands_9 : decode prog_4_method_6_code 9 = .ok (.aload_n 0, 1) := by decide +kernel
theorem d_Mg_stands_10 : decode prog_4_method_6_code 10 = .ok (.getfield 57, 3) := by decide +kernel
theorem d_Mg_stands_13 : decode prog_4_method_6_code 13 = .ok (.if_icmp .le 18, 3) := by decide +kernel
theorem d_Mg_stands_16 : decode prog_4_method_6_code 16 = .ok (.aload_n 1, 1) := by decide +kernel
theorem d_Mg_stands_17 : decode prog_4_method_6_code 17 = .ok (.getfield 74, 3) := by decide +kernel
theorem d_Mg_stands_20 : decode prog_4_method_6_code 20 = .ok (.aload_n 0, 1) := by decide +kernel
theorem d_Mg_stands_21 : decode prog_4_method_6_code 21 = .ok (.getfield 63, 3) := by decide +kernel
theorem d_Mg_stands_24 : decode prog_4_method_6_code 24 = .ok (.if_icmp .le 7, 3) := by decide +kernel
theorem d_Mg_stands_27 : decode prog_4_method_6_code 27 = .ok (.iconst 1, 1) := by decide +kernel
theorem d_Mg_stands_28 : decode prog_4_method_6_code 28 = .ok (.goto 4, 3) := by decide +kernel
theorem d_Mg_stands_31 : decode prog_4_method_6_code 31 = .ok (.iconst 0, 1) := by decide +kernel
theorem d_Mg_stands_32 : decode prog_4_method_6_code 32 = .ok (.istore_n 2, 1) := by decide +kernel
theorem d_Mg_stands_33 : decode prog_4_method_6_code 33 = .ok (.aload_n 1, 1) := by decide +kernel
theorem d_Mg_stands_34 : decode prog_4_method_6_code 34 = .ok (.getfield 69, 3) := by decide +kernel
theorem d_Mg_stands_37 : decode prog_4_method_6_code 37 = .ok (.iconst (-1), 1) := by decide +kernel
theorem d_Mg_stands_38 : decode prog_4_method_6_code 38 = .ok (.if_icmp .ne 21, 3) := by decide +kernel
theorem d_Mg_stands_41 : decode prog_4_method_6_code 41 = .ok (.aload_n 0, 1) := by decide +kernel
theorem d_Mg_stands_42 : decode prog_4_method_6_code 42 = .ok (.aload_n 0, 1) := by decide +kernel
theorem d_Mg_stands_43 : decode prog_4_method_6_code 43 = .ok (.getfield 57, 3) := by decide +kernel
theorem d_Mg_stands_46 : decode prog_4_method_6_code 46 = .ok (.aload_n 1, 1) := by decide +kernel
theorem d_Mg_stands_47 : decode prog_4_method_6_code 47 = .ok (.getfield 74, 3) := by decide +kernel
theorem d_Mg_stands_50 : decode prog_4_method_6_code 50 = .ok (.invokestatic 77, 3) := by decide +kernel
theorem d_Mg_stands_53 : decode prog_4_method_6_code 53 = .ok (.putfield 57, 3) := by decide +kernel
theorem d_Mg_stands_56 : decode prog_4_method_6_code 56 = .ok (.goto 56, 3) := by decide +kernel
theorem d_Mg_stands_59 : decode prog_4_method_6_code 59 = .ok (.aload_n 1, 1) := by decide +kernel
theorem d_Mg_stands_60 : decode prog_4_method_6_code 60 = .ok (.getfield 83, 3) := by decide +kernel
theorem d_Mg_stands_63 : decode prog_4_method_6_code 63 = .ok (.iconst (-1), 1) := by decide +kernel
theorem d_Mg_stands_64 : decode prog_4_method_6_code 64 = .ok (.if_icmp .ne 21, 3) := by decide +kernel
theorem d_Mg_stands_67 : decode prog_4_method_6_code 67 = .ok (.aload_n 0, 1) := by decide +kernel
theorem d_Mg_stands_68 : decode prog_4_method_6_code 68 = .ok (.aload_n 0, 1) := by decide +kernel
theorem d_Mg_stands_69 : decode prog_4_method_6_code 69 = .ok (.getfield 63, 3) := by decide +kernel
theorem d_Mg_stands_72 : decode prog_4_method_6_code 72 = .ok (.aload_n 1, 1) := by decide +kernel
theorem d_Mg_stands_73 : decode prog_4_method_6_code 73 = .ok (.getfield 74, 3) := by decide +kernel
theorem d_Mg_stands_76 : decode prog_4_method_6_code 76 = .ok (.invokestatic 77, 3) := by decide +kernel
theorem d_Mg_stands_79 : decode prog_4_method_6_code 79 = .ok (.putfield 63, 3) := by decide +kernel
theorem d_Mg_stands_82 : decode prog_4_method_6_code 82 = .ok (.goto 30, 3) := by decide +kernel
theorem d_Mg_stands_85 : decode prog_4_method_6_code 85 = .ok (.iload_n 2, 1) := by decide +kernel
theorem d_Mg_stands_86 : decode prog_4_method_6_code 86 = .ok (.aload_n 1, 1) := by decide +kernel
theorem d_Mg_stands_87 : decode prog_4_method_6_code 87 = .ok (.getfield 83, 3) := by decide +kernel
theorem d_Mg_stands_90 : decode prog_4_method_6_code 90 = .ok (.aload_n 0, 1) := by decide +kernel
theorem d_Mg_stands_91 : decode prog_4_method_6_code 91 = .ok (.getfield 66, 3) := by decide +kernel
theorem d_Mg_stands_94 : decode prog_4_method_6_code 94 = .ok (.if_icmp .eq 7, 3) := by decide +kernel
theorem d_Mg_stands_97 : decode prog_4_method_6_code 97 = .ok (.iconst 1, 1) := by decide +kernel
theorem d_Mg_stands_98 : decode prog_4_method_6_code 98 = .ok (.goto 4, 3) := by decide +kernel
theorem d_Mg_stands_101 : decode prog_4_method_6_code 101 = .ok (.iconst 0, 1) := by decide +kernel
theorem d_Mg_stands_102 : decode prog_4_method_6_code 102 = .ok (.iand, 1) := by decide +kernel
theorem d_Mg_stands_103 : decode prog_4_method_6_code 103 = .ok (.istore_n 2, 1) := by decide +kernel
theorem d_Mg_stands_104 : decode prog_4_method_6_code 104 = .ok (.aload_n 0, 1) := by decide +kernel
theorem d_Mg_stands_105 : decode prog_4_method_6_code 105 = .ok (.aload_n 1, 1) := by decide +kernel
theorem d_Mg_stands_106 : decode prog_4_method_6_code 106 = .ok (.getfield 83, 3) := by decide +kernel
theorem d_Mg_stands_109 : decode prog_4_method_6_code 109 = .ok (.putfield 66, 3) := by decide +kernel
theorem d_Mg_stands_112 : decode prog_4_method_6_code 112 = .ok (.iload_n 2, 1) := by decide +kernel
theorem d_Mg_stands_113 : decode prog_4_method_6_code 113 = .ok (.ireturn, 1) := by decide +kernel
theorem d_Mg_merge_0 : decode prog_4_method_7_code 0 = .ok (.iconst 0, 1) := by decide +kernel
theorem d_Mg_merge_1 : decode prog_4_method_7_code 1 = .ok (.istore_n 3, 1) := by decide +kernel
theorem d_Mg_merge_2 : decode prog_4_method_7_code 2 = .ok (.iload_n 3, 1) := by decide +kernel
theorem d_Mg_merge_3 : decode prog_4_method_7_code 3 = .ok (.aload_n 0, 1) := by decide +kernel
theorem d_Mg_merge_4 : decode prog_4_method_7_code 4 = .ok (.getfield 12, 3) := by decide +kernel
theorem d_Mg_merge_7 : decode prog_4_method_7_code 7 = .ok (.invokevirtual 42, 3) := by decide +kernel
theorem d_Mg_merge_10 : decode prog_4_method_7_code 10 = .ok (.if_icmp .ge 30, 3) := by decide +kernel
theorem d_Mg_merge_13 : decode prog_4_method_7_code 13 = .ok (.aload_n 0, 1) := by decide +kernel
theorem d_Mg_merge_14 : decode prog_4_method_7_code 14 = .ok (.getfield 18, 3) := by decide +kernel
theorem d_Mg_merge_17 : decode prog_4_method_7_code 17 = .ok (.iload_n 3, 1) := by decide +kernel
theorem d_Mg_merge_18 : decode prog_4_method_7_code 18 = .ok (.aload_n 0, 1) := by decide +kernel
theorem d_Mg_merge_19 : decode prog_4_method_7_code 19 = .ok (.getfield 12, 3) := by decide +kernel
theorem d_Mg_merge_22 : decode prog_4_method_7_code 22 = .ok (.iload_n 3, 1) := by decide +kernel
theorem d_Mg_merge_23 : decode prog_4_method_7_code 23 = .ok (.invokevirtual 43, 3) := by decide +kernel
theorem d_Mg_merge_26 : decode prog_4_method_7_code 26 = .ok (.checkcast 33, 3) := by decide +kernel
theorem d_Mg_merge_29 : decode prog_4_method_7_code 29 = .ok (.iload_n 1, 1) := by decide +kernel
theorem d_Mg_merge_30 : decode prog_4_method_7_code 30 = .ok (.invokestatic 84, 3) := by decide +kernel
theorem d_Mg_merge_33 : decode prog_4_method_7_code 33 = .ok (.iastore, 1) := by decide +kernel
theorem d_Mg_merge_34 : decode prog_4_method_7_code 34 = .ok (.iinc 3 1, 3) := by decide +kernel
theorem d_Mg_merge_37 : decode prog_4_method_7_code 37 = .ok (.goto (-35), 3) := by decide +kernel
theorem d_Mg_merge_40 : decode prog_4_method_7_code 40 = .ok (.aload_n 0, 1) := by decide +kernel
theorem d_Mg_merge_41 : decode prog_4_method_7_code 41 = .ok (.iload_n 2, 1) := by decide +kernel
theorem d_Mg_merge_42 : decode prog_4_method_7_code 42 = .ok (.invokevirtual 88, 3) := by decide +kernel
theorem d_Mg_merge_45 : decode prog_4_method_7_code 45 = .ok (.astore_n 3, 1) := by decide +kernel
theorem d_Mg_merge_46 : decode prog_4_method_7_code 46 = .ok (.aload_n 3, 1) := by decide +kernel
theorem d_Mg_merge_47 : decode prog_4_method_7_code 47 = .ok (.ifnull 29, 3) := by decide +kernel
theorem d_Mg_merge_50 : decode prog_4_method_7_code 50 = .ok (.aload_n 0, 1) := by decide +kernel
theorem d_Mg_merge_51 : decode prog_4_method_7_code 51 = .ok (.aload_n 3, 1) := by decide +kernel
theorem d_Mg_merge_52 : decode prog_4_method_7_code 52 = .ok (.invokevirtual 91, 3) := by decide +kernel
theorem d_Mg_merge_55 : decode prog_4_method_7_code 55 = .ok (.ifCond .eq 12, 3) := by decide +kernel
theorem d_Mg_merge_58 : decode prog_4_method_7_code 58 = .ok (.aload_n 0, 1) := by decide +kernel
theorem d_Mg_merge_59 : decode prog_4_method_7_code 59 = .ok (.getfield 22, 3) := by decide +kernel
theorem d_Mg_merge_62 : decode prog_4_method_7_code 62 = .ok (.aload_n 3, 1) := by decide +kernel
theorem d_Mg_merge_63 : decode prog_4_method_7_code 63 = .ok (.invokevirtual 38, 3) := by decide +kernel
theorem d_Mg_merge_66 : decode prog_4_method_7_code 66 = .ok (.pop, 1) := by decide +kernel
theorem d_Mg_merge_67 : decode prog_4_method_7_code 67 = .ok (.aload_n 0, 1) := by decide +kernel
theorem d_Mg_merge_68 : decode prog_4_method_7_code 68 = .ok (.iload_n 2, 1) := by decide +kernel
theorem d_Mg_merge_69 : decode prog_4_method_7_code 69 = .ok (.invokevirtual 88, 3) := by decide +kernel
theorem d_Mg_merge_72 : decode prog_4_method_7_code 72 = .ok (.astore_n 3, 1) := by decide +kernel
theorem d_Mg_merge_73 : decode prog_4_method_7_code 73 = .ok (.goto (-27), 3) := by decide +kernel
theorem d_Mg_merge_76 : decode prog_4_method_7_code 76 = .ok (.aload_n 0, 1) := by decide +kernel
theorem d_Mg_merge_77 : decode prog_4_method_7_code 77 = .ok (.getfield 22, 3) := by decide +kernel
theorem d_Mg_merge_80 : decode prog_4_method_7_code 80 = .ok (.areturn, 1) := by decide +kernel
theorem d_Ta_init_0 : decode prog_6_method_1_code 0 = .ok (.aload_n 0, 1) := by decide +kernel
theorem d_Ta_init_1 : decode prog_6_method_1_code 1 = .ok (.invokespecial 3, 3) := by decide +kernel
theorem d_Ta_init_4 : decode prog_6_method_1_code 4 = .ok (.aload_n 0, 1) := by decide +kernel
theorem d_Ta_init_5 : decode prog_6_method_1_code 5 = .ok (.aload_n 1, 1) := by decide +kernel
theorem d_Ta_init_6 : decode prog_6_method_1_code 6 = .ok (.invokevirtual 9, 3) := by decide +kernel
theorem d_Ta_init_9 : decode prog_6_method_1_code 9 = .ok (.anewarray 15, 3) := by decide +kernel
theorem d_Ta_init_12 : decode prog_6_method_1_code 12 = .ok (.putfield 17, 3) := by decide +kernel
theorem d_Ta_init_15 : decode prog_6_method_1_code 15 = .ok (.iconst 0, 1) := by decide +kernel
theorem d_Ta_init_16 : decode prog_6_method_1_code 16 = .ok (.istore_n 2, 1) := by decide +kernel
theorem d_Ta_init_17 : decode prog_6_method_1_code 17 = .ok (.iload_n 2, 1) := by decide +kernel
theorem d_Ta_init_18 : decode prog_6_method_1_code 18 = .ok (.aload_n 0, 1) := by decide +kernel
theorem d_Ta_init_19 : decode prog_6_method_1_code 19 = .ok (.getfield 17, 3) := by decide +kernel
theorem d_Ta_init_22 : decode prog_6_method_1_code 22 = .ok (.arraylength, 1) := by decide +kernel
theorem d_Ta_init_23 : decode prog_6_method_1_code 23 = .ok (.if_icmp .ge 62, 3) := by decide +kernel
theorem d_Ta_init_26 : decode prog_6_method_1_code 26 = .ok (.aload_n 1, 1) := by decide +kernel
theorem d_Ta_init_27 : decode prog_6_method_1_code 27 = .ok (.iload_n 2, 1) := by decide +kernel
theorem d_Ta_init_28 : decode prog_6_method_1_code 28 = .ok (.invokevirtual 23, 3) := by decide +kernel
theorem d_Ta_init_31 : decode prog_6_method_1_code 31 = .ok (.checkcast 15, 3) := by decide +kernel
theorem d_Ta_init_34 : decode prog_6_method_1_code 34 = .ok (.astore_n 3, 1) := by decide +kernel
theorem d_Ta_init_35 : decode prog_6_method_1_code 35 = .ok (.aload_n 0, 1) := by decide +kernel
theorem d_Ta_init_36 : decode prog_6_method_1_code 36 = .ok (.getfield 17, 3) := by decide +kernel
theorem d_Ta_init_39 : decode prog_6_method_1_code 39 = .ok (.iload_n 2, 1) := by decide +kernel
theorem d_Ta_init_40 : decode prog_6_method_1_code 40 = .ok (.aload_n 3, 1) := by decide +kernel
theorem d_Ta_init_41 : decode prog_6_method_1_code 41 = .ok (.aastore, 1) := by decide +kernel
theorem d_Ta_init_42 : decode prog_6_method_1_code 42 = .ok (.aload_n 0, 1) := by decide +kernel
theorem d_Ta_init_43 : decode prog_6_method_1_code 43 = .ok (.dup, 1) := by decide +kernel
theorem d_Ta_init_44 : decode prog_6_method_1_code 44 = .ok (.getfield 27, 3) := by decide +kernel
theorem d_Ta_init_47 : decode prog_6_method_1_code 47 = .ok (.aload_n 3, 1) := by decide +kernel
theorem d_Ta_init_48 : decode prog_6_method_1_code 48 = .ok (.getfield 31, 3) := by decide +kernel
theorem d_Ta_init_51 : decode prog_6_method_1_code 51 = .ok (.invokestatic 35, 3) := by decide +kernel
theorem d_Ta_init_54 : decode prog_6_method_1_code 54 = .ok (.lor, 1) := by decide +kernel
theorem d_Ta_init_55 : decode prog_6_method_1_code 55 = .ok (.putfield 27, 3) := by decide +kernel
theorem d_Ta_init_58 : decode prog_6_method_1_code 58 = .ok (.aload_n 0, 1) := by decide +kernel
theorem d_Ta_init_59 : decode prog_6_method_1_code 59 = .ok (.dup, 1) := by decide +kernel
theorem d_Ta_init_60 : decode prog_6_method_1_code 60 = .ok (.getfield 39, 3) := by decide +kernel
theorem d_Ta_init_63 : decode prog_6_method_1_code 63 = .ok (.aload_n 3, 1) := by decide +kernel
theorem d_Ta_init_64 : decode prog_6_method_1_code 64 = .ok (.getfield 42, 3) := by decide +kernel
theorem d_Ta_init_67 : decode prog_6_method_1_code 67 = .ok (.ifCond .eq 7, 3) := by decide +kernel
theorem d_Ta_init_70 : decode prog_6_method_1_code 70 = .ok (.iconst 0, 1) := by decide +kernel
theorem d_Ta_init_71 : decode prog_6_method_1_code 71 = .ok (.goto 4, 3) := by decide +kernel
theorem d_Ta_init_74 : decode prog_6_method_1_code 74 = .ok (.iconst 1, 1) := by decide +kernel
theorem d_Ta_init_75 : decode prog_6_method_1_code 75 = .ok (.iadd, 1) := by decide +kernel
theorem d_Ta_init_76 : decode prog_6_method_1_code 76 = .ok (.putfield 39, 3) := by decide +kernel
theorem d_Ta_init_79 : decode prog_6_method_1_code 79 = .ok (.iinc 2 1, 3) := by decide +kernel
theorem d_Ta_init_82 : decode prog_6_method_1_code 82 = .ok (.goto (-65), 3) := by decide +kernel
theorem d_Ta_init_85 : decode prog_6_method_1_code 85 = .ok (.return_, 1) := by decide +kernel
theorem d_Ta_bits_0 : decode prog_6_method_2_code 0 = .ok (.lconst 1, 1) := by decide +kernel
theorem d_Ta_bits_1 : decode prog_6_method_2_code 1 = .ok (.bipush 7, 2) := by decide +kernel
theorem d_Ta_bits_3 : decode prog_6_method_2_code 3 = .ok (.iload_n 0, 1) := by decide +kernel
theorem d_Ta_bits_4 : decode prog_6_method_2_code 4 = .ok (.imul, 1) := by decide +kernel
theorem d_Ta_bits_5 : decode prog_6_method_2_code 5 = .ok (.iconst 3, 1) := by decide +kernel
theorem d_Ta_bits_6 : decode prog_6_method_2_code 6 = .ok (.iadd, 1) := by decide +kernel
theorem d_Ta_bits_7 : decode prog_6_method_2_code 7 = .ok (.bipush 63, 2) := by decide +kernel
theorem d_Ta_bits_9 : decode prog_6_method_2_code 9 = .ok (.iand, 1) := by decide +kernel
theorem d_Ta_bits_10 : decode prog_6_method_2_code 10 = .ok (.lshl, 1) := by decide +kernel
theorem d_Ta_bits_11 : decode prog_6_method_2_code 11 = .ok (.lconst 1, 1) := by decide +kernel
theorem d_Ta_bits_12 : decode prog_6_method_2_code 12 = .ok (.bipush 13, 2) := by decide +kernel
theorem d_Ta_bits_14 : decode prog_6_method_2_code 14 = .ok (.iload_n 0, 1) := by decide +kernel
theorem d_Ta_bits_15 : decode prog_6_method_2_code 15 = .ok (.imul, 1) := by decide +kernel
theorem d_Ta_bits_16 : decode prog_6_method_2_code 16 = .ok (.bipush 29, 2) := by decide +kernel
theorem d_Ta_bits_18 : decode prog_6_method_2_code 18 = .ok (.iadd, 1) := by decide +kernel
theorem d_Ta_bits_19 : decode prog_6_method_2_code 19 = .ok (.bipush 63, 2) := by decide +kernel
theorem d_Ta_bits_21 : decode prog_6_method_2_code 21 = .ok (.iand, 1) := by decide +kernel
theorem d_Ta_bits_22 : decode prog_6_method_2_code 22 = .ok (.lshl, 1) := by decide +kernel
theorem d_Ta_bits_23 : decode prog_6_method_2_code 23 = .ok (.lor, 1) := by decide +kernel
theorem d_Ta_bits_24 : decode prog_6_method_2_code 24 = .ok (.lreturn, 1) := by decide +kernel
theorem d_Ta_size_0 : decode prog_6_method_3_code 0 = .ok (.aload_n 0, 1) := by decide +kernel
theorem d_Ta_size_1 : decode prog_6_method_3_code 1 = .ok (.getfield 17, 3) := by decide +kernel
theorem d_Ta_size_4 : decode prog_6_method_3_code 4 = .ok (.arraylength, 1) := by decide +kernel
theorem d_Ta_size_5 : decode prog_6_method_3_code 5 = .ok (.ireturn, 1) := by decide +kernel
theorem d_Ta_at_0 : decode prog_6_method_4_code 0 = .ok (.aload_n 0, 1) := by decide +kernel
theorem d_Ta_at_1 : decode prog_6_method_4_code 1 = .ok (.getfield 17, 3) := by decide +kernel
theorem d_Ta_at_4 : decode prog_6_method_4_code 4 = .ok (.iload_n 1, 1) := by decide +kernel
theorem d_Ta_at_5 : decode prog_6_method_4_code 5 = .ok (.aaload, 1) := by decide +kernel
theorem d_Ta_at_6 : decode prog_6_method_4_code 6 = .ok (.areturn, 1) := by decide +kernel
theorem d_Ta_blocks_0 : decode prog_6_method_5_code 0 = .ok (.aload_n 0, 1) := by decide +kernel
theorem d_Ta_blocks_1 : decode prog_6_method_5_code 1 = .ok (.getfield 17, 3) := by decide +kernel
theorem d_Ta_blocks_4 : decode prog_6_method_5_code 4 = .ok (.arraylength, 1) := by decide +kernel
theorem d_Ta_blocks_5 : decode prog_6_method_5_code 5 = .ok (.iconst 4, 1) := by decide +kernel
theorem d_Ta_blocks_6 : decode prog_6_method_5_code 6 = .ok (.iadd, 1) := by decide +kernel
theorem d_Ta_blocks_7 : decode prog_6_method_5_code 7 = .ok (.iconst 1, 1) := by decide +kernel
theorem d_Ta_blocks_8 : decode prog_6_method_5_code 8 = .ok (.isub, 1) := by decide +kernel
theorem d_Ta_blocks_9 : decode prog_6_method_5_code 9 = .ok (.iconst 4, 1) := by decide +kernel
theorem d_Ta_blocks_10 : decode prog_6_method_5_code 10 = .ok (.idiv, 1) := by decide +kernel
theorem d_Ta_blocks_11 : decode prog_6_method_5_code 11 = .ok (.ireturn, 1) := by decide +kernel
theorem d_Ta_looks_0 : decode prog_6_method_6_code 0 = .ok (.aload_n 0, 1) := by decide +kernel
theorem d_Ta_looks_1 : decode prog_6_method_6_code 1 = .ok (.getfield 27, 3) := by decide +kernel
theorem d_Ta_looks_4 : decode prog_6_method_6_code 4 = .ok (.iload_n 1, 1) := by decide +kernel
theorem d_Ta_looks_5 : decode prog_6_method_6_code 5 = .ok (.invokestatic 35, 3) := by decide +kernel
theorem d_Ta_looks_8 : decode prog_6_method_6_code 8 = .ok (.land, 1) := by decide +kernel
theorem d_Ta_looks_9 : decode prog_6_method_6_code 9 = .ok (.iload_n 1, 1) := by decide +kernel
theorem d_Ta_looks_10 : decode prog_6_method_6_code 10 = .ok (.invokestatic 35, 3) := by decide +kernel
theorem d_Ta_looks_13 : decode prog_6_method_6_code 13 = .ok (.lcmp, 1) := by decide +kernel
theorem d_Ta_looks_14 : decode prog_6_method_6_code 14 = .ok (.ifCond .eq 5, 3) := by decide +kernel
theorem d_Ta_looks_17 : decode prog_6_method_6_code 17 = .ok (.iconst 0, 1) := by decide +kernel
theorem d_Ta_looks_18 : decode prog_6_method_6_code 18 = .ok (.ireturn, 1) := by decide +kernel
theorem d_Ta_looks_19 : decode prog_6_method_6_code 19 = .ok (.aload_n 0, 1) := by decide +kernel
theorem d_Ta_looks_20 : decode prog_6_method_6_code 20 = .ok (.iload_n 1, 1) := by decide +kernel
theorem d_Ta_looks_21 : decode prog_6_method_6_code 21 = .ok (.invokestatic 46, 3) := by decide +kernel
theorem d_Ta_looks_24 : decode prog_6_method_6_code 24 = .ok (.istore_n 2, 1) := by decide +kernel
theorem d_Ta_looks_25 : decode prog_6_method_6_code 25 = .ok (.aload_n 0, 1) := by decide +kernel
theorem d_Ta_looks_26 : decode prog_6_method_6_code 26 = .ok (.iload_n 1, 1) := by decide +kernel
theorem d_Ta_looks_27 : decode prog_6_method_6_code 27 = .ok (.iconst 1, 1) := by decide +kernel
theorem d_Ta_looks_28 : decode prog_6_method_6_code 28 = .ok (.iadd, 1) := by decide +kernel
theorem d_Ta_looks_29 : decode prog_6_method_6_code 29 = .ok (.invokestatic 46, 3) := by decide +kernel
theorem d_Ta_looks_32 : decode prog_6_method_6_code 32 = .ok (.istore_n 3, 1) := by decide +kernel
theorem d_Ta_looks_33 : decode prog_6_method_6_code 33 = .ok (.iload_n 2, 1) := by decide +kernel
theorem d_Ta_looks_34 : decode prog_6_method_6_code 34 = .ok (.iload_n 3, 1) := by decide +kernel
theorem d_Ta_looks_35 : decode prog_6_method_6_code 35 = .ok (.if_icmp .ne 7, 3) := by decide +kernel
theorem d_Ta_looks_38 : decode prog_6_method_6_code 38 = .ok (.iconst 1, 1) := by decide +kernel
theorem d_Ta_looks_39 : decode prog_6_method_6_code 39 = .ok (.goto 14, 3) := by decide +kernel
theorem d_Ta_looks_42 : decode prog_6_method_6_code 42 = .ok (.iload_n 3, 1) := by decide +kernel
theorem d_Ta_looks_43 : decode prog_6_method_6_code 43 = .ok (.iconst 1, 1) := by decide +kernel
theorem d_Ta_looks_44 : decode prog_6_method_6_code 44 = .ok (.isub, 1) := by decide +kernel
theorem d_Ta_looks_45 : decode prog_6_method_6_code 45 = .ok (.iconst 4, 1) := by decide +kernel
theorem d_Ta_looks_46 : decode prog_6_method_6_code 46 = .ok (.idiv, 1) := by decide +kernel
theorem d_Ta_looks_47 : decode prog_6_method_6_code 47 = .ok (.iload_n 2, 1) := by decide +kernel
theorem d_Ta_looks_48 : decode prog_6_method_6_code 48 = .ok (.iconst 4, 1) := by decide +kernel
theorem d_Ta_looks_49 : decode prog_6_method_6_code 49 = .ok (.idiv, 1) := by decide +kernel
theorem d_Ta_looks_50 : decode prog_6_method_6_code 50 = .ok (.isub, 1) := by decide +kernel
theorem d_Ta_looks_51 : decode prog_6_method_6_code 51 = .ok (.iconst 1, 1) := by decide +kernel
theorem d_Ta_looks_52 : decode prog_6_method_6_code 52 = .ok (.iadd, 1) := by decide +kernel
theorem d_Ta_looks_53 : decode prog_6_method_6_code 53 = .ok (.ireturn, 1) := by decide +kernel
theorem d_Tb_init_0 : decode prog_7_method_1_code 0 = .ok (.aload_n 0, 1) := by decide +kernel
theorem d_Tb_init_1 : decode prog_7_method_1_code 1 = .ok (.invokespecial 1, 3) := by decide +kernel
theorem d_Tb_init_4 : decode prog_7_method_1_code 4 = .ok (.aload_n 0, 1) := by decide +kernel
theorem d_Tb_init_5 : decode prog_7_method_1_code 5 = .ok (.new 7, 3) := by decide +kernel
theorem d_Tb_init_8 : decode prog_7_method_1_code 8 = .ok (.dup, 1) := by decide +kernel
theorem d_Tb_init_9 : decode prog_7_method_1_code 9 = .ok (.invokespecial 9, 3) := by decide +kernel
theorem d_Tb_init_12 : decode prog_7_method_1_code 12 = .ok (.putfield 10, 3) := by decide +kernel
theorem d_Tb_init_15 : decode prog_7_method_1_code 15 = .ok (.aload_n 0, 1) := by decide +kernel
theorem d_Tb_init_16 : decode prog_7_method_1_code 16 = .ok (.new 16, 3) := by decide +kernel
theorem d_Tb_init_19 : decode prog_7_method_1_code 19 = .ok (.dup, 1) := by decide +kernel
theorem d_Tb_init_20 : decode prog_7_method_1_code 20 = .ok (.invokespecial 18, 3) := by decide +kernel
theorem d_Tb_init_23 : decode prog_7_method_1_code 23 = .ok (.putfield 19, 3) := by decide +kernel
theorem d_Tb_init_26 : decode prog_7_method_1_code 26 = .ok (.aload_n 0, 1) := by decide +kernel
theorem d_Tb_init_27 : decode prog_7_method_1_code 27 = .ok (.iload_n 1, 1) := by decide +kernel
theorem d_Tb_init_28 : decode prog_7_method_1_code 28 = .ok (.putfield 23, 3) := by decide +kernel
theorem d_Tb_init_31 : decode prog_7_method_1_code 31 = .ok (.aload_n 0, 1) := by decide +kernel
theorem d_Tb_init_32 : decode prog_7_method_1_code 32 = .ok (.iload_n 2, 1) := by decide +kernel
theorem d_Tb_init_33 : decode prog_7_method_1_code 33 = .ok (.putfield 27, 3) := by decide +kernel
theorem d_Tb_init_36 : decode prog_7_method_1_code 36 = .ok (.return_, 1) := by decide +kernel
theorem d_Tb_size_0 : decode prog_7_method_2_code 0 = .ok (.aload_n 0, 1) := by decide +kernel
theorem d_Tb_size_1 : decode prog_7_method_2_code 1 = .ok (.getfield 10, 3) := by decide +kernel
theorem d_Tb_size_4 : decode prog_7_method_2_code 4 = .ok (.invokevirtual 30, 3) := by decide +kernel
theorem d_Tb_size_7 : decode prog_7_method_2_code 7 = .ok (.istore_n 1, 1) := by decide +kernel
theorem d_Tb_size_8 : decode prog_7_method_2_code 8 = .ok (.iconst 0, 1) := by decide +kernel
theorem d_Tb_size_9 : decode prog_7_method_2_code 9 = .ok (.istore_n 2, 1) := by decide +kernel
theorem d_Tb_size_10 : decode prog_7_method_2_code 10 = .ok (.iload_n 2, 1) := by decide +kernel
theorem d_Tb_size_11 : decode prog_7_method_2_code 11 = .ok (.aload_n 0, 1) := by decide +kernel
theorem d_Tb_size_12 : decode prog_7_method_2_code 12 = .ok (.getfield 19, 3) := by decide +kernel
theorem d_Tb_size_15 : decode prog_7_method_2_code 15 = .ok (.invokevirtual 34, 3) := by decide +kernel
theorem d_Tb_size_18 : decode prog_7_method_2_code 18 = .ok (.if_icmp .ge 26, 3) := by decide +kernel
theorem d_Tb_size_21 : decode prog_7_method_2_code 21 = .ok (.iload_n 1, 1) := by decide +kernel
theorem d_Tb_size_22 : decode prog_7_method_2_code 22 = .ok (.aload_n 0, 1) := by decide +kernel
theorem d_Tb_size_23 : decode prog_7_method_2_code 23 = .ok (.getfield 19, 3) := by decide +kernel
theorem d_Tb_size_26 : decode prog_7_method_2_code 26 = .ok (.iload_n 2, 1) := by decide +kernel
theorem d_Tb_size_27 : decode prog_7_method_2_code 27 = .ok (.invokevirtual 35, 3) := by decide +kernel
theorem d_Tb_size_30 : decode prog_7_method_2_code 30 = .ok (.checkcast 39, 3) := by decide +kernel
theorem d_Tb_size_33 : decode prog_7_method_2_code 33 = .ok (.invokevirtual 41, 3) := by decide +kernel
theorem d_Tb_size_36 : decode prog_7_method_2_code 36 = .ok (.iadd, 1) := by decide +kernel
theorem d_Tb_size_37 : decode prog_7_method_2_code 37 = .ok (.istore_n 1, 1) := by decide +kernel
theorem d_Tb_size_38 : decode prog_7_method_2_code 38 = .ok (.iinc 2 1, 3) := by decide +kernel
theorem d_Tb_size_41 : decode prog_7_method_2_code 41 = .ok (.goto (-31), 3) := by decide +kernel
theorem d_Tb_size_44 : decode prog_7_method_2_code 44 = .ok (.iload_n 1, 1) := by decide +kernel
theorem d_Tb_size_45 : decode prog_7_method_2_code 45 = .ok (.ireturn, 1) := by decide +kernel
