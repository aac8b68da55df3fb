theorem d_Mod_init_0 : decode b_Mod_init 0 = .ok (.aload_n 0, 1) := by decide +kernel
theorem d_Mod_init_1 : decode b_Mod_init 1 = .ok (.invokespecial 1, 3) := by decide +kernel
theorem d_Mod_init_4 : decode b_Mod_init 4 = .ok (.aload_n 0, 1) := by decide +kernel
theorem d_Mod_init_5 : decode b_Mod_init 5 = .ok (.sipush 6303, 3) := by decide +kernel
theorem d_Mod_init_8 : decode b_Mod_init 8 = .ok (.newarray .int, 2) := by decide +kernel
theorem d_Mod_init_10 : decode b_Mod_init 10 = .ok (.putfield 7, 3) := by decide +kernel
theorem d_Mod_init_13 : decode b_Mod_init 13 = .ok (.aload_n 0, 1) := by decide +kernel
theorem d_Mod_init_14 : decode b_Mod_init 14 = .ok (.bipush 8, 2) := by decide +kernel
theorem d_Mod_init_16 : decode b_Mod_init 16 = .ok (.newarray .boolean, 2) := by decide +kernel
theorem d_Mod_init_18 : decode b_Mod_init 18 = .ok (.putfield 13, 3) := by decide +kernel
theorem d_Mod_init_21 : decode b_Mod_init 21 = .ok (.aload_n 0, 1) := by decide +kernel
theorem d_Mod_init_22 : decode b_Mod_init 22 = .ok (.bipush 8, 2) := by decide +kernel
theorem d_Mod_init_24 : decode b_Mod_init 24 = .ok (.newarray .boolean, 2) := by decide +kernel
theorem d_Mod_init_26 : decode b_Mod_init 26 = .ok (.putfield 17, 3) := by decide +kernel
theorem d_Mod_init_29 : decode b_Mod_init 29 = .ok (.aload_n 0, 1) := by decide +kernel
theorem d_Mod_init_30 : decode b_Mod_init 30 = .ok (.bipush 8, 2) := by decide +kernel
theorem d_Mod_init_32 : decode b_Mod_init 32 = .ok (.newarray .int, 2) := by decide +kernel
theorem d_Mod_init_34 : decode b_Mod_init 34 = .ok (.putfield 20, 3) := by decide +kernel
theorem d_Mod_init_37 : decode b_Mod_init 37 = .ok (.aload_n 0, 1) := by decide +kernel
theorem d_Mod_init_38 : decode b_Mod_init 38 = .ok (.bipush 24, 2) := by decide +kernel
theorem d_Mod_init_40 : decode b_Mod_init 40 = .ok (.newarray .int, 2) := by decide +kernel
theorem d_Mod_init_42 : decode b_Mod_init 42 = .ok (.putfield 23, 3) := by decide +kernel
theorem d_Mod_init_45 : decode b_Mod_init 45 = .ok (.aload_n 0, 1) := by decide +kernel
theorem d_Mod_init_46 : decode b_Mod_init 46 = .ok (.bipush 8, 2) := by decide +kernel
theorem d_Mod_init_48 : decode b_Mod_init 48 = .ok (.newarray .int, 2) := by decide +kernel
theorem d_Mod_init_50 : decode b_Mod_init 50 = .ok (.putfield 26, 3) := by decide +kernel
theorem d_Mod_init_53 : decode b_Mod_init 53 = .ok (.aload_n 0, 1) := by decide +kernel
theorem d_Mod_init_54 : decode b_Mod_init 54 = .ok (.sipush 1402, 3) := by decide +kernel
theorem d_Mod_init_57 : decode b_Mod_init 57 = .ok (.newarray .int, 2) := by decide +kernel
theorem d_Mod_init_59 : decode b_Mod_init 59 = .ok (.putfield 29, 3) := by decide +kernel
theorem d_Mod_init_62 : decode b_Mod_init 62 = .ok (.aload_n 0, 1) := by decide +kernel
theorem d_Mod_init_63 : decode b_Mod_init 63 = .ok (.sipush 1402, 3) := by decide +kernel
theorem d_Mod_init_66 : decode b_Mod_init 66 = .ok (.newarray .int, 2) := by decide +kernel
theorem d_Mod_init_68 : decode b_Mod_init 68 = .ok (.putfield 32, 3) := by decide +kernel
theorem d_Mod_init_71 : decode b_Mod_init 71 = .ok (.aload_n 0, 1) := by decide +kernel
theorem d_Mod_init_72 : decode b_Mod_init 72 = .ok (.iconst 0, 1) := by decide +kernel
theorem d_Mod_init_73 : decode b_Mod_init 73 = .ok (.putfield 35, 3) := by decide +kernel
theorem d_Mod_init_76 : decode b_Mod_init 76 = .ok (.return_, 1) := by decide +kernel
theorem d_Mod_orderOf_0 : decode b_Mod_orderOf 0 = .ok (.iload_n 0, 1) := by decide +kernel
theorem d_Mod_orderOf_1 : decode b_Mod_orderOf 1 = .ok (.iconst 2, 1) := by decide +kernel
theorem d_Mod_orderOf_2 : decode b_Mod_orderOf 2 = .ok (.if_icmp .eq 9, 3) := by decide +kernel
theorem d_Mod_orderOf_5 : decode b_Mod_orderOf 5 = .ok (.iload_n 0, 1) := by decide +kernel
theorem d_Mod_orderOf_6 : decode b_Mod_orderOf 6 = .ok (.bipush 6, 2) := by decide +kernel
theorem d_Mod_orderOf_8 : decode b_Mod_orderOf 8 = .ok (.if_icmp .ne 7, 3) := by decide +kernel
theorem d_Mod_orderOf_11 : decode b_Mod_orderOf 11 = .ok (.iconst 1, 1) := by decide +kernel
theorem d_Mod_orderOf_12 : decode b_Mod_orderOf 12 = .ok (.goto 18, 3) := by decide +kernel
theorem d_Mod_orderOf_15 : decode b_Mod_orderOf 15 = .ok (.iload_n 0, 1) := by decide +kernel
theorem d_Mod_orderOf_16 : decode b_Mod_orderOf 16 = .ok (.iconst 4, 1) := by decide +kernel
theorem d_Mod_orderOf_17 : decode b_Mod_orderOf 17 = .ok (.if_icmp .eq 8, 3) := by decide +kernel
theorem d_Mod_orderOf_20 : decode b_Mod_orderOf 20 = .ok (.iload_n 0, 1) := by decide +kernel
theorem d_Mod_orderOf_21 : decode b_Mod_orderOf 21 = .ok (.iconst 5, 1) := by decide +kernel
theorem d_Mod_orderOf_22 : decode b_Mod_orderOf 22 = .ok (.if_icmp .ne 7, 3) := by decide +kernel
theorem d_Mod_orderOf_25 : decode b_Mod_orderOf 25 = .ok (.iconst 2, 1) := by decide +kernel
theorem d_Mod_orderOf_26 : decode b_Mod_orderOf 26 = .ok (.goto 4, 3) := by decide +kernel
theorem d_Mod_orderOf_29 : decode b_Mod_orderOf 29 = .ok (.iconst 0, 1) := by decide +kernel
theorem d_Mod_orderOf_30 : decode b_Mod_orderOf 30 = .ok (.ireturn, 1) := by decide +kernel
theorem d_Mod_partOf_0 : decode b_Mod_partOf 0 = .ok (.iload_n 0, 1) := by decide +kernel
theorem d_Mod_partOf_1 : decode b_Mod_partOf 1 = .ok (.iload_n 1, 1) := by decide +kernel
theorem d_Mod_partOf_2 : decode b_Mod_partOf 2 = .ok (.iadd, 1) := by decide +kernel
theorem d_Mod_partOf_3 : decode b_Mod_partOf 3 = .ok (.iconst 3, 1) := by decide +kernel
theorem d_Mod_partOf_4 : decode b_Mod_partOf 4 = .ok (.irem, 1) := by decide +kernel
theorem d_Mod_partOf_5 : decode b_Mod_partOf 5 = .ok (.ireturn, 1) := by decide +kernel
theorem d_Mod_cell_0 : decode b_Mod_cell 0 = .ok (.aload_n 0, 1) := by decide +kernel
theorem d_Mod_cell_1 : decode b_Mod_cell 1 = .ok (.getfield 7, 3) := by decide +kernel
theorem d_Mod_cell_4 : decode b_Mod_cell 4 = .ok (.sipush 2101, 3) := by decide +kernel
theorem d_Mod_cell_7 : decode b_Mod_cell 7 = .ok (.iload_n 1, 1) := by decide +kernel
theorem d_Mod_cell_8 : decode b_Mod_cell 8 = .ok (.imul, 1) := by decide +kernel
theorem d_Mod_cell_9 : decode b_Mod_cell 9 = .ok (.iconst 3, 1) := by decide +kernel
theorem d_Mod_cell_10 : decode b_Mod_cell 10 = .ok (.iload_n 2, 1) := by decide +kernel
theorem d_Mod_cell_11 : decode b_Mod_cell 11 = .ok (.imul, 1) := by decide +kernel
theorem d_Mod_cell_12 : decode b_Mod_cell 12 = .ok (.iadd, 1) := by decide +kernel
theorem d_Mod_cell_13 : decode b_Mod_cell 13 = .ok (.iload_n 3, 1) := by decide +kernel
theorem d_Mod_cell_14 : decode b_Mod_cell 14 = .ok (.iadd, 1) := by decide +kernel
theorem d_Mod_cell_15 : decode b_Mod_cell 15 = .ok (.iaload, 1) := by decide +kernel
theorem d_Mod_cell_16 : decode b_Mod_cell 16 = .ok (.ireturn, 1) := by decide +kernel
theorem d_Mod_compare_0 : decode b_Mod_compare 0 = .ok (.iconst 0, 1) := by decide +kernel
theorem d_Mod_compare_1 : decode b_Mod_compare 1 = .ok (.istore 6, 2) := by decide +kernel
theorem d_Mod_compare_3 : decode b_Mod_compare 3 = .ok (.iload 6, 2) := by decide +kernel
theorem d_Mod_compare_5 : decode b_Mod_compare 5 = .ok (.iconst 3, 1) := by decide +kernel
theorem d_Mod_compare_6 : decode b_Mod_compare 6 = .ok (.if_icmp .ge 71, 3) := by decide +kernel
theorem d_Mod_compare_9 : decode b_Mod_compare 9 = .ok (.iload_n 1, 1) := by decide +kernel
theorem d_Mod_compare_10 : decode b_Mod_compare 10 = .ok (.iload 6, 2) := by decide +kernel
theorem d_Mod_compare_12 : decode b_Mod_compare 12 = .ok (.invokestatic 39, 3) := by decide +kernel
theorem d_Mod_compare_15 : decode b_Mod_compare 15 = .ok (.istore 7, 2) := by decide +kernel
theorem d_Mod_compare_17 : decode b_Mod_compare 17 = .ok (.aload_n 0, 1) := by decide +kernel
theorem d_Mod_compare_18 : decode b_Mod_compare 18 = .ok (.iload_n 1, 1) := by decide +kernel
theorem d_Mod_compare_19 : decode b_Mod_compare 19 = .ok (.iload_n 2, 1) := by decide +kernel
theorem d_Mod_compare_20 : decode b_Mod_compare 20 = .ok (.iload 7, 2) := by decide +kernel
theorem d_Mod_compare_22 : decode b_Mod_compare 22 = .ok (.invokevirtual 43, 3) := by decide +kernel
theorem d_Mod_compare_25 : decode b_Mod_compare 25 = .ok (.istore 8, 2) := by decide +kernel
theorem d_Mod_compare_27 : decode b_Mod_compare 27 = .ok (.iload 7, 2) := by decide +kernel
theorem d_Mod_compare_29 : decode b_Mod_compare 29 = .ok (.ifCond .ne 7, 3) := by decide +kernel
theorem d_Mod_compare_32 : decode b_Mod_compare 32 = .ok (.iload_n 3, 1) := by decide +kernel
theorem d_Mod_compare_33 : decode b_Mod_compare 33 = .ok (.goto 16, 3) := by decide +kernel
theorem d_Mod_compare_36 : decode b_Mod_compare 36 = .ok (.iload 7, 2) := by decide +kernel
theorem d_Mod_compare_38 : decode b_Mod_compare 38 = .ok (.iconst 1, 1) := by decide +kernel
theorem d_Mod_compare_39 : decode b_Mod_compare 39 = .ok (.if_icmp .ne 8, 3) := by decide +kernel
theorem d_Mod_compare_42 : decode b_Mod_compare 42 = .ok (.iload 4, 2) := by decide +kernel
theorem d_Mod_compare_44 : decode b_Mod_compare 44 = .ok (.goto 5, 3) := by decide +kernel
theorem d_Mod_compare_47 : decode b_Mod_compare 47 = .ok (.iload 5, 2) := by decide +kernel
theorem d_Mod_compare_49 : decode b_Mod_compare 49 = .ok (.istore 9, 2) := by decide +kernel
theorem d_Mod_compare_51 : decode b_Mod_compare 51 = .ok (.iload 8, 2) := by decide +kernel
theorem d_Mod_compare_53 : decode b_Mod_compare 53 = .ok (.iload 9, 2) := by decide +kernel
theorem d_Mod_compare_55 : decode b_Mod_compare 55 = .ok (.if_icmp .eq 16, 3) := by decide +kernel
theorem d_Mod_compare_58 : decode b_Mod_compare 58 = .ok (.iload 8, 2) := by decide +kernel
theorem d_Mod_compare_60 : decode b_Mod_compare 60 = .ok (.iload 9, 2) := by decide +kernel
theorem d_Mod_compare_62 : decode b_Mod_compare 62 = .ok (.if_icmp .ge 7, 3) := by decide +kernel
theorem d_Mod_compare_65 : decode b_Mod_compare 65 = .ok (.iconst (-1), 1) := by decide +kernel
theorem d_Mod_compare_66 : decode b_Mod_compare 66 = .ok (.goto 4, 3) := by decide +kernel
theorem d_Mod_compare_69 : decode b_Mod_compare 69 = .ok (.iconst 1, 1) := by decide +kernel
theorem d_Mod_compare_70 : decode b_Mod_compare 70 = .ok (.ireturn, 1) := by decide +kernel
theorem d_Mod_compare_71 : decode b_Mod_compare 71 = .ok (.iinc 6 1, 3) := by decide +kernel
theorem d_Mod_compare_74 : decode b_Mod_compare 74 = .ok (.goto (-71), 3) := by decide +kernel
theorem d_Mod_compare_77 : decode b_Mod_compare 77 = .ok (.iconst 0, 1) := by decide +kernel
theorem d_Mod_compare_78 : decode b_Mod_compare 78 = .ok (.ireturn, 1) := by decide +kernel
theorem d_Mod_placeOf_0 : decode b_Mod_placeOf 0 = .ok (.iconst 0, 1) := by decide +kernel
theorem d_Mod_placeOf_1 : decode b_Mod_placeOf 1 = .ok (.istore 5, 2) := by decide +kernel
theorem d_Mod_placeOf_3 : decode b_Mod_placeOf 3 = .ok (.iload 5, 2) := by decide +kernel
theorem d_Mod_placeOf_5 : decode b_Mod_placeOf 5 = .ok (.aload_n 0, 1) := by decide +kernel
theorem d_Mod_placeOf_6 : decode b_Mod_placeOf 6 = .ok (.getfield 35, 3) := by decide +kernel
theorem d_Mod_placeOf_9 : decode b_Mod_placeOf 9 = .ok (.if_icmp .ge 23, 3) := by decide +kernel
theorem d_Mod_placeOf_12 : decode b_Mod_placeOf 12 = .ok (.aload_n 0, 1) := by decide +kernel
theorem d_Mod_placeOf_13 : decode b_Mod_placeOf 13 = .ok (.iload_n 1, 1) := by decide +kernel
theorem d_Mod_placeOf_14 : decode b_Mod_placeOf 14 = .ok (.iload 5, 2) := by decide +kernel
theorem d_Mod_placeOf_16 : decode b_Mod_placeOf 16 = .ok (.iload_n 2, 1) := by decide +kernel
theorem d_Mod_placeOf_17 : decode b_Mod_placeOf 17 = .ok (.iload_n 3, 1) := by decide +kernel
theorem d_Mod_placeOf_18 : decode b_Mod_placeOf 18 = .ok (.iload 4, 2) := by decide +kernel
theorem d_Mod_placeOf_20 : decode b_Mod_placeOf 20 = .ok (.invokevirtual 47, 3) := by decide +kernel
theorem d_Mod_placeOf_23 : decode b_Mod_placeOf 23 = .ok (.ifCond .ge 9, 3) := by decide +kernel
theorem d_Mod_placeOf_26 : decode b_Mod_placeOf 26 = .ok (.iinc 5 1, 3) := by decide +kernel
theorem d_Mod_placeOf_29 : decode b_Mod_placeOf 29 = .ok (.goto (-26), 3) := by decide +kernel
theorem d_Mod_placeOf_32 : decode b_Mod_placeOf 32 = .ok (.iload 5, 2) := by decide +kernel
theorem d_Mod_placeOf_34 : decode b_Mod_placeOf 34 = .ok (.ireturn, 1) := by decide +kernel
theorem d_Mod_holds_0 : decode b_Mod_holds 0 = .ok (.aload_n 0, 1) := by decide +kernel
theorem d_Mod_holds_1 : decode b_Mod_holds 1 = .ok (.iconst 0, 1) := by decide +kernel
theorem d_Mod_holds_2 : decode b_Mod_holds 2 = .ok (.iload_n 1, 1) := by decide +kernel
theorem d_Mod_holds_3 : decode b_Mod_holds 3 = .ok (.iload_n 2, 1) := by decide +kernel
theorem d_Mod_holds_4 : decode b_Mod_holds 4 = .ok (.iload_n 3, 1) := by decide +kernel
theorem d_Mod_holds_5 : decode b_Mod_holds 5 = .ok (.invokevirtual 51, 3) := by decide +kernel
theorem d_Mod_holds_8 : decode b_Mod_holds 8 = .ok (.istore 4, 2) := by decide +kernel
theorem d_Mod_holds_10 : decode b_Mod_holds 10 = .ok (.iload 4, 2) := by decide +kernel
theorem d_Mod_holds_12 : decode b_Mod_holds 12 = .ok (.aload_n 0, 1) := by decide +kernel
theorem d_Mod_holds_13 : decode b_Mod_holds 13 = .ok (.getfield 35, 3) := by decide +kernel
theorem d_Mod_holds_16 : decode b_Mod_holds 16 = .ok (.if_icmp .ge 20, 3) := by decide +kernel
theorem d_Mod_holds_19 : decode b_Mod_holds 19 = .ok (.aload_n 0, 1) := by decide +kernel
theorem d_Mod_holds_20 : decode b_Mod_holds 20 = .ok (.iconst 0, 1) := by decide +kernel
theorem d_Mod_holds_21 : decode b_Mod_holds 21 = .ok (.iload 4, 2) := by decide +kernel
theorem d_Mod_holds_23 : decode b_Mod_holds 23 = .ok (.iload_n 1, 1) := by decide +kernel
theorem d_Mod_holds_24 : decode b_Mod_holds 24 = .ok (.iload_n 2, 1) := by decide +kernel
theorem d_Mod_holds_25 : decode b_Mod_holds 25 = .ok (.iload_n 3, 1) := by decide +kernel
theorem d_Mod_holds_26 : decode b_Mod_holds 26 = .ok (.invokevirtual 47, 3) := by decide +kernel
theorem d_Mod_holds_29 : decode b_Mod_holds 29 = .ok (.ifCond .ne 7, 3) := by decide +kernel
theorem d_Mod_holds_32 : decode b_Mod_holds 32 = .ok (.iconst 1, 1) := by decide +kernel
theorem d_Mod_holds_33 : decode b_Mod_holds 33 = .ok (.goto 4, 3) := by decide +kernel
theorem d_Mod_holds_36 : decode b_Mod_holds 36 = .ok (.iconst 0, 1) := by decide +kernel
theorem d_Mod_holds_37 : decode b_Mod_holds 37 = .ok (.ireturn, 1) := by decide +kernel
theorem d_Mod_changed_0 : decode b_Mod_changed 0 = .ok (.aload_n 0, 1) := by decide +kernel
theorem d_Mod_changed_1 : decode b_Mod_changed 1 = .ok (.dup, 1) := by decide +kernel
theorem d_Mod_changed_2 : decode b_Mod_changed 2 = .ok (.getfield 55, 3) := by decide +kernel
theorem d_Mod_changed_5 : decode b_Mod_changed 5 = .ok (.iconst 1, 1) := by decide +kernel
theorem d_Mod_changed_6 : decode b_Mod_changed 6 = .ok (.iadd, 1) := by decide +kernel
theorem d_Mod_changed_7 : decode b_Mod_changed 7 = .ok (.putfield 55, 3) := by decide +kernel
theorem d_Mod_changed_10 : decode b_Mod_changed 10 = .ok (.iconst 0, 1) := by decide +kernel
theorem d_Mod_changed_11 : decode b_Mod_changed 11 = .ok (.istore_n 1, 1) := by decide +kernel
theorem d_Mod_changed_12 : decode b_Mod_changed 12 = .ok (.iload_n 1, 1) := by decide +kernel
theorem d_Mod_changed_13 : decode b_Mod_changed 13 = .ok (.bipush 8, 2) := by decide +kernel
theorem d_Mod_changed_15 : decode b_Mod_changed 15 = .ok (.if_icmp .ge 21, 3) := by decide +kernel
theorem d_Mod_changed_18 : decode b_Mod_changed 18 = .ok (.aload_n 0, 1) := by decide +kernel
theorem d_Mod_changed_19 : decode b_Mod_changed 19 = .ok (.getfield 17, 3) := by decide +kernel
theorem d_Mod_changed_22 : decode b_Mod_changed 22 = .ok (.iload_n 1, 1) := by decide +kernel
theorem d_Mod_changed_23 : decode b_Mod_changed 23 = .ok (.aload_n 0, 1) := by decide +kernel
theorem d_Mod_changed_24 : decode b_Mod_changed 24 = .ok (.getfield 13, 3) := by decide +kernel
theorem d_Mod_changed_27 : decode b_Mod_changed 27 = .ok (.iload_n 1, 1) := by decide +kernel
theorem d_Mod_changed_28 : decode b_Mod_changed 28 = .ok (.baload, 1) := by decide +kernel
theorem d_Mod_changed_29 : decode b_Mod_changed 29 = .ok (.bastore, 1) := by decide +kernel
theorem d_Mod_changed_30 : decode b_Mod_changed 30 = .ok (.iinc 1 1, 3) := by decide +kernel
theorem d_Mod_changed_33 : decode b_Mod_changed 33 = .ok (.goto (-21), 3) := by decide +kernel
theorem d_Mod_changed_36 : decode b_Mod_changed 36 = .ok (.return_, 1) := by decide +kernel
theorem d_Mod_add_0 : decode b_Mod_add 0 = .ok (.aload_n 0, 1) := by decide +kernel
theorem d_Mod_add_1 : decode b_Mod_add 1 = .ok (.iload_n 1, 1) := by decide +kernel
theorem d_Mod_add_2 : decode b_Mod_add 2 = .ok (.iload_n 2, 1) := by decide +kernel
theorem d_Mod_add_3 : decode b_Mod_add 3 = .ok (.iload_n 3, 1) := by decide +kernel
theorem d_Mod_add_4 : decode b_Mod_add 4 = .ok (.invokevirtual 58, 3) := by decide +kernel
theorem d_Mod_add_7 : decode b_Mod_add 7 = .ok (.ifCond .eq 5, 3) := by decide +kernel
theorem d_Mod_add_10 : decode b_Mod_add 10 = .ok (.iconst 0, 1) := by decide +kernel
theorem d_Mod_add_11 : decode b_Mod_add 11 = .ok (.ireturn, 1) := by decide +kernel
theorem d_Mod_add_12 : decode b_Mod_add 12 = .ok (.aload_n 0, 1) := by decide +kernel
theorem d_Mod_add_13 : decode b_Mod_add 13 = .ok (.getfield 35, 3) := by decide +kernel
theorem d_Mod_add_16 : decode b_Mod_add 16 = .ok (.sipush 700, 3) := by decide +kernel
theorem d_Mod_add_19 : decode b_Mod_add 19 = .ok (.if_icmp .ne 6, 3) := by decide +kernel
theorem d_Mod_add_22 : decode b_Mod_add 22 = .ok (.bipush (-2), 2) := by decide +kernel
theorem d_Mod_add_24 : decode b_Mod_add 24 = .ok (.ireturn, 1) := by decide +kernel
theorem d_Mod_add_25 : decode b_Mod_add 25 = .ok (.iconst 0, 1) := by decide +kernel
theorem d_Mod_add_26 : decode b_Mod_add 26 = .ok (.istore 4, 2) := by decide +kernel
theorem d_Mod_add_28 : decode b_Mod_add 28 = .ok (.iload 4, 2) := by decide +kernel
theorem d_Mod_add_30 : decode b_Mod_add 30 = .ok (.iconst 3, 1) := by decide +kernel
theorem d_Mod_add_31 : decode b_Mod_add 31 = .ok (.if_icmp .ge 118, 3) := by decide +kernel
theorem d_Mod_add_34 : decode b_Mod_add 34 = .ok (.aload_n 0, 1) := by decide +kernel
theorem d_Mod_add_35 : decode b_Mod_add 35 = .ok (.iload 4, 2) := by decide +kernel
theorem d_Mod_add_37 : decode b_Mod_add 37 = .ok (.iload_n 1, 1) := by decide +kernel
theorem d_Mod_add_38 : decode b_Mod_add 38 = .ok (.iload_n 2, 1) := by decide +kernel
theorem d_Mod_add_39 : decode b_Mod_add 39 = .ok (.iload_n 3, 1) := by decide +kernel
theorem d_Mod_add_40 : decode b_Mod_add 40 = .ok (.invokevirtual 51, 3) := by decide +kernel
theorem d_Mod_add_43 : decode b_Mod_add 43 = .ok (.istore 5, 2) := by decide +kernel
theorem d_Mod_add_45 : decode b_Mod_add 45 = .ok (.sipush 2101, 3) := by decide +kernel
theorem d_Mod_add_48 : decode b_Mod_add 48 = .ok (.iload 4, 2) := by decide +kernel
theorem d_Mod_add_50 : decode b_Mod_add 50 = .ok (.imul, 1) := by decide +kernel
theorem d_Mod_add_51 : decode b_Mod_add 51 = .ok (.istore 6, 2) := by decide +kernel
theorem d_Mod_add_53 : decode b_Mod_add 53 = .ok (.iconst 3, 1) := by decide +kernel
theorem d_Mod_add_54 : decode b_Mod_add 54 = .ok (.aload_n 0, 1) := by decide +kernel
theorem d_Mod_add_55 : decode b_Mod_add 55 = .ok (.getfield 35, 3) := by decide +kernel
theorem d_Mod_add_58 : decode b_Mod_add 58 = .ok (.imul, 1) := by decide +kernel
theorem d_Mod_add_59 : decode b_Mod_add 59 = .ok (.iconst 1, 1) := by decide +kernel
theorem d_Mod_add_60 : decode b_Mod_add 60 = .ok (.isub, 1) := by decide +kernel
theorem d_Mod_add_61 : decode b_Mod_add 61 = .ok (.istore 7, 2) := by decide +kernel
theorem d_Mod_add_63 : decode b_Mod_add 63 = .ok (.iload 7, 2) := by decide +kernel
theorem d_Mod_add_65 : decode b_Mod_add 65 = .ok (.iconst 3, 1) := by decide +kernel
theorem d_Mod_add_66 : decode b_Mod_add 66 = .ok (.iload 5, 2) := by decide +kernel
theorem d_Mod_add_68 : decode b_Mod_add 68 = .ok (.imul, 1) := by decide +kernel
theorem d_Mod_add_69 : decode b_Mod_add 69 = .ok (.if_icmp .lt 31, 3) := by decide +kernel
theorem d_Mod_add_72 : decode b_Mod_add 72 = .ok (.aload_n 0, 1) := by decide +kernel
theorem d_Mod_add_73 : decode b_Mod_add 73 = .ok (.getfield 7, 3) := by decide +kernel
theorem d_Mod_add_76 : decode b_Mod_add 76 = .ok (.iload 6, 2) := by decide +kernel
theorem d_Mod_add_78 : decode b_Mod_add 78 = .ok (.iload 7, 2) := by decide +kernel
theorem d_Mod_add_80 : decode b_Mod_add 80 = .ok (.iadd, 1) := by decide +kernel
theorem d_Mod_add_81 : decode b_Mod_add 81 = .ok (.iconst 3, 1) := by decide +kernel
theorem d_Mod_add_82 : decode b_Mod_add 82 = .ok (.iadd, 1) := by decide +kernel
theorem d_Mod_add_83 : decode b_Mod_add 83 = .ok (.aload_n 0, 1) := by decide +kernel
theorem d_Mod_add_84 : decode b_Mod_add 84 = .ok (.getfield 7, 3) := by decide +kernel
theorem d_Mod_add_87 : decode b_Mod_add 87 = .ok (.iload 6, 2) := by decide +kernel
theorem d_Mod_add_89 : decode b_Mod_add 89 = .ok (.iload 7, 2) := by decide +kernel
theorem d_Mod_add_91 : decode b_Mod_add 91 = .ok (.iadd, 1) := by decide +kernel
theorem d_Mod_add_92 : decode b_Mod_add 92 = .ok (.iaload, 1) := by decide +kernel
theorem d_Mod_add_93 : decode b_Mod_add 93 = .ok (.iastore, 1) := by decide +kernel
theorem d_Mod_add_94 : decode b_Mod_add 94 = .ok (.iinc 7 (-1), 3) := by decide +kernel
theorem d_Mod_add_97 : decode b_Mod_add 97 = .ok (.goto (-34), 3) := by decide +kernel
theorem d_Mod_add_100 : decode b_Mod_add 100 = .ok (.aload_n 0, 1) := by decide +kernel
theorem d_Mod_add_101 : decode b_Mod_add 101 = .ok (.getfield 7, 3) := by decide +kernel
theorem d_Mod_add_104 : decode b_Mod_add 104 = .ok (.iload 6, 2) := by decide +kernel
theorem d_Mod_add_106 : decode b_Mod_add 106 = .ok (.iconst 3, 1) := by decide +kernel
theorem d_Mod_add_107 : decode b_Mod_add 107 = .ok (.iload 5, 2) := by decide +kernel
theorem d_Mod_add_109 : decode b_Mod_add 109 = .ok (.imul, 1) := by decide +kernel
theorem d_Mod_add_110 : decode b_Mod_add 110 = .ok (.iadd, 1) := by decide +kernel
theorem d_Mod_add_111 : decode b_Mod_add 111 = .ok (.iload_n 1, 1) := by decide +kernel
theorem d_Mod_add_112 : decode b_Mod_add 112 = .ok (.iastore, 1) := by decide +kernel
theorem d_Mod_add_113 : decode b_Mod_add 113 = .ok (.aload_n 0, 1) := by decide +kernel
theorem d_Mod_add_114 : decode b_Mod_add 114 = .ok (.getfield 7, 3) := by decide +kernel
theorem d_Mod_add_117 : decode b_Mod_add 117 = .ok (.iload 6, 2) := by decide +kernel
theorem d_Mod_add_119 : decode b_Mod_add 119 = .ok (.iconst 3, 1) := by decide +kernel
theorem d_Mod_add_120 : decode b_Mod_add 120 = .ok (.iload 5, 2) := by decide +kernel
theorem d_Mod_add_122 : decode b_Mod_add 122 = .ok (.imul, 1) := by decide +kernel
theorem d_Mod_add_123 : decode b_Mod_add 123 = .ok (.iadd, 1) := by decide +kernel
theorem d_Mod_add_124 : decode b_Mod_add 124 = .ok (.iconst 1, 1) := by decide +kernel
theorem d_Mod_add_125 : decode b_Mod_add 125 = .ok (.iadd, 1) := by decide +kernel
theorem d_Mod_add_126 : decode b_Mod_add 126 = .ok (.iload_n 2, 1) := by decide +kernel
theorem d_Mod_add_127 : decode b_Mod_add 127 = .ok (.iastore, 1) := by decide +kernel
theorem d_Mod_add_128 : decode b_Mod_add 128 = .ok (.aload_n 0, 1) := by decide +kernel
theorem d_Mod_add_129 : decode b_Mod_add 129 = .ok (.getfield 7, 3) := by decide +kernel
theorem d_Mod_add_132 : decode b_Mod_add 132 = .ok (.iload 6, 2) := by decide +kernel
theorem d_Mod_add_134 : decode b_Mod_add 134 = .ok (.iconst 3, 1) := by decide +kernel
theorem d_Mod_add_135 : decode b_Mod_add 135 = .ok (.iload 5, 2) := by decide +kernel
theorem d_Mod_add_137 : decode b_Mod_add 137 = .ok (.imul, 1) := by decide +kernel
theorem d_Mod_add_138 : decode b_Mod_add 138 = .ok (.iadd, 1) := by decide +kernel
theorem d_Mod_add_139 : decode b_Mod_add 139 = .ok (.iconst 2, 1) := by decide +kernel
theorem d_Mod_add_140 : decode b_Mod_add 140 = .ok (.iadd, 1) := by decide +kernel
theorem d_Mod_add_141 : decode b_Mod_add 141 = .ok (.iload_n 3, 1) := by decide +kernel
theorem d_Mod_add_142 : decode b_Mod_add 142 = .ok (.iastore, 1) := by decide +kernel
theorem d_Mod_add_143 : decode b_Mod_add 143 = .ok (.iinc 4 1, 3) := by decide +kernel
theorem d_Mod_add_146 : decode b_Mod_add 146 = .ok (.goto (-118), 3) := by decide +kernel
theorem d_Mod_add_149 : decode b_Mod_add 149 = .ok (.aload_n 0, 1) := by decide +kernel
theorem d_Mod_add_150 : decode b_Mod_add 150 = .ok (.dup, 1) := by decide +kernel
theorem d_Mod_add_151 : decode b_Mod_add 151 = .ok (.getfield 35, 3) := by decide +kernel
theorem d_Mod_add_154 : decode b_Mod_add 154 = .ok (.iconst 1, 1) := by decide +kernel
theorem d_Mod_add_155 : decode b_Mod_add 155 = .ok (.iadd, 1) := by decide +kernel
theorem d_Mod_add_156 : decode b_Mod_add 156 = .ok (.putfield 35, 3) := by decide +kernel
theorem d_Mod_add_159 : decode b_Mod_add 159 = .ok (.aload_n 0, 1) := by decide +kernel
theorem d_Mod_add_160 : decode b_Mod_add 160 = .ok (.invokevirtual 62, 3) := by decide +kernel
theorem d_Mod_add_163 : decode b_Mod_add 163 = .ok (.iconst 1, 1) := by decide +kernel
theorem d_Mod_add_164 : decode b_Mod_add 164 = .ok (.ireturn, 1) := by decide +kernel
theorem d_Mod_remove_0 : decode b_Mod_remove 0 = .ok (.aload_n 0, 1) := by decide +kernel
theorem d_Mod_remove_1 : decode b_Mod_remove 1 = .ok (.iload_n 1, 1) := by decide +kernel
theorem d_Mod_remove_2 : decode b_Mod_remove 2 = .ok (.iload_n 2, 1) := by decide +kernel
theorem d_Mod_remove_3 : decode b_Mod_remove 3 = .ok (.iload_n 3, 1) := by decide +kernel
theorem d_Mod_remove_4 : decode b_Mod_remove 4 = .ok (.invokevirtual 58, 3) := by decide +kernel
theorem d_Mod_remove_7 : decode b_Mod_remove 7 = .ok (.ifCond .ne 5, 3) := by decide +kernel
theorem d_Mod_remove_10 : decode b_Mod_remove 10 = .ok (.iconst 0, 1) := by decide +kernel
theorem d_Mod_remove_11 : decode b_Mod_remove 11 = .ok (.ireturn, 1) := by decide +kernel
theorem d_Mod_remove_12 : decode b_Mod_remove 12 = .ok (.iconst 0, 1) := by decide +kernel
theorem d_Mod_remove_13 : decode b_Mod_remove 13 = .ok (.istore 4, 2) := by decide +kernel
theorem d_Mod_remove_15 : decode b_Mod_remove 15 = .ok (.iload 4, 2) := by decide +kernel
theorem d_Mod_remove_17 : decode b_Mod_remove 17 = .ok (.iconst 3, 1) := by decide +kernel
theorem d_Mod_remove_18 : decode b_Mod_remove 18 = .ok (.if_icmp .ge 75, 3) := by decide +kernel
theorem d_Mod_remove_21 : decode b_Mod_remove 21 = .ok (.aload_n 0, 1) := by decide +kernel
theorem d_Mod_remove_22 : decode b_Mod_remove 22 = .ok (.iload 4, 2) := by decide +kernel
theorem d_Mod_remove_24 : decode b_Mod_remove 24 = .ok (.iload_n 1, 1) := by decide +kernel
theorem d_Mod_remove_25 : decode b_Mod_remove 25 = .ok (.iload_n 2, 1) := by decide +kernel
theorem d_Mod_remove_26 : decode b_Mod_remove 26 = .ok (.iload_n 3, 1) := by decide +kernel
theorem d_Mod_remove_27 : decode b_Mod_remove 27 = .ok (.invokevirtual 51, 3) := by decide +kernel
theorem d_Mod_remove_30 : decode b_Mod_remove 30 = .ok (.istore 5, 2) := by decide +kernel
theorem d_Mod_remove_32 : decode b_Mod_remove 32 = .ok (.sipush 2101, 3) := by decide +kernel
theorem d_Mod_remove_35 : decode b_Mod_remove 35 = .ok (.iload 4, 2) := by decide +kernel
theorem d_Mod_remove_37 : decode b_Mod_remove 37 = .ok (.imul, 1) := by decide +kernel
theorem d_Mod_remove_38 : decode b_Mod_remove 38 = .ok (.istore 6, 2) := by decide +kernel
theorem d_Mod_remove_40 : decode b_Mod_remove 40 = .ok (.iconst 3, 1) := by decide +kernel
theorem d_Mod_remove_41 : decode b_Mod_remove 41 = .ok (.iload 5, 2) := by decide +kernel
theorem d_Mod_remove_43 : decode b_Mod_remove 43 = .ok (.imul, 1) := by decide +kernel
theorem d_Mod_remove_44 : decode b_Mod_remove 44 = .ok (.istore 7, 2) := by decide +kernel
theorem d_Mod_remove_46 : decode b_Mod_remove 46 = .ok (.iload 7, 2) := by decide +kernel
theorem d_Mod_remove_48 : decode b_Mod_remove 48 = .ok (.iconst 3, 1) := by decide +kernel
theorem d_Mod_remove_49 : decode b_Mod_remove 49 = .ok (.aload_n 0, 1) := by decide +kernel
theorem d_Mod_remove_50 : decode b_Mod_remove 50 = .ok (.getfield 35, 3) := by decide +kernel
theorem d_Mod_remove_53 : decode b_Mod_remove 53 = .ok (.imul, 1) := by decide +kernel
theorem d_Mod_remove_54 : decode b_Mod_remove 54 = .ok (.iconst 3, 1) := by decide +kernel
theorem d_Mod_remove_55 : decode b_Mod_remove 55 = .ok (.isub, 1) := by decide +kernel
theorem d_Mod_remove_56 : decode b_Mod_remove 56 = .ok (.if_icmp .ge 31, 3) := by decide +kernel
theorem d_Mod_remove_59 : decode b_Mod_remove 59 = .ok (.aload_n 0, 1) := by decide +kernel
theorem d_Mod_remove_60 : decode b_Mod_remove 60 = .ok (.getfield 7, 3) := by decide +kernel
theorem d_Mod_remove_63 : decode b_Mod_remove 63 = .ok (.iload 6, 2) := by decide +kernel
theorem d_Mod_remove_65 : decode b_Mod_remove 65 = .ok (.iload 7, 2) := by decide +kernel
theorem d_Mod_remove_67 : decode b_Mod_remove 67 = .ok (.iadd, 1) := by decide +kernel
theorem d_Mod_remove_68 : decode b_Mod_remove 68 = .ok (.aload_n 0, 1) := by decide +kernel
theorem d_Mod_remove_69 : decode b_Mod_remove 69 = .ok (.getfield 7, 3) := by decide +kernel
theorem d_Mod_remove_72 : decode b_Mod_remove 72 = .ok (.iload 6, 2) := by decide +kernel
theorem d_Mod_remove_74 : decode b_Mod_remove 74 = .ok (.iload 7, 2) := by decide +kernel
theorem d_Mod_remove_76 : decode b_Mod_remove 76 = .ok (.iadd, 1) := by decide +kernel
theorem d_Mod_remove_77 : decode b_Mod_remove 77 = .ok (.iconst 3, 1) := by decide +kernel
theorem d_Mod_remove_78 : decode b_Mod_remove 78 = .ok (.iadd, 1) := by decide +kernel
theorem d_Mod_remove_79 : decode b_Mod_remove 79 = .ok (.iaload, 1) := by decide +kernel
theorem d_Mod_remove_80 : decode b_Mod_remove 80 = .ok (.iastore, 1) := by decide +kernel
theorem d_Mod_remove_81 : decode b_Mod_remove 81 = .ok (.iinc 7 1, 3) := by decide +kernel
theorem d_Mod_remove_84 : decode b_Mod_remove 84 = .ok (.goto (-38), 3) := by decide +kernel
theorem d_Mod_remove_87 : decode b_Mod_remove 87 = .ok (.iinc 4 1, 3) := by decide +kernel
theorem d_Mod_remove_90 : decode b_Mod_remove 90 = .ok (.goto (-75), 3) := by decide +kernel
theorem d_Mod_remove_93 : decode b_Mod_remove 93 = .ok (.aload_n 0, 1) := by decide +kernel
theorem d_Mod_remove_94 : decode b_Mod_remove 94 = .ok (.dup, 1) := by decide +kernel
theorem d_Mod_remove_95 : decode b_Mod_remove 95 = .ok (.getfield 35, 3) := by decide +kernel
theorem d_Mod_remove_98 : decode b_Mod_remove 98 = .ok (.iconst 1, 1) := by decide +kernel
theorem d_Mod_remove_99 : decode b_Mod_remove 99 = .ok (.isub, 1) := by decide +kernel
theorem d_Mod_remove_100 : decode b_Mod_remove 100 = .ok (.putfield 35, 3) := by decide +kernel
theorem d_Mod_remove_103 : decode b_Mod_remove 103 = .ok (.aload_n 0, 1) := by decide +kernel
theorem d_Mod_remove_104 : decode b_Mod_remove 104 = .ok (.invokevirtual 62, 3) := by decide +kernel
theorem d_Mod_remove_107 : decode b_Mod_remove 107 = .ok (.iconst 1, 1) := by decide +kernel
theorem d_Mod_remove_108 : decode b_Mod_remove 108 = .ok (.ireturn, 1) := by decide +kernel
theorem d_Mod_matches_0 : decode b_Mod_matches 0 = .ok (.iload_n 3, 1) := by decide +kernel
theorem d_Mod_matches_1 : decode b_Mod_matches 1 = .ok (.iconst 1, 1) := by decide +kernel
theorem d_Mod_matches_2 : decode b_Mod_matches 2 = .ok (.iand, 1) := by decide +kernel
theorem d_Mod_matches_3 : decode b_Mod_matches 3 = .ok (.ifCond .eq 15, 3) := by decide +kernel
theorem d_Mod_matches_6 : decode b_Mod_matches 6 = .ok (.aload_n 0, 1) := by decide +kernel
theorem d_Mod_matches_7 : decode b_Mod_matches 7 = .ok (.iload_n 1, 1) := by decide +kernel
theorem d_Mod_matches_8 : decode b_Mod_matches 8 = .ok (.iload_n 2, 1) := by decide +kernel
theorem d_Mod_matches_9 : decode b_Mod_matches 9 = .ok (.iconst 0, 1) := by decide +kernel
theorem d_Mod_matches_10 : decode b_Mod_matches 10 = .ok (.invokevirtual 43, 3) := by decide +kernel
theorem d_Mod_matches_13 : decode b_Mod_matches 13 = .ok (.iload 4, 2) := by decide +kernel
theorem d_Mod_matches_15 : decode b_Mod_matches 15 = .ok (.if_icmp .ne 43, 3) := by decide +kernel
theorem d_Mod_matches_18 : decode b_Mod_matches 18 = .ok (.iload_n 3, 1) := by decide +kernel
theorem d_Mod_matches_19 : decode b_Mod_matches 19 = .ok (.iconst 2, 1) := by decide +kernel
theorem d_Mod_matches_20 : decode b_Mod_matches 20 = .ok (.iand, 1) := by decide +kernel
theorem d_Mod_matches_21 : decode b_Mod_matches 21 = .ok (.ifCond .eq 15, 3) := by decide +kernel
theorem d_Mod_matches_24 : decode b_Mod_matches 24 = .ok (.aload_n 0, 1) := by decide +kernel
theorem d_Mod_matches_25 : decode b_Mod_matches 25 = .ok (.iload_n 1, 1) := by decide +kernel
theorem d_Mod_matches_26 : decode b_Mod_matches 26 = .ok (.iload_n 2, 1) := by decide +kernel
theorem d_Mod_matches_27 : decode b_Mod_matches 27 = .ok (.iconst 1, 1) := by decide +kernel
theorem d_Mod_matches_28 : decode b_Mod_matches 28 = .ok (.invokevirtual 43, 3) := by decide +kernel
theorem d_Mod_matches_31 : decode b_Mod_matches 31 = .ok (.iload 5, 2) := by decide +kernel
theorem d_Mod_matches_33 : decode b_Mod_matches 33 = .ok (.if_icmp .ne 25, 3) := by decide +kernel
theorem d_Mod_matches_36 : decode b_Mod_matches 36 = .ok (.iload_n 3, 1) := by decide +kernel
theorem d_Mod_matches_37 : decode b_Mod_matches 37 = .ok (.iconst 4, 1) := by decide +kernel
theorem d_Mod_matches_38 : decode b_Mod_matches 38 = .ok (.iand, 1) := by decide +kernel
theorem d_Mod_matches_39 : decode b_Mod_matches 39 = .ok (.ifCond .eq 15, 3) := by decide +kernel
theorem d_Mod_matches_42 : decode b_Mod_matches 42 = .ok (.aload_n 0, 1) := by decide +kernel
theorem d_Mod_matches_43 : decode b_Mod_matches 43 = .ok (.iload_n 1, 1) := by decide +kernel
theorem d_Mod_matches_44 : decode b_Mod_matches 44 = .ok (.iload_n 2, 1) := by decide +kernel
theorem d_Mod_matches_45 : decode b_Mod_matches 45 = .ok (.iconst 2, 1) := by decide +kernel
theorem d_Mod_matches_46 : decode b_Mod_matches 46 = .ok (.invokevirtual 43, 3) := by decide +kernel
theorem d_Mod_matches_49 : decode b_Mod_matches 49 = .ok (.iload 6, 2) := by decide +kernel
theorem d_Mod_matches_51 : decode b_Mod_matches 51 = .ok (.if_icmp .ne 7, 3) := by decide +kernel
theorem d_Mod_matches_54 : decode b_Mod_matches 54 = .ok (.iconst 1, 1) := by decide +kernel
theorem d_Mod_matches_55 : decode b_Mod_matches 55 = .ok (.goto 4, 3) := by decide +kernel
theorem d_Mod_matches_58 : decode b_Mod_matches 58 = .ok (.iconst 0, 1) := by decide +kernel
theorem d_Mod_matches_59 : decode b_Mod_matches 59 = .ok (.ireturn, 1) := by decide +kernel
theorem d_Mod_isMask_0 : decode b_Mod_isMask 0 = .ok (.iload_n 0, 1) := by decide +kernel
theorem d_Mod_isMask_1 : decode b_Mod_isMask 1 = .ok (.ifCond .lt 13, 3) := by decide +kernel
theorem d_Mod_isMask_4 : decode b_Mod_isMask 4 = .ok (.iload_n 0, 1) := by decide +kernel
theorem d_Mod_isMask_5 : decode b_Mod_isMask 5 = .ok (.bipush 7, 2) := by decide +kernel
theorem d_Mod_isMask_7 : decode b_Mod_isMask 7 = .ok (.if_icmp .gt 7, 3) := by decide +kernel
theorem d_Mod_isMask_10 : decode b_Mod_isMask 10 = .ok (.iconst 1, 1) := by decide +kernel
theorem d_Mod_isMask_11 : decode b_Mod_isMask 11 = .ok (.goto 4, 3) := by decide +kernel
theorem d_Mod_isMask_14 : decode b_Mod_isMask 14 = .ok (.iconst 0, 1) := by decide +kernel
theorem d_Mod_isMask_15 : decode b_Mod_isMask 15 = .ok (.ireturn, 1) := by decide +kernel
theorem d_Mod_removeAll_0 : decode b_Mod_removeAll 0 = .ok (.iload_n 1, 1) := by decide +kernel
theorem d_Mod_removeAll_1 : decode b_Mod_removeAll 1 = .ok (.invokestatic 65, 3) := by decide +kernel
theorem d_Mod_removeAll_4 : decode b_Mod_removeAll 4 = .ok (.ifCond .ne 5, 3) := by decide +kernel
theorem d_Mod_removeAll_7 : decode b_Mod_removeAll 7 = .ok (.iconst (-1), 1) := by decide +kernel
theorem d_Mod_removeAll_8 : decode b_Mod_removeAll 8 = .ok (.ireturn, 1) := by decide +kernel
theorem d_Mod_removeAll_9 : decode b_Mod_removeAll 9 = .ok (.iconst 0, 1) := by decide +kernel
theorem d_Mod_removeAll_10 : decode b_Mod_removeAll 10 = .ok (.istore 5, 2) := by decide +kernel
theorem d_Mod_removeAll_12 : decode b_Mod_removeAll 12 = .ok (.iconst 0, 1) := by decide +kernel
theorem d_Mod_removeAll_13 : decode b_Mod_removeAll 13 = .ok (.istore 6, 2) := by decide +kernel
theorem d_Mod_removeAll_15 : decode b_Mod_removeAll 15 = .ok (.iload 6, 2) := by decide +kernel
theorem d_Mod_removeAll_17 : decode b_Mod_removeAll 17 = .ok (.aload_n 0, 1) := by decide +kernel
theorem d_Mod_removeAll_18 : decode b_Mod_removeAll 18 = .ok (.getfield 35, 3) := by decide +kernel
theorem d_Mod_removeAll_21 : decode b_Mod_removeAll 21 = .ok (.if_icmp .ge 59, 3) := by decide +kernel
theorem d_Mod_removeAll_24 : decode b_Mod_removeAll 24 = .ok (.aload_n 0, 1) := by decide +kernel
theorem d_Mod_removeAll_25 : decode b_Mod_removeAll 25 = .ok (.iconst 0, 1) := by decide +kernel
theorem d_Mod_removeAll_26 : decode b_Mod_removeAll 26 = .ok (.iload 6, 2) := by decide +kernel
theorem d_Mod_removeAll_28 : decode b_Mod_removeAll 28 = .ok (.iload_n 1, 1) := by decide +kernel
theorem d_Mod_removeAll_29 : decode b_Mod_removeAll 29 = .ok (.iload_n 2, 1) := by decide +kernel
theorem d_Mod_removeAll_30 : decode b_Mod_removeAll 30 = .ok (.iload_n 3, 1) := by decide +kernel
theorem d_Mod_removeAll_31 : decode b_Mod_removeAll 31 = .ok (.iload 4, 2) := by decide +kernel
theorem d_Mod_removeAll_33 : decode b_Mod_removeAll 33 = .ok (.invokevirtual 69, 3) := by decide +kernel
theorem d_Mod_removeAll_36 : decode b_Mod_removeAll 36 = .ok (.ifCond .eq 38, 3) := by decide +kernel
theorem d_Mod_removeAll_39 : decode b_Mod_removeAll 39 = .ok (.aload_n 0, 1) := by decide +kernel
theorem d_Mod_removeAll_40 : decode b_Mod_removeAll 40 = .ok (.aload_n 0, 1) := by decide +kernel
theorem d_Mod_removeAll_41 : decode b_Mod_removeAll 41 = .ok (.iconst 0, 1) := by decide +kernel
theorem d_Mod_removeAll_42 : decode b_Mod_removeAll 42 = .ok (.iload 6, 2) := by decide +kernel
theorem d_Mod_removeAll_44 : decode b_Mod_removeAll 44 = .ok (.iconst 0, 1) := by decide +kernel
theorem d_Mod_removeAll_45 : decode b_Mod_removeAll 45 = .ok (.invokevirtual 43, 3) := by decide +kernel
theorem d_Mod_removeAll_48 : decode b_Mod_removeAll 48 = .ok (.aload_n 0, 1) := by decide +kernel
theorem d_Mod_removeAll_49 : decode b_Mod_removeAll 49 = .ok (.iconst 0, 1) := by decide +kernel
theorem d_Mod_removeAll_50 : decode b_Mod_removeAll 50 = .ok (.iload 6, 2) := by decide +kernel
theorem d_Mod_removeAll_52 : decode b_Mod_removeAll 52 = .ok (.iconst 1, 1) := by decide +kernel
theorem d_Mod_removeAll_53 : decode b_Mod_removeAll 53 = .ok (.invokevirtual 43, 3) := by decide +kernel
theorem d_Mod_removeAll_56 : decode b_Mod_removeAll 56 = .ok (.aload_n 0, 1) := by decide +kernel
theorem d_Mod_removeAll_57 : decode b_Mod_removeAll 57 = .ok (.iconst 0, 1) := by decide +kernel
theorem d_Mod_removeAll_58 : decode b_Mod_removeAll 58 = .ok (.iload 6, 2) := by decide +kernel
theorem d_Mod_removeAll_60 : decode b_Mod_removeAll 60 = .ok (.iconst 2, 1) := by decide +kernel
theorem d_Mod_removeAll_61 : decode b_Mod_removeAll 61 = .ok (.invokevirtual 43, 3) := by decide +kernel
theorem d_Mod_removeAll_64 : decode b_Mod_removeAll 64 = .ok (.invokevirtual 73, 3) := by decide +kernel
theorem d_Mod_removeAll_67 : decode b_Mod_removeAll 67 = .ok (.pop, 1) := by decide +kernel
theorem d_Mod_removeAll_68 : decode b_Mod_removeAll 68 = .ok (.iinc 5 1, 3) := by decide +kernel
theorem d_Mod_removeAll_71 : decode b_Mod_removeAll 71 = .ok (.goto (-56), 3) := by decide +kernel
theorem d_Mod_removeAll_74 : decode b_Mod_removeAll 74 = .ok (.iinc 6 1, 3) := by decide +kernel
theorem d_Mod_removeAll_77 : decode b_Mod_removeAll 77 = .ok (.goto (-62), 3) := by decide +kernel
theorem d_Mod_removeAll_80 : decode b_Mod_removeAll 80 = .ok (.iload 5, 2) := by decide +kernel
theorem d_Mod_removeAll_82 : decode b_Mod_removeAll 82 = .ok (.ireturn, 1) := by decide +kernel
theorem d_Mod_many_0 : decode b_Mod_many 0 = .ok (.iload_n 1, 1) := by decide +kernel
theorem d_Mod_many_1 : decode b_Mod_many 1 = .ok (.invokestatic 65, 3) := by decide +kernel
theorem d_Mod_many_4 : decode b_Mod_many 4 = .ok (.ifCond .ne 5, 3) := by decide +kernel
theorem d_Mod_many_7 : decode b_Mod_many 7 = .ok (.iconst (-1), 1) := by decide +kernel
theorem d_Mod_many_8 : decode b_Mod_many 8 = .ok (.ireturn, 1) := by decide +kernel
theorem d_Mod_many_9 : decode b_Mod_many 9 = .ok (.iconst 0, 1) := by decide +kernel
theorem d_Mod_many_10 : decode b_Mod_many 10 = .ok (.istore 5, 2) := by decide +kernel
theorem d_Mod_many_12 : decode b_Mod_many 12 = .ok (.iconst 0, 1) := by decide +kernel
theorem d_Mod_many_13 : decode b_Mod_many 13 = .ok (.istore 6, 2) := by decide +kernel
theorem d_Mod_many_15 : decode b_Mod_many 15 = .ok (.iload 6, 2) := by decide +kernel
theorem d_Mod_many_17 : decode b_Mod_many 17 = .ok (.aload_n 0, 1) := by decide +kernel
theorem d_Mod_many_18 : decode b_Mod_many 18 = .ok (.getfield 35, 3) := by decide +kernel
theorem d_Mod_many_21 : decode b_Mod_many 21 = .ok (.if_icmp .ge 34, 3) := by decide +kernel
theorem d_Mod_many_24 : decode b_Mod_many 24 = .ok (.iload 5, 2) := by decide +kernel
theorem d_Mod_many_26 : decode b_Mod_many 26 = .ok (.aload_n 0, 1) := by decide +kernel
theorem d_Mod_many_27 : decode b_Mod_many 27 = .ok (.iconst 0, 1) := by decide +kernel
theorem d_Mod_many_28 : decode b_Mod_many 28 = .ok (.iload 6, 2) := by decide +kernel
theorem d_Mod_many_30 : decode b_Mod_many 30 = .ok (.iload_n 1, 1) := by decide +kernel
theorem d_Mod_many_31 : decode b_Mod_many 31 = .ok (.iload_n 2, 1) := by decide +kernel
theorem d_Mod_many_32 : decode b_Mod_many 32 = .ok (.iload_n 3, 1) := by decide +kernel
theorem d_Mod_many_33 : decode b_Mod_many 33 = .ok (.iload 4, 2) := by decide +kernel
theorem d_Mod_many_35 : decode b_Mod_many 35 = .ok (.invokevirtual 69, 3) := by decide +kernel
theorem d_Mod_many_38 : decode b_Mod_many 38 = .ok (.ifCond .eq 7, 3) := by decide +kernel
theorem d_Mod_many_41 : decode b_Mod_many 41 = .ok (.iconst 1, 1) := by decide +kernel
theorem d_Mod_many_42 : decode b_Mod_many 42 = .ok (.goto 4, 3) := by decide +kernel
theorem d_Mod_many_45 : decode b_Mod_many 45 = .ok (.iconst 0, 1) := by decide +kernel
theorem d_Mod_many_46 : decode b_Mod_many 46 = .ok (.iadd, 1) := by decide +kernel
theorem d_Mod_many_47 : decode b_Mod_many 47 = .ok (.istore 5, 2) := by decide +kernel
theorem d_Mod_many_49 : decode b_Mod_many 49 = .ok (.iinc 6 1, 3) := by decide +kernel
theorem d_Mod_many_52 : decode b_Mod_many 52 = .ok (.goto (-37), 3) := by decide +kernel
theorem d_Mod_many_55 : decode b_Mod_many 55 = .ok (.iload 5, 2) := by decide +kernel
theorem d_Mod_many_57 : decode b_Mod_many 57 = .ok (.ireturn, 1) := by decide +kernel
theorem d_Mod_open_0 : decode b_Mod_open 0 = .ok (.iload_n 1, 1) := by decide +kernel
theorem d_Mod_open_1 : decode b_Mod_open 1 = .ok (.invokestatic 65, 3) := by decide +kernel
theorem d_Mod_open_4 : decode b_Mod_open 4 = .ok (.ifCond .ne 5, 3) := by decide +kernel
theorem d_Mod_open_7 : decode b_Mod_open 7 = .ok (.iconst (-1), 1) := by decide +kernel
theorem d_Mod_open_8 : decode b_Mod_open 8 = .ok (.ireturn, 1) := by decide +kernel
theorem d_Mod_open_9 : decode b_Mod_open 9 = .ok (.iconst 0, 1) := by decide +kernel
theorem d_Mod_open_10 : decode b_Mod_open 10 = .ok (.istore 5, 2) := by decide +kernel
theorem d_Mod_open_12 : decode b_Mod_open 12 = .ok (.iload 5, 2) := by decide +kernel
theorem d_Mod_open_14 : decode b_Mod_open 14 = .ok (.bipush 8, 2) := by decide +kernel
theorem d_Mod_open_16 : decode b_Mod_open 16 = .ok (.if_icmp .ge 19, 3) := by decide +kernel
theorem d_Mod_open_19 : decode b_Mod_open 19 = .ok (.aload_n 0, 1) := by decide +kernel
theorem d_Mod_open_20 : decode b_Mod_open 20 = .ok (.getfield 13, 3) := by decide +kernel
theorem d_Mod_open_23 : decode b_Mod_open 23 = .ok (.iload 5, 2) := by decide +kernel
theorem d_Mod_open_25 : decode b_Mod_open 25 = .ok (.baload, 1) := by decide +kernel
theorem d_Mod_open_26 : decode b_Mod_open 26 = .ok (.ifCond .eq 9, 3) := by decide +kernel
theorem d_Mod_open_29 : decode b_Mod_open 29 = .ok (.iinc 5 1, 3) := by decide +kernel
theorem d_Mod_open_32 : decode b_Mod_open 32 = .ok (.goto (-20), 3) := by decide +kernel
theorem d_Mod_open_35 : decode b_Mod_open 35 = .ok (.iload 5, 2) := by decide +kernel
theorem d_Mod_open_37 : decode b_Mod_open 37 = .ok (.bipush 8, 2) := by decide +kernel
theorem d_Mod_open_39 : decode b_Mod_open 39 = .ok (.if_icmp .ne 6, 3) := by decide +kernel
theorem d_Mod_open_42 : decode b_Mod_open 42 = .ok (.bipush (-2), 2) := by decide +kernel
theorem d_Mod_open_44 : decode b_Mod_open 44 = .ok (.ireturn, 1) := by decide +kernel
theorem d_Mod_open_45 : decode b_Mod_open 45 = .ok (.aload_n 0, 1) := by decide +kernel
theorem d_Mod_open_46 : decode b_Mod_open 46 = .ok (.getfield 13, 3) := by decide +kernel
theorem d_Mod_open_49 : decode b_Mod_open 49 = .ok (.iload 5, 2) := by decide +kernel
theorem d_Mod_open_51 : decode b_Mod_open 51 = .ok (.iconst 1, 1) := by decide +kernel
theorem d_Mod_open_52 : decode b_Mod_open 52 = .ok (.bastore, 1) := by decide +kernel
theorem d_Mod_open_53 : decode b_Mod_open 53 = .ok (.aload_n 0, 1) := by decide +kernel
theorem d_Mod_open_54 : decode b_Mod_open 54 = .ok (.getfield 17, 3) := by decide +kernel
theorem d_Mod_open_57 : decode b_Mod_open 57 = .ok (.iload 5, 2) := by decide +kernel
theorem d_Mod_open_59 : decode b_Mod_open 59 = .ok (.iconst 0, 1) := by decide +kernel
theorem d_Mod_open_60 : decode b_Mod_open 60 = .ok (.bastore, 1) := by decide +kernel
theorem d_Mod_open_61 : decode b_Mod_open 61 = .ok (.aload_n 0, 1) := by decide +kernel
theorem d_Mod_open_62 : decode b_Mod_open 62 = .ok (.getfield 20, 3) := by decide +kernel
theorem d_Mod_open_65 : decode b_Mod_open 65 = .ok (.iload 5, 2) := by decide +kernel
theorem d_Mod_open_67 : decode b_Mod_open 67 = .ok (.iload_n 1, 1) := by decide +kernel
theorem d_Mod_open_68 : decode b_Mod_open 68 = .ok (.iastore, 1) := by decide +kernel
theorem d_Mod_open_69 : decode b_Mod_open 69 = .ok (.aload_n 0, 1) := by decide +kernel
theorem d_Mod_open_70 : decode b_Mod_open 70 = .ok (.getfield 23, 3) := by decide +kernel
theorem d_Mod_open_73 : decode b_Mod_open 73 = .ok (.iconst 3, 1) := by decide +kernel
theorem d_Mod_open_74 : decode b_Mod_open 74 = .ok (.iload 5, 2) := by decide +kernel
theorem d_Mod_open_76 : decode b_Mod_open 76 = .ok (.imul, 1) := by decide +kernel
theorem d_Mod_open_77 : decode b_Mod_open 77 = .ok (.iload_n 2, 1) := by decide +kernel
theorem d_Mod_open_78 : decode b_Mod_open 78 = .ok (.iastore, 1) := by decide +kernel
theorem d_Mod_open_79 : decode b_Mod_open 79 = .ok (.aload_n 0, 1) := by decide +kernel
theorem d_Mod_open_80 : decode b_Mod_open 80 = .ok (.getfield 23, 3) := by decide +kernel
theorem d_Mod_open_83 : decode b_Mod_open 83 = .ok (.iconst 3, 1) := by decide +kernel
theorem d_Mod_open_84 : decode b_Mod_open 84 = .ok (.iload 5, 2) := by decide +kernel
theorem d_Mod_open_86 : decode b_Mod_open 86 = .ok (.imul, 1) := by decide +kernel
theorem d_Mod_open_87 : decode b_Mod_open 87 = .ok (.iconst 1, 1) := by decide +kernel
theorem d_Mod_open_88 : decode b_Mod_open 88 = .ok (.iadd, 1) := by decide +kernel
theorem d_Mod_open_89 : decode b_Mod_open 89 = .ok (.iload_n 3, 1) := by decide +kernel
theorem d_Mod_open_90 : decode b_Mod_open 90 = .ok (.iastore, 1) := by decide +kernel
theorem d_Mod_open_91 : decode b_Mod_open 91 = .ok (.aload_n 0, 1) := by decide +kernel
theorem d_Mod_open_92 : decode b_Mod_open 92 = .ok (.getfield 23, 3) := by decide +kernel
theorem d_Mod_open_95 : decode b_Mod_open 95 = .ok (.iconst 3, 1) := by decide +kernel
theorem d_Mod_open_96 : decode b_Mod_open 96 = .ok (.iload 5, 2) := by decide +kernel
theorem d_Mod_open_98 : decode b_Mod_open 98 = .ok (.imul, 1) := by decide +kernel
theorem d_Mod_open_99 : decode b_Mod_open 99 = .ok (.iconst 2, 1) := by decide +kernel
theorem d_Mod_open_100 : decode b_Mod_open 100 = .ok (.iadd, 1) := by decide +kernel
theorem d_Mod_open_101 : decode b_Mod_open 101 = .ok (.iload 4, 2) := by decide +kernel
theorem d_Mod_open_103 : decode b_Mod_open 103 = .ok (.iastore, 1) := by decide +kernel
theorem d_Mod_open_104 : decode b_Mod_open 104 = .ok (.aload_n 0, 1) := by decide +kernel
theorem d_Mod_open_105 : decode b_Mod_open 105 = .ok (.getfield 26, 3) := by decide +kernel
theorem d_Mod_open_108 : decode b_Mod_open 108 = .ok (.iload 5, 2) := by decide +kernel
theorem d_Mod_open_110 : decode b_Mod_open 110 = .ok (.iconst (-1), 1) := by decide +kernel
theorem d_Mod_open_111 : decode b_Mod_open 111 = .ok (.iastore, 1) := by decide +kernel
theorem d_Mod_open_112 : decode b_Mod_open 112 = .ok (.iload 5, 2) := by decide +kernel
theorem d_Mod_open_114 : decode b_Mod_open 114 = .ok (.ireturn, 1) := by decide +kernel
theorem d_Mod_isCursor_0 : decode b_Mod_isCursor 0 = .ok (.iload_n 1, 1) := by decide +kernel
theorem d_Mod_isCursor_1 : decode b_Mod_isCursor 1 = .ok (.ifCond .lt 22, 3) := by decide +kernel
theorem d_Mod_isCursor_4 : decode b_Mod_isCursor 4 = .ok (.iload_n 1, 1) := by decide +kernel
theorem d_Mod_isCursor_5 : decode b_Mod_isCursor 5 = .ok (.bipush 8, 2) := by decide +kernel
theorem d_Mod_isCursor_7 : decode b_Mod_isCursor 7 = .ok (.if_icmp .ge 16, 3) := by decide +kernel
theorem d_Mod_isCursor_10 : decode b_Mod_isCursor 10 = .ok (.aload_n 0, 1) := by decide +kernel
theorem d_Mod_isCursor_11 : decode b_Mod_isCursor 11 = .ok (.getfield 13, 3) := by decide +kernel
theorem d_Mod_isCursor_14 : decode b_Mod_isCursor 14 = .ok (.iload_n 1, 1) := by decide +kernel
theorem d_Mod_isCursor_15 : decode b_Mod_isCursor 15 = .ok (.baload, 1) := by decide +kernel
theorem d_Mod_isCursor_16 : decode b_Mod_isCursor 16 = .ok (.ifCond .eq 7, 3) := by decide +kernel
theorem d_Mod_isCursor_19 : decode b_Mod_isCursor 19 = .ok (.iconst 1, 1) := by decide +kernel
theorem d_Mod_isCursor_20 : decode b_Mod_isCursor 20 = .ok (.goto 4, 3) := by decide +kernel
theorem d_Mod_isCursor_23 : decode b_Mod_isCursor 23 = .ok (.iconst 0, 1) := by decide +kernel
theorem d_Mod_isCursor_24 : decode b_Mod_isCursor 24 = .ok (.ireturn, 1) := by decide +kernel
theorem d_Mod_goOn_0 : decode b_Mod_goOn 0 = .ok (.aload_n 0, 1) := by decide +kernel
theorem d_Mod_goOn_1 : decode b_Mod_goOn 1 = .ok (.iload_n 1, 1) := by decide +kernel
theorem d_Mod_goOn_2 : decode b_Mod_goOn 2 = .ok (.invokevirtual 76, 3) := by decide +kernel
theorem d_Mod_goOn_5 : decode b_Mod_goOn 5 = .ok (.ifCond .ne 5, 3) := by decide +kernel
theorem d_Mod_goOn_8 : decode b_Mod_goOn 8 = .ok (.iconst (-1), 1) := by decide +kernel
theorem d_Mod_goOn_9 : decode b_Mod_goOn 9 = .ok (.ireturn, 1) := by decide +kernel
theorem d_Mod_goOn_10 : decode b_Mod_goOn 10 = .ok (.aload_n 0, 1) := by decide +kernel
theorem d_Mod_goOn_11 : decode b_Mod_goOn 11 = .ok (.getfield 17, 3) := by decide +kernel
theorem d_Mod_goOn_14 : decode b_Mod_goOn 14 = .ok (.iload_n 1, 1) := by decide +kernel
theorem d_Mod_goOn_15 : decode b_Mod_goOn 15 = .ok (.baload, 1) := by decide +kernel
theorem d_Mod_goOn_16 : decode b_Mod_goOn 16 = .ok (.ifCond .eq 6, 3) := by decide +kernel
theorem d_Mod_goOn_19 : decode b_Mod_goOn 19 = .ok (.bipush (-3), 2) := by decide +kernel
theorem d_Mod_goOn_21 : decode b_Mod_goOn 21 = .ok (.ireturn, 1) := by decide +kernel
theorem d_Mod_goOn_22 : decode b_Mod_goOn 22 = .ok (.aload_n 0, 1) := by decide +kernel
theorem d_Mod_goOn_23 : decode b_Mod_goOn 23 = .ok (.getfield 20, 3) := by decide +kernel
theorem d_Mod_goOn_26 : decode b_Mod_goOn 26 = .ok (.iload_n 1, 1) := by decide +kernel
theorem d_Mod_goOn_27 : decode b_Mod_goOn 27 = .ok (.iaload, 1) := by decide +kernel
theorem d_Mod_goOn_28 : decode b_Mod_goOn 28 = .ok (.invokestatic 79, 3) := by decide +kernel
theorem d_Mod_goOn_31 : decode b_Mod_goOn 31 = .ok (.istore 6, 2) := by decide +kernel
theorem d_Mod_goOn_33 : decode b_Mod_goOn 33 = .ok (.aload_n 0, 1) := by decide +kernel
theorem d_Mod_goOn_34 : decode b_Mod_goOn 34 = .ok (.getfield 26, 3) := by decide +kernel
theorem d_Mod_goOn_37 : decode b_Mod_goOn 37 = .ok (.iload_n 1, 1) := by decide +kernel
theorem d_Mod_goOn_38 : decode b_Mod_goOn 38 = .ok (.iaload, 1) := by decide +kernel
theorem d_Mod_goOn_39 : decode b_Mod_goOn 39 = .ok (.aload_n 0, 1) := by decide +kernel
theorem d_Mod_goOn_40 : decode b_Mod_goOn 40 = .ok (.getfield 35, 3) := by decide +kernel
theorem d_Mod_goOn_43 : decode b_Mod_goOn 43 = .ok (.if_icmp .ge 14, 3) := by decide +kernel
theorem d_Mod_goOn_46 : decode b_Mod_goOn 46 = .ok (.aload_n 0, 1) := by decide +kernel
theorem d_Mod_goOn_47 : decode b_Mod_goOn 47 = .ok (.getfield 26, 3) := by decide +kernel
theorem d_Mod_goOn_50 : decode b_Mod_goOn 50 = .ok (.iload_n 1, 1) := by decide +kernel
theorem d_Mod_goOn_51 : decode b_Mod_goOn 51 = .ok (.iaload, 1) := by decide +kernel
theorem d_Mod_goOn_52 : decode b_Mod_goOn 52 = .ok (.iconst 1, 1) := by decide +kernel
theorem d_Mod_goOn_53 : decode b_Mod_goOn 53 = .ok (.iadd, 1) := by decide +kernel
theorem d_Mod_goOn_54 : decode b_Mod_goOn 54 = .ok (.goto 7, 3) := by decide +kernel
theorem d_Mod_goOn_57 : decode b_Mod_goOn 57 = .ok (.aload_n 0, 1) := by decide +kernel
theorem d_Mod_goOn_58 : decode b_Mod_goOn 58 = .ok (.getfield 35, 3) := by decide +kernel
theorem d_Mod_goOn_61 : decode b_Mod_goOn 61 = .ok (.istore 7, 2) := by decide +kernel
theorem d_Mod_goOn_63 : decode b_Mod_goOn 63 = .ok (.iload 7, 2) := by decide +kernel
theorem d_Mod_goOn_65 : decode b_Mod_goOn 65 = .ok (.aload_n 0, 1) := by decide +kernel
theorem d_Mod_goOn_66 : decode b_Mod_goOn 66 = .ok (.getfield 35, 3) := by decide +kernel
theorem d_Mod_goOn_69 : decode b_Mod_goOn 69 = .ok (.if_icmp .ge 74, 3) := by decide +kernel
theorem d_Mod_goOn_72 : decode b_Mod_goOn 72 = .ok (.aload_n 0, 1) := by decide +kernel
theorem d_Mod_goOn_73 : decode b_Mod_goOn 73 = .ok (.iload 6, 2) := by decide +kernel
theorem d_Mod_goOn_75 : decode b_Mod_goOn 75 = .ok (.iload 7, 2) := by decide +kernel
theorem d_Mod_goOn_77 : decode b_Mod_goOn 77 = .ok (.aload_n 0, 1) := by decide +kernel
theorem d_Mod_goOn_78 : decode b_Mod_goOn 78 = .ok (.getfield 20, 3) := by decide +kernel
theorem d_Mod_goOn_81 : decode b_Mod_goOn 81 = .ok (.iload_n 1, 1) := by decide +kernel
theorem d_Mod_goOn_82 : decode b_Mod_goOn 82 = .ok (.iaload, 1) := by decide +kernel
theorem d_Mod_goOn_83 : decode b_Mod_goOn 83 = .ok (.aload_n 0, 1) := by decide +kernel
theorem d_Mod_goOn_84 : decode b_Mod_goOn 84 = .ok (.getfield 23, 3) := by decide +kernel
theorem d_Mod_goOn_87 : decode b_Mod_goOn 87 = .ok (.iconst 3, 1) := by decide +kernel
theorem d_Mod_goOn_88 : decode b_Mod_goOn 88 = .ok (.iload_n 1, 1) := by decide +kernel
theorem d_Mod_goOn_89 : decode b_Mod_goOn 89 = .ok (.imul, 1) := by decide +kernel
theorem d_Mod_goOn_90 : decode b_Mod_goOn 90 = .ok (.iaload, 1) := by decide +kernel
theorem d_Mod_goOn_91 : decode b_Mod_goOn 91 = .ok (.aload_n 0, 1) := by decide +kernel
theorem d_Mod_goOn_92 : decode b_Mod_goOn 92 = .ok (.getfield 23, 3) := by decide +kernel
theorem d_Mod_goOn_95 : decode b_Mod_goOn 95 = .ok (.iconst 3, 1) := by decide +kernel
theorem d_Mod_goOn_96 : decode b_Mod_goOn 96 = .ok (.iload_n 1, 1) := by decide +kernel
theorem d_Mod_goOn_97 : decode b_Mod_goOn 97 = .ok (.imul, 1) := by decide +kernel
theorem d_Mod_goOn_98 : decode b_Mod_goOn 98 = .ok (.iconst 1, 1) := by decide +kernel
theorem d_Mod_goOn_99 : decode b_Mod_goOn 99 = .ok (.iadd, 1) := by decide +kernel
theorem d_Mod_goOn_100 : decode b_Mod_goOn 100 = .ok (.iaload, 1) := by decide +kernel
theorem d_Mod_goOn_101 : decode b_Mod_goOn 101 = .ok (.aload_n 0, 1) := by decide +kernel
theorem d_Mod_goOn_102 : decode b_Mod_goOn 102 = .ok (.getfield 23, 3) := by decide +kernel
theorem d_Mod_goOn_105 : decode b_Mod_goOn 105 = .ok (.iconst 3, 1) := by decide +kernel
theorem d_Mod_goOn_106 : decode b_Mod_goOn 106 = .ok (.iload_n 1, 1) := by decide +kernel
theorem d_Mod_goOn_107 : decode b_Mod_goOn 107 = .ok (.imul, 1) := by decide +kernel
theorem d_Mod_goOn_108 : decode b_Mod_goOn 108 = .ok (.iconst 2, 1) := by decide +kernel
theorem d_Mod_goOn_109 : decode b_Mod_goOn 109 = .ok (.iadd, 1) := by decide +kernel
theorem d_Mod_goOn_110 : decode b_Mod_goOn 110 = .ok (.iaload, 1) := by decide +kernel
theorem d_Mod_goOn_111 : decode b_Mod_goOn 111 = .ok (.invokevirtual 69, 3) := by decide +kernel
theorem d_Mod_goOn_114 : decode b_Mod_goOn 114 = .ok (.ifCond .eq 23, 3) := by decide +kernel
theorem d_Mod_goOn_117 : decode b_Mod_goOn 117 = .ok (.iload_n 2, 1) := by decide +kernel
theorem d_Mod_goOn_118 : decode b_Mod_goOn 118 = .ok (.ifCond .eq 25, 3) := by decide +kernel
theorem d_Mod_goOn_121 : decode b_Mod_goOn 121 = .ok (.aload_n 0, 1) := by decide +kernel
theorem d_Mod_goOn_122 : decode b_Mod_goOn 122 = .ok (.iload 6, 2) := by decide +kernel
theorem d_Mod_goOn_124 : decode b_Mod_goOn 124 = .ok (.iload 7, 2) := by decide +kernel
theorem d_Mod_goOn_126 : decode b_Mod_goOn 126 = .ok (.iload_n 3, 1) := by decide +kernel
theorem d_Mod_goOn_127 : decode b_Mod_goOn 127 = .ok (.iload 4, 2) := by decide +kernel
theorem d_Mod_goOn_129 : decode b_Mod_goOn 129 = .ok (.iload 5, 2) := by decide +kernel
theorem d_Mod_goOn_131 : decode b_Mod_goOn 131 = .ok (.invokevirtual 47, 3) := by decide +kernel
theorem d_Mod_goOn_134 : decode b_Mod_goOn 134 = .ok (.ifCond .ge 9, 3) := by decide +kernel
theorem d_Mod_goOn_137 : decode b_Mod_goOn 137 = .ok (.iinc 7 1, 3) := by decide +kernel
theorem d_Mod_goOn_140 : decode b_Mod_goOn 140 = .ok (.goto (-77), 3) := by decide +kernel
theorem d_Mod_goOn_143 : decode b_Mod_goOn 143 = .ok (.aload_n 0, 1) := by decide +kernel
theorem d_Mod_goOn_144 : decode b_Mod_goOn 144 = .ok (.getfield 26, 3) := by decide +kernel
theorem d_Mod_goOn_147 : decode b_Mod_goOn 147 = .ok (.iload_n 1, 1) := by decide +kernel
theorem d_Mod_goOn_148 : decode b_Mod_goOn 148 = .ok (.iload 7, 2) := by decide +kernel
theorem d_Mod_goOn_150 : decode b_Mod_goOn 150 = .ok (.iastore, 1) := by decide +kernel
theorem d_Mod_goOn_151 : decode b_Mod_goOn 151 = .ok (.iload 7, 2) := by decide +kernel
theorem d_Mod_goOn_153 : decode b_Mod_goOn 153 = .ok (.aload_n 0, 1) := by decide +kernel
theorem d_Mod_goOn_154 : decode b_Mod_goOn 154 = .ok (.getfield 35, 3) := by decide +kernel
theorem d_Mod_goOn_157 : decode b_Mod_goOn 157 = .ok (.if_icmp .ge 7, 3) := by decide +kernel
theorem d_Mod_goOn_160 : decode b_Mod_goOn 160 = .ok (.iconst 1, 1) := by decide +kernel
theorem d_Mod_goOn_161 : decode b_Mod_goOn 161 = .ok (.goto 4, 3) := by decide +kernel
theorem d_Mod_goOn_164 : decode b_Mod_goOn 164 = .ok (.iconst 0, 1) := by decide +kernel
theorem d_Mod_goOn_165 : decode b_Mod_goOn 165 = .ok (.ireturn, 1) := by decide +kernel
theorem d_Mod_next_0 : decode b_Mod_next 0 = .ok (.aload_n 0, 1) := by decide +kernel
theorem d_Mod_next_1 : decode b_Mod_next 1 = .ok (.iload_n 1, 1) := by decide +kernel
theorem d_Mod_next_2 : decode b_Mod_next 2 = .ok (.iconst 0, 1) := by decide +kernel
theorem d_Mod_next_3 : decode b_Mod_next 3 = .ok (.iconst 0, 1) := by decide +kernel
theorem d_Mod_next_4 : decode b_Mod_next 4 = .ok (.iconst 0, 1) := by decide +kernel
theorem d_Mod_next_5 : decode b_Mod_next 5 = .ok (.iconst 0, 1) := by decide +kernel
theorem d_Mod_next_6 : decode b_Mod_next 6 = .ok (.invokevirtual 83, 3) := by decide +kernel
theorem d_Mod_next_9 : decode b_Mod_next 9 = .ok (.ireturn, 1) := by decide +kernel
theorem d_Mod_seek_0 : decode b_Mod_seek 0 = .ok (.aload_n 0, 1) := by decide +kernel
theorem d_Mod_seek_1 : decode b_Mod_seek 1 = .ok (.iload_n 1, 1) := by decide +kernel
theorem d_Mod_seek_2 : decode b_Mod_seek 2 = .ok (.invokevirtual 76, 3) := by decide +kernel
theorem d_Mod_seek_5 : decode b_Mod_seek 5 = .ok (.ifCond .eq 15, 3) := by decide +kernel
theorem d_Mod_seek_8 : decode b_Mod_seek 8 = .ok (.aload_n 0, 1) := by decide +kernel
theorem d_Mod_seek_9 : decode b_Mod_seek 9 = .ok (.getfield 20, 3) := by decide +kernel
theorem d_Mod_seek_12 : decode b_Mod_seek 12 = .ok (.iload_n 1, 1) := by decide +kernel
theorem d_Mod_seek_13 : decode b_Mod_seek 13 = .ok (.iaload, 1) := by decide +kernel
theorem d_Mod_seek_14 : decode b_Mod_seek 14 = .ok (.invokestatic 79, 3) := by decide +kernel
theorem d_Mod_seek_17 : decode b_Mod_seek 17 = .ok (.goto 4, 3) := by decide +kernel
theorem d_Mod_seek_20 : decode b_Mod_seek 20 = .ok (.iconst 0, 1) := by decide +kernel
theorem d_Mod_seek_21 : decode b_Mod_seek 21 = .ok (.istore 5, 2) := by decide +kernel
theorem d_Mod_seek_23 : decode b_Mod_seek 23 = .ok (.iload 5, 2) := by decide +kernel
theorem d_Mod_seek_25 : decode b_Mod_seek 25 = .ok (.ifCond .ne 7, 3) := by decide +kernel
theorem d_Mod_seek_28 : decode b_Mod_seek 28 = .ok (.iload_n 2, 1) := by decide +kernel
theorem d_Mod_seek_29 : decode b_Mod_seek 29 = .ok (.goto 15, 3) := by decide +kernel
theorem d_Mod_seek_32 : decode b_Mod_seek 32 = .ok (.iload 5, 2) := by decide +kernel
theorem d_Mod_seek_34 : decode b_Mod_seek 34 = .ok (.iconst 1, 1) := by decide +kernel
theorem d_Mod_seek_35 : decode b_Mod_seek 35 = .ok (.if_icmp .ne 8, 3) := by decide +kernel
theorem d_Mod_seek_38 : decode b_Mod_seek 38 = .ok (.iload 4, 2) := by decide +kernel
theorem d_Mod_seek_40 : decode b_Mod_seek 40 = .ok (.goto 4, 3) := by decide +kernel
theorem d_Mod_seek_43 : decode b_Mod_seek 43 = .ok (.iload_n 3, 1) := by decide +kernel
theorem d_Mod_seek_44 : decode b_Mod_seek 44 = .ok (.istore 6, 2) := by decide +kernel
theorem d_Mod_seek_46 : decode b_Mod_seek 46 = .ok (.iload 5, 2) := by decide +kernel
theorem d_Mod_seek_48 : decode b_Mod_seek 48 = .ok (.ifCond .ne 7, 3) := by decide +kernel
theorem d_Mod_seek_51 : decode b_Mod_seek 51 = .ok (.iload_n 3, 1) := by decide +kernel
theorem d_Mod_seek_52 : decode b_Mod_seek 52 = .ok (.goto 15, 3) := by decide +kernel
theorem d_Mod_seek_55 : decode b_Mod_seek 55 = .ok (.iload 5, 2) := by decide +kernel
theorem d_Mod_seek_57 : decode b_Mod_seek 57 = .ok (.iconst 1, 1) := by decide +kernel
theorem d_Mod_seek_58 : decode b_Mod_seek 58 = .ok (.if_icmp .ne 7, 3) := by decide +kernel
theorem d_Mod_seek_61 : decode b_Mod_seek 61 = .ok (.iload_n 2, 1) := by decide +kernel
theorem d_Mod_seek_62 : decode b_Mod_seek 62 = .ok (.goto 5, 3) := by decide +kernel
theorem d_Mod_seek_65 : decode b_Mod_seek 65 = .ok (.iload 4, 2) := by decide +kernel
theorem d_Mod_seek_67 : decode b_Mod_seek 67 = .ok (.istore 7, 2) := by decide +kernel
theorem d_Mod_seek_69 : decode b_Mod_seek 69 = .ok (.iload 5, 2) := by decide +kernel
theorem d_Mod_seek_71 : decode b_Mod_seek 71 = .ok (.ifCond .ne 8, 3) := by decide +kernel
theorem d_Mod_seek_74 : decode b_Mod_seek 74 = .ok (.iload 4, 2) := by decide +kernel
theorem d_Mod_seek_76 : decode b_Mod_seek 76 = .ok (.goto 14, 3) := by decide +kernel
theorem d_Mod_seek_79 : decode b_Mod_seek 79 = .ok (.iload 5, 2) := by decide +kernel
theorem d_Mod_seek_81 : decode b_Mod_seek 81 = .ok (.iconst 1, 1) := by decide +kernel
theorem d_Mod_seek_82 : decode b_Mod_seek 82 = .ok (.if_icmp .ne 7, 3) := by decide +kernel
theorem d_Mod_seek_85 : decode b_Mod_seek 85 = .ok (.iload_n 3, 1) := by decide +kernel
theorem d_Mod_seek_86 : decode b_Mod_seek 86 = .ok (.goto 4, 3) := by decide +kernel
theorem d_Mod_seek_89 : decode b_Mod_seek 89 = .ok (.iload_n 2, 1) := by decide +kernel
theorem d_Mod_seek_90 : decode b_Mod_seek 90 = .ok (.istore 8, 2) := by decide +kernel
theorem d_Mod_seek_92 : decode b_Mod_seek 92 = .ok (.aload_n 0, 1) := by decide +kernel
theorem d_Mod_seek_93 : decode b_Mod_seek 93 = .ok (.iload_n 1, 1) := by decide +kernel
theorem d_Mod_seek_94 : decode b_Mod_seek 94 = .ok (.iconst 1, 1) := by decide +kernel
theorem d_Mod_seek_95 : decode b_Mod_seek 95 = .ok (.iload 6, 2) := by decide +kernel
theorem d_Mod_seek_97 : decode b_Mod_seek 97 = .ok (.iload 7, 2) := by decide +kernel
theorem d_Mod_seek_99 : decode b_Mod_seek 99 = .ok (.iload 8, 2) := by decide +kernel
theorem d_Mod_seek_101 : decode b_Mod_seek 101 = .ok (.invokevirtual 83, 3) := by decide +kernel
theorem d_Mod_seek_104 : decode b_Mod_seek 104 = .ok (.ireturn, 1) := by decide +kernel
theorem d_Mod_part_0 : decode b_Mod_part 0 = .ok (.aload_n 0, 1) := by decide +kernel
theorem d_Mod_part_1 : decode b_Mod_part 1 = .ok (.iload_n 1, 1) := by decide +kernel
theorem d_Mod_part_2 : decode b_Mod_part 2 = .ok (.invokevirtual 76, 3) := by decide +kernel
theorem d_Mod_part_5 : decode b_Mod_part 5 = .ok (.ifCond .eq 43, 3) := by decide +kernel
theorem d_Mod_part_8 : decode b_Mod_part 8 = .ok (.aload_n 0, 1) := by decide +kernel
theorem d_Mod_part_9 : decode b_Mod_part 9 = .ok (.getfield 17, 3) := by decide +kernel
theorem d_Mod_part_12 : decode b_Mod_part 12 = .ok (.iload_n 1, 1) := by decide +kernel
theorem d_Mod_part_13 : decode b_Mod_part 13 = .ok (.baload, 1) := by decide +kernel
theorem d_Mod_part_14 : decode b_Mod_part 14 = .ok (.ifCond .ne 34, 3) := by decide +kernel
theorem d_Mod_part_17 : decode b_Mod_part 17 = .ok (.iload_n 2, 1) := by decide +kernel
theorem d_Mod_part_18 : decode b_Mod_part 18 = .ok (.ifCond .lt 30, 3) := by decide +kernel
theorem d_Mod_part_21 : decode b_Mod_part 21 = .ok (.iload_n 2, 1) := by decide +kernel
theorem d_Mod_part_22 : decode b_Mod_part 22 = .ok (.iconst 2, 1) := by decide +kernel
theorem d_Mod_part_23 : decode b_Mod_part 23 = .ok (.if_icmp .gt 25, 3) := by decide +kernel
theorem d_Mod_part_26 : decode b_Mod_part 26 = .ok (.aload_n 0, 1) := by decide +kernel
theorem d_Mod_part_27 : decode b_Mod_part 27 = .ok (.getfield 26, 3) := by decide +kernel
theorem d_Mod_part_30 : decode b_Mod_part 30 = .ok (.iload_n 1, 1) := by decide +kernel
theorem d_Mod_part_31 : decode b_Mod_part 31 = .ok (.iaload, 1) := by decide +kernel
theorem d_Mod_part_32 : decode b_Mod_part 32 = .ok (.ifCond .lt 16, 3) := by decide +kernel
theorem d_Mod_part_35 : decode b_Mod_part 35 = .ok (.aload_n 0, 1) := by decide +kernel
theorem d_Mod_part_36 : decode b_Mod_part 36 = .ok (.getfield 26, 3) := by decide +kernel
theorem d_Mod_part_39 : decode b_Mod_part 39 = .ok (.iload_n 1, 1) := by decide +kernel
theorem d_Mod_part_40 : decode b_Mod_part 40 = .ok (.iaload, 1) := by decide +kernel
theorem d_Mod_part_41 : decode b_Mod_part 41 = .ok (.aload_n 0, 1) := by decide +kernel
theorem d_Mod_part_42 : decode b_Mod_part 42 = .ok (.getfield 35, 3) := by decide +kernel
theorem d_Mod_part_45 : decode b_Mod_part 45 = .ok (.if_icmp .lt 5, 3) := by decide +kernel
theorem d_Mod_part_48 : decode b_Mod_part 48 = .ok (.iconst 0, 1) := by decide +kernel
theorem d_Mod_part_49 : decode b_Mod_part 49 = .ok (.ireturn, 1) := by decide +kernel
theorem d_Mod_part_50 : decode b_Mod_part 50 = .ok (.aload_n 0, 1) := by decide +kernel
theorem d_Mod_part_51 : decode b_Mod_part 51 = .ok (.aload_n 0, 1) := by decide +kernel
theorem d_Mod_part_52 : decode b_Mod_part 52 = .ok (.getfield 20, 3) := by decide +kernel
theorem d_Mod_part_55 : decode b_Mod_part 55 = .ok (.iload_n 1, 1) := by decide +kernel
theorem d_Mod_part_56 : decode b_Mod_part 56 = .ok (.iaload, 1) := by decide +kernel
theorem d_Mod_part_57 : decode b_Mod_part 57 = .ok (.invokestatic 79, 3) := by decide +kernel
theorem d_Mod_part_60 : decode b_Mod_part 60 = .ok (.aload_n 0, 1) := by decide +kernel
theorem d_Mod_part_61 : decode b_Mod_part 61 = .ok (.getfield 26, 3) := by decide +kernel
theorem d_Mod_part_64 : decode b_Mod_part 64 = .ok (.iload_n 1, 1) := by decide +kernel
theorem d_Mod_part_65 : decode b_Mod_part 65 = .ok (.iaload, 1) := by decide +kernel
theorem d_Mod_part_66 : decode b_Mod_part 66 = .ok (.iload_n 2, 1) := by decide +kernel
theorem d_Mod_part_67 : decode b_Mod_part 67 = .ok (.invokevirtual 43, 3) := by decide +kernel
theorem d_Mod_part_70 : decode b_Mod_part 70 = .ok (.ireturn, 1) := by decide +kernel
theorem d_Mod_close_0 : decode b_Mod_close 0 = .ok (.aload_n 0, 1) := by decide +kernel
theorem d_Mod_close_1 : decode b_Mod_close 1 = .ok (.iload_n 1, 1) := by decide +kernel
theorem d_Mod_close_2 : decode b_Mod_close 2 = .ok (.invokevirtual 76, 3) := by decide +kernel
theorem d_Mod_close_5 : decode b_Mod_close 5 = .ok (.ifCond .ne 5, 3) := by decide +kernel
theorem d_Mod_close_8 : decode b_Mod_close 8 = .ok (.iconst 0, 1) := by decide +kernel
theorem d_Mod_close_9 : decode b_Mod_close 9 = .ok (.ireturn, 1) := by decide +kernel
theorem d_Mod_close_10 : decode b_Mod_close 10 = .ok (.aload_n 0, 1) := by decide +kernel
theorem d_Mod_close_11 : decode b_Mod_close 11 = .ok (.getfield 13, 3) := by decide +kernel
theorem d_Mod_close_14 : decode b_Mod_close 14 = .ok (.iload_n 1, 1) := by decide +kernel
theorem d_Mod_close_15 : decode b_Mod_close 15 = .ok (.iconst 0, 1) := by decide +kernel
theorem d_Mod_close_16 : decode b_Mod_close 16 = .ok (.bastore, 1) := by decide +kernel
theorem d_Mod_close_17 : decode b_Mod_close 17 = .ok (.aload_n 0, 1) := by decide +kernel
theorem d_Mod_close_18 : decode b_Mod_close 18 = .ok (.getfield 17, 3) := by decide +kernel
theorem d_Mod_close_21 : decode b_Mod_close 21 = .ok (.iload_n 1, 1) := by decide +kernel
theorem d_Mod_close_22 : decode b_Mod_close 22 = .ok (.iconst 0, 1) := by decide +kernel
theorem d_Mod_close_23 : decode b_Mod_close 23 = .ok (.bastore, 1) := by decide +kernel
theorem d_Mod_close_24 : decode b_Mod_close 24 = .ok (.iconst 1, 1) := by decide +kernel
theorem d_Mod_close_25 : decode b_Mod_close 25 = .ok (.ireturn, 1) := by decide +kernel
theorem d_Mod_at_0 : decode b_Mod_at 0 = .ok (.iload_n 1, 1) := by decide +kernel
theorem d_Mod_at_1 : decode b_Mod_at 1 = .ok (.ifCond .lt 29, 3) := by decide +kernel
theorem d_Mod_at_4 : decode b_Mod_at 4 = .ok (.iload_n 1, 1) := by decide +kernel
theorem d_Mod_at_5 : decode b_Mod_at 5 = .ok (.iconst 2, 1) := by decide +kernel
theorem d_Mod_at_6 : decode b_Mod_at 6 = .ok (.if_icmp .gt 24, 3) := by decide +kernel
theorem d_Mod_at_9 : decode b_Mod_at 9 = .ok (.iload_n 2, 1) := by decide +kernel
theorem d_Mod_at_10 : decode b_Mod_at 10 = .ok (.ifCond .lt 20, 3) := by decide +kernel
theorem d_Mod_at_13 : decode b_Mod_at 13 = .ok (.iload_n 2, 1) := by decide +kernel
theorem d_Mod_at_14 : decode b_Mod_at 14 = .ok (.aload_n 0, 1) := by decide +kernel
theorem d_Mod_at_15 : decode b_Mod_at 15 = .ok (.getfield 35, 3) := by decide +kernel
theorem d_Mod_at_18 : decode b_Mod_at 18 = .ok (.if_icmp .ge 12, 3) := by decide +kernel
theorem d_Mod_at_21 : decode b_Mod_at 21 = .ok (.iload_n 3, 1) := by decide +kernel
theorem d_Mod_at_22 : decode b_Mod_at 22 = .ok (.ifCond .lt 8, 3) := by decide +kernel
theorem d_Mod_at_25 : decode b_Mod_at 25 = .ok (.iload_n 3, 1) := by decide +kernel
theorem d_Mod_at_26 : decode b_Mod_at 26 = .ok (.iconst 2, 1) := by decide +kernel
theorem d_Mod_at_27 : decode b_Mod_at 27 = .ok (.if_icmp .le 7, 3) := by decide +kernel
theorem d_Mod_at_30 : decode b_Mod_at 30 = .ok (.iconst 0, 1) := by decide +kernel
theorem d_Mod_at_31 : decode b_Mod_at 31 = .ok (.goto 10, 3) := by decide +kernel
theorem d_Mod_at_34 : decode b_Mod_at 34 = .ok (.aload_n 0, 1) := by decide +kernel
theorem d_Mod_at_35 : decode b_Mod_at 35 = .ok (.iload_n 1, 1) := by decide +kernel
theorem d_Mod_at_36 : decode b_Mod_at 36 = .ok (.iload_n 2, 1) := by decide +kernel
theorem d_Mod_at_37 : decode b_Mod_at 37 = .ok (.iload_n 3, 1) := by decide +kernel
theorem d_Mod_at_38 : decode b_Mod_at 38 = .ok (.invokevirtual 43, 3) := by decide +kernel
theorem d_Mod_at_41 : decode b_Mod_at 41 = .ok (.ireturn, 1) := by decide +kernel
theorem d_Mod_before_0 : decode b_Mod_before 0 = .ok (.iload_n 1, 1) := by decide +kernel
theorem d_Mod_before_1 : decode b_Mod_before 1 = .ok (.ifCond .lt 8, 3) := by decide +kernel
theorem d_Mod_before_4 : decode b_Mod_before 4 = .ok (.iload_n 1, 1) := by decide +kernel
theorem d_Mod_before_5 : decode b_Mod_before 5 = .ok (.iconst 2, 1) := by decide +kernel
theorem d_Mod_before_6 : decode b_Mod_before 6 = .ok (.if_icmp .le 7, 3) := by decide +kernel
theorem d_Mod_before_9 : decode b_Mod_before 9 = .ok (.iconst (-1), 1) := by decide +kernel
theorem d_Mod_before_10 : decode b_Mod_before 10 = .ok (.goto 12, 3) := by decide +kernel
theorem d_Mod_before_13 : decode b_Mod_before 13 = .ok (.aload_n 0, 1) := by decide +kernel
theorem d_Mod_before_14 : decode b_Mod_before 14 = .ok (.iload_n 1, 1) := by decide +kernel
theorem d_Mod_before_15 : decode b_Mod_before 15 = .ok (.iload_n 2, 1) := by decide +kernel
theorem d_Mod_before_16 : decode b_Mod_before 16 = .ok (.iload_n 3, 1) := by decide +kernel
theorem d_Mod_before_17 : decode b_Mod_before 17 = .ok (.iload 4, 2) := by decide +kernel
theorem d_Mod_before_19 : decode b_Mod_before 19 = .ok (.invokevirtual 51, 3) := by decide +kernel
theorem d_Mod_before_22 : decode b_Mod_before 22 = .ok (.ireturn, 1) := by decide +kernel
theorem d_Mod_different_0 : decode b_Mod_different 0 = .ok (.iload_n 1, 1) := by decide +kernel
theorem d_Mod_different_1 : decode b_Mod_different 1 = .ok (.ifCond .lt 8, 3) := by decide +kernel
theorem d_Mod_different_4 : decode b_Mod_different 4 = .ok (.iload_n 1, 1) := by decide +kernel
theorem d_Mod_different_5 : decode b_Mod_different 5 = .ok (.iconst 2, 1) := by decide +kernel
theorem d_Mod_different_6 : decode b_Mod_different 6 = .ok (.if_icmp .le 5, 3) := by decide +kernel
theorem d_Mod_different_9 : decode b_Mod_different 9 = .ok (.iconst (-1), 1) := by decide +kernel
theorem d_Mod_different_10 : decode b_Mod_different 10 = .ok (.ireturn, 1) := by decide +kernel
theorem d_Mod_different_11 : decode b_Mod_different 11 = .ok (.iconst 0, 1) := by decide +kernel
theorem d_Mod_different_12 : decode b_Mod_different 12 = .ok (.istore_n 2, 1) := by decide +kernel
theorem d_Mod_different_13 : decode b_Mod_different 13 = .ok (.iconst 0, 1) := by decide +kernel
theorem d_Mod_different_14 : decode b_Mod_different 14 = .ok (.istore_n 3, 1) := by decide +kernel
theorem d_Mod_different_15 : decode b_Mod_different 15 = .ok (.iload_n 3, 1) := by decide +kernel
theorem d_Mod_different_16 : decode b_Mod_different 16 = .ok (.aload_n 0, 1) := by decide +kernel
theorem d_Mod_different_17 : decode b_Mod_different 17 = .ok (.getfield 35, 3) := by decide +kernel
theorem d_Mod_different_20 : decode b_Mod_different 20 = .ok (.if_icmp .ge 40, 3) := by decide +kernel
theorem d_Mod_different_23 : decode b_Mod_different 23 = .ok (.iload_n 2, 1) := by decide +kernel
theorem d_Mod_different_24 : decode b_Mod_different 24 = .ok (.iload_n 3, 1) := by decide +kernel
theorem d_Mod_different_25 : decode b_Mod_different 25 = .ok (.ifCond .eq 22, 3) := by decide +kernel
theorem d_Mod_different_28 : decode b_Mod_different 28 = .ok (.aload_n 0, 1) := by decide +kernel
theorem d_Mod_different_29 : decode b_Mod_different 29 = .ok (.iload_n 1, 1) := by decide +kernel
theorem d_Mod_different_30 : decode b_Mod_different 30 = .ok (.iload_n 3, 1) := by decide +kernel
theorem d_Mod_different_31 : decode b_Mod_different 31 = .ok (.iload_n 1, 1) := by decide +kernel
theorem d_Mod_different_32 : decode b_Mod_different 32 = .ok (.invokevirtual 43, 3) := by decide +kernel
theorem d_Mod_different_35 : decode b_Mod_different 35 = .ok (.aload_n 0, 1) := by decide +kernel
theorem d_Mod_different_36 : decode b_Mod_different 36 = .ok (.iload_n 1, 1) := by decide +kernel
theorem d_Mod_different_37 : decode b_Mod_different 37 = .ok (.iload_n 3, 1) := by decide +kernel
theorem d_Mod_different_38 : decode b_Mod_different 38 = .ok (.iconst 1, 1) := by decide +kernel
theorem d_Mod_different_39 : decode b_Mod_different 39 = .ok (.isub, 1) := by decide +kernel
theorem d_Mod_different_40 : decode b_Mod_different 40 = .ok (.iload_n 1, 1) := by decide +kernel
theorem d_Mod_different_41 : decode b_Mod_different 41 = .ok (.invokevirtual 43, 3) := by decide +kernel
theorem d_Mod_different_44 : decode b_Mod_different 44 = .ok (.if_icmp .eq 7, 3) := by decide +kernel
theorem d_Mod_different_47 : decode b_Mod_different 47 = .ok (.iconst 1, 1) := by decide +kernel
theorem d_Mod_different_48 : decode b_Mod_different 48 = .ok (.goto 4, 3) := by decide +kernel
theorem d_Mod_different_51 : decode b_Mod_different 51 = .ok (.iconst 0, 1) := by decide +kernel
theorem d_Mod_different_52 : decode b_Mod_different 52 = .ok (.iadd, 1) := by decide +kernel
theorem d_Mod_different_53 : decode b_Mod_different 53 = .ok (.istore_n 2, 1) := by decide +kernel
theorem d_Mod_different_54 : decode b_Mod_different 54 = .ok (.iinc 3 1, 3) := by decide +kernel
theorem d_Mod_different_57 : decode b_Mod_different 57 = .ok (.goto (-42), 3) := by decide +kernel
theorem d_Mod_different_60 : decode b_Mod_different 60 = .ok (.iload_n 2, 1) := by decide +kernel
theorem d_Mod_different_61 : decode b_Mod_different 61 = .ok (.ireturn, 1) := by decide +kernel
theorem d_Mod_chains_0 : decode b_Mod_chains 0 = .ok (.iconst 0, 1) := by decide +kernel
theorem d_Mod_chains_1 : decode b_Mod_chains 1 = .ok (.istore_n 3, 1) := by decide +kernel
theorem d_Mod_chains_2 : decode b_Mod_chains 2 = .ok (.iconst 0, 1) := by decide +kernel
theorem d_Mod_chains_3 : decode b_Mod_chains 3 = .ok (.istore 4, 2) := by decide +kernel
theorem d_Mod_chains_5 : decode b_Mod_chains 5 = .ok (.iload 4, 2) := by decide +kernel
theorem d_Mod_chains_7 : decode b_Mod_chains 7 = .ok (.aload_n 0, 1) := by decide +kernel
theorem d_Mod_chains_8 : decode b_Mod_chains 8 = .ok (.getfield 35, 3) := by decide +kernel
theorem d_Mod_chains_11 : decode b_Mod_chains 11 = .ok (.if_icmp .ge 78, 3) := by decide +kernel
theorem d_Mod_chains_14 : decode b_Mod_chains 14 = .ok (.iconst 0, 1) := by decide +kernel
theorem d_Mod_chains_15 : decode b_Mod_chains 15 = .ok (.istore 5, 2) := by decide +kernel
theorem d_Mod_chains_17 : decode b_Mod_chains 17 = .ok (.iload 5, 2) := by decide +kernel
theorem d_Mod_chains_19 : decode b_Mod_chains 19 = .ok (.aload_n 0, 1) := by decide +kernel
theorem d_Mod_chains_20 : decode b_Mod_chains 20 = .ok (.getfield 35, 3) := by decide +kernel
theorem d_Mod_chains_23 : decode b_Mod_chains 23 = .ok (.if_icmp .ge 60, 3) := by decide +kernel
theorem d_Mod_chains_26 : decode b_Mod_chains 26 = .ok (.aload_n 0, 1) := by decide +kernel
theorem d_Mod_chains_27 : decode b_Mod_chains 27 = .ok (.iconst 0, 1) := by decide +kernel
theorem d_Mod_chains_28 : decode b_Mod_chains 28 = .ok (.iload 4, 2) := by decide +kernel
theorem d_Mod_chains_30 : decode b_Mod_chains 30 = .ok (.iconst 1, 1) := by decide +kernel
theorem d_Mod_chains_31 : decode b_Mod_chains 31 = .ok (.invokevirtual 43, 3) := by decide +kernel
theorem d_Mod_chains_34 : decode b_Mod_chains 34 = .ok (.iload_n 1, 1) := by decide +kernel
theorem d_Mod_chains_35 : decode b_Mod_chains 35 = .ok (.if_icmp .ne 48, 3) := by decide +kernel
theorem d_Mod_chains_38 : decode b_Mod_chains 38 = .ok (.iload_n 3, 1) := by decide +kernel
theorem d_Mod_chains_39 : decode b_Mod_chains 39 = .ok (.aload_n 0, 1) := by decide +kernel
theorem d_Mod_chains_40 : decode b_Mod_chains 40 = .ok (.iconst 0, 1) := by decide +kernel
theorem d_Mod_chains_41 : decode b_Mod_chains 41 = .ok (.iload 5, 2) := by decide +kernel
theorem d_Mod_chains_43 : decode b_Mod_chains 43 = .ok (.iconst 1, 1) := by decide +kernel
theorem d_Mod_chains_44 : decode b_Mod_chains 44 = .ok (.invokevirtual 43, 3) := by decide +kernel
theorem d_Mod_chains_47 : decode b_Mod_chains 47 = .ok (.iload_n 2, 1) := by decide +kernel
theorem d_Mod_chains_48 : decode b_Mod_chains 48 = .ok (.if_icmp .ne 26, 3) := by decide +kernel
theorem d_Mod_chains_51 : decode b_Mod_chains 51 = .ok (.aload_n 0, 1) := by decide +kernel
theorem d_Mod_chains_52 : decode b_Mod_chains 52 = .ok (.iconst 0, 1) := by decide +kernel
theorem d_Mod_chains_53 : decode b_Mod_chains 53 = .ok (.iload 4, 2) := by decide +kernel
theorem d_Mod_chains_55 : decode b_Mod_chains 55 = .ok (.iconst 2, 1) := by decide +kernel
theorem d_Mod_chains_56 : decode b_Mod_chains 56 = .ok (.invokevirtual 43, 3) := by decide +kernel
theorem d_Mod_chains_59 : decode b_Mod_chains 59 = .ok (.aload_n 0, 1) := by decide +kernel
theorem d_Mod_chains_60 : decode b_Mod_chains 60 = .ok (.iconst 0, 1) := by decide +kernel
theorem d_Mod_chains_61 : decode b_Mod_chains 61 = .ok (.iload 5, 2) := by decide +kernel
theorem d_Mod_chains_63 : decode b_Mod_chains 63 = .ok (.iconst 0, 1) := by decide +kernel
theorem d_Mod_chains_64 : decode b_Mod_chains 64 = .ok (.invokevirtual 43, 3) := by decide +kernel
theorem d_Mod_chains_67 : decode b_Mod_chains 67 = .ok (.if_icmp .ne 7, 3) := by decide +kernel
theorem d_Mod_chains_70 : decode b_Mod_chains 70 = .ok (.iconst 1, 1) := by decide +kernel
theorem d_Mod_chains_71 : decode b_Mod_chains 71 = .ok (.goto 4, 3) := by decide +kernel
theorem d_Mod_chains_74 : decode b_Mod_chains 74 = .ok (.iconst 0, 1) := by decide +kernel
theorem d_Mod_chains_75 : decode b_Mod_chains 75 = .ok (.iadd, 1) := by decide +kernel
theorem d_Mod_chains_76 : decode b_Mod_chains 76 = .ok (.istore_n 3, 1) := by decide +kernel
theorem d_Mod_chains_77 : decode b_Mod_chains 77 = .ok (.iinc 5 1, 3) := by decide +kernel
theorem d_Mod_chains_80 : decode b_Mod_chains 80 = .ok (.goto (-63), 3) := by decide +kernel
theorem d_Mod_chains_83 : decode b_Mod_chains 83 = .ok (.iinc 4 1, 3) := by decide +kernel
theorem d_Mod_chains_86 : decode b_Mod_chains 86 = .ok (.goto (-81), 3) := by decide +kernel
theorem d_Mod_chains_89 : decode b_Mod_chains 89 = .ok (.iload_n 3, 1) := by decide +kernel
theorem d_Mod_chains_90 : decode b_Mod_chains 90 = .ok (.ireturn, 1) := by decide +kernel
theorem d_Mod_find_0 : decode b_Mod_find 0 = .ok (.iconst 0, 1) := by decide +kernel
theorem d_Mod_find_1 : decode b_Mod_find 1 = .ok (.istore_n 2, 1) := by decide +kernel
theorem d_Mod_find_2 : decode b_Mod_find 2 = .ok (.iload_n 2, 1) := by decide +kernel
theorem d_Mod_find_3 : decode b_Mod_find 3 = .ok (.aload_n 0, 1) := by decide +kernel
theorem d_Mod_find_4 : decode b_Mod_find 4 = .ok (.getfield 87, 3) := by decide +kernel
theorem d_Mod_find_7 : decode b_Mod_find 7 = .ok (.if_icmp .ge 21, 3) := by decide +kernel
theorem d_Mod_find_10 : decode b_Mod_find 10 = .ok (.aload_n 0, 1) := by decide +kernel
theorem d_Mod_find_11 : decode b_Mod_find 11 = .ok (.getfield 29, 3) := by decide +kernel
theorem d_Mod_find_14 : decode b_Mod_find 14 = .ok (.iload_n 2, 1) := by decide +kernel
theorem d_Mod_find_15 : decode b_Mod_find 15 = .ok (.iaload, 1) := by decide +kernel
theorem d_Mod_find_16 : decode b_Mod_find 16 = .ok (.iload_n 1, 1) := by decide +kernel
theorem d_Mod_find_17 : decode b_Mod_find 17 = .ok (.if_icmp .ne 5, 3) := by decide +kernel
theorem d_Mod_find_20 : decode b_Mod_find 20 = .ok (.iload_n 2, 1) := by decide +kernel
theorem d_Mod_find_21 : decode b_Mod_find 21 = .ok (.ireturn, 1) := by decide +kernel
theorem d_Mod_find_22 : decode b_Mod_find 22 = .ok (.iinc 2 1, 3) := by decide +kernel
theorem d_Mod_find_25 : decode b_Mod_find 25 = .ok (.goto (-23), 3) := by decide +kernel
theorem d_Mod_find_28 : decode b_Mod_find 28 = .ok (.iconst (-1), 1) := by decide +kernel
theorem d_Mod_find_29 : decode b_Mod_find 29 = .ok (.ireturn, 1) := by decide +kernel
theorem d_Mod_go_0 : decode b_Mod_go 0 = .ok (.aload_n 0, 1) := by decide +kernel
theorem d_Mod_go_1 : decode b_Mod_go 1 = .ok (.getfield 29, 3) := by decide +kernel
theorem d_Mod_go_4 : decode b_Mod_go 4 = .ok (.iconst 0, 1) := by decide +kernel
theorem d_Mod_go_5 : decode b_Mod_go 5 = .ok (.iload_n 2, 1) := by decide +kernel
theorem d_Mod_go_6 : decode b_Mod_go 6 = .ok (.iastore, 1) := by decide +kernel
theorem d_Mod_go_7 : decode b_Mod_go 7 = .ok (.aload_n 0, 1) := by decide +kernel
theorem d_Mod_go_8 : decode b_Mod_go 8 = .ok (.getfield 32, 3) := by decide +kernel
theorem d_Mod_go_11 : decode b_Mod_go 11 = .ok (.iconst 0, 1) := by decide +kernel
theorem d_Mod_go_12 : decode b_Mod_go 12 = .ok (.iconst 0, 1) := by decide +kernel
theorem d_Mod_go_13 : decode b_Mod_go 13 = .ok (.iastore, 1) := by decide +kernel
theorem d_Mod_go_14 : decode b_Mod_go 14 = .ok (.aload_n 0, 1) := by decide +kernel
theorem d_Mod_go_15 : decode b_Mod_go 15 = .ok (.iconst 1, 1) := by decide +kernel
theorem d_Mod_go_16 : decode b_Mod_go 16 = .ok (.putfield 87, 3) := by decide +kernel
theorem d_Mod_go_19 : decode b_Mod_go 19 = .ok (.iconst 0, 1) := by decide +kernel
theorem d_Mod_go_20 : decode b_Mod_go 20 = .ok (.istore_n 3, 1) := by decide +kernel
theorem d_Mod_go_21 : decode b_Mod_go 21 = .ok (.iload_n 3, 1) := by decide +kernel
theorem d_Mod_go_22 : decode b_Mod_go 22 = .ok (.aload_n 0, 1) := by decide +kernel
theorem d_Mod_go_23 : decode b_Mod_go 23 = .ok (.getfield 87, 3) := by decide +kernel
theorem d_Mod_go_26 : decode b_Mod_go 26 = .ok (.if_icmp .ge 116, 3) := by decide +kernel
theorem d_Mod_go_29 : decode b_Mod_go 29 = .ok (.iconst 0, 1) := by decide +kernel
theorem d_Mod_go_30 : decode b_Mod_go 30 = .ok (.istore 4, 2) := by decide +kernel
theorem d_Mod_go_32 : decode b_Mod_go 32 = .ok (.iload 4, 2) := by decide +kernel
theorem d_Mod_go_34 : decode b_Mod_go 34 = .ok (.aload_n 0, 1) := by decide +kernel
theorem d_Mod_go_35 : decode b_Mod_go 35 = .ok (.getfield 35, 3) := by decide +kernel
theorem d_Mod_go_38 : decode b_Mod_go 38 = .ok (.if_icmp .ge 98, 3) := by decide +kernel
theorem d_Mod_go_41 : decode b_Mod_go 41 = .ok (.aload_n 0, 1) := by decide +kernel
theorem d_Mod_go_42 : decode b_Mod_go 42 = .ok (.iconst 0, 1) := by decide +kernel
theorem d_Mod_go_43 : decode b_Mod_go 43 = .ok (.iload 4, 2) := by decide +kernel
theorem d_Mod_go_45 : decode b_Mod_go 45 = .ok (.iconst 1, 1) := by decide +kernel
theorem d_Mod_go_46 : decode b_Mod_go 46 = .ok (.invokevirtual 43, 3) := by decide +kernel
theorem d_Mod_go_49 : decode b_Mod_go 49 = .ok (.iload_n 1, 1) := by decide +kernel
theorem d_Mod_go_50 : decode b_Mod_go 50 = .ok (.if_icmp .ne 80, 3) := by decide +kernel
theorem d_Mod_go_53 : decode b_Mod_go 53 = .ok (.aload_n 0, 1) := by decide +kernel
theorem d_Mod_go_54 : decode b_Mod_go 54 = .ok (.iconst 0, 1) := by decide +kernel
theorem d_Mod_go_55 : decode b_Mod_go 55 = .ok (.iload 4, 2) := by decide +kernel
theorem d_Mod_go_57 : decode b_Mod_go 57 = .ok (.iconst 0, 1) := by decide +kernel
theorem d_Mod_go_58 : decode b_Mod_go 58 = .ok (.invokevirtual 43, 3) := by decide +kernel
theorem d_Mod_go_61 : decode b_Mod_go 61 = .ok (.aload_n 0, 1) := by decide +kernel
theorem d_Mod_go_62 : decode b_Mod_go 62 = .ok (.getfield 29, 3) := by decide +kernel
theorem d_Mod_go_65 : decode b_Mod_go 65 = .ok (.iload_n 3, 1) := by decide +kernel
theorem d_Mod_go_66 : decode b_Mod_go 66 = .ok (.iaload, 1) := by decide +kernel
theorem d_Mod_go_67 : decode b_Mod_go 67 = .ok (.if_icmp .ne 63, 3) := by decide +kernel
theorem d_Mod_go_70 : decode b_Mod_go 70 = .ok (.aload_n 0, 1) := by decide +kernel
theorem d_Mod_go_71 : decode b_Mod_go 71 = .ok (.aload_n 0, 1) := by decide +kernel
theorem d_Mod_go_72 : decode b_Mod_go 72 = .ok (.iconst 0, 1) := by decide +kernel
theorem d_Mod_go_73 : decode b_Mod_go 73 = .ok (.iload 4, 2) := by decide +kernel
theorem d_Mod_go_75 : decode b_Mod_go 75 = .ok (.iconst 2, 1) := by decide +kernel
theorem d_Mod_go_76 : decode b_Mod_go 76 = .ok (.invokevirtual 43, 3) := by decide +kernel
theorem d_Mod_go_79 : decode b_Mod_go 79 = .ok (.invokevirtual 90, 3) := by decide +kernel
theorem d_Mod_go_82 : decode b_Mod_go 82 = .ok (.iconst (-1), 1) := by decide +kernel
theorem d_Mod_go_83 : decode b_Mod_go 83 = .ok (.if_icmp .ne 47, 3) := by decide +kernel
theorem d_Mod_go_86 : decode b_Mod_go 86 = .ok (.aload_n 0, 1) := by decide +kernel
theorem d_Mod_go_87 : decode b_Mod_go 87 = .ok (.getfield 29, 3) := by decide +kernel
theorem d_Mod_go_90 : decode b_Mod_go 90 = .ok (.aload_n 0, 1) := by decide +kernel
theorem d_Mod_go_91 : decode b_Mod_go 91 = .ok (.getfield 87, 3) := by decide +kernel
theorem d_Mod_go_94 : decode b_Mod_go 94 = .ok (.aload_n 0, 1) := by decide +kernel
theorem d_Mod_go_95 : decode b_Mod_go 95 = .ok (.iconst 0, 1) := by decide +kernel
theorem d_Mod_go_96 : decode b_Mod_go 96 = .ok (.iload 4, 2) := by decide +kernel
theorem d_Mod_go_98 : decode b_Mod_go 98 = .ok (.iconst 2, 1) := by decide +kernel
theorem d_Mod_go_99 : decode b_Mod_go 99 = .ok (.invokevirtual 43, 3) := by decide +kernel
theorem d_Mod_go_102 : decode b_Mod_go 102 = .ok (.iastore, 1) := by decide +kernel
theorem d_Mod_go_103 : decode b_Mod_go 103 = .ok (.aload_n 0, 1) := by decide +kernel
theorem d_Mod_go_104 : decode b_Mod_go 104 = .ok (.getfield 32, 3) := by decide +kernel
theorem d_Mod_go_107 : decode b_Mod_go 107 = .ok (.aload_n 0, 1) := by decide +kernel
theorem d_Mod_go_108 : decode b_Mod_go 108 = .ok (.getfield 87, 3) := by decide +kernel
theorem d_Mod_go_111 : decode b_Mod_go 111 = .ok (.aload_n 0, 1) := by decide +kernel
theorem d_Mod_go_112 : decode b_Mod_go 112 = .ok (.getfield 32, 3) := by decide +kernel
theorem d_Mod_go_115 : decode b_Mod_go 115 = .ok (.iload_n 3, 1) := by decide +kernel
theorem d_Mod_go_116 : decode b_Mod_go 116 = .ok (.iaload, 1) := by decide +kernel
theorem d_Mod_go_117 : decode b_Mod_go 117 = .ok (.iconst 1, 1) := by decide +kernel
theorem d_Mod_go_118 : decode b_Mod_go 118 = .ok (.iadd, 1) := by decide +kernel
theorem d_Mod_go_119 : decode b_Mod_go 119 = .ok (.iastore, 1) := by decide +kernel
theorem d_Mod_go_120 : decode b_Mod_go 120 = .ok (.aload_n 0, 1) := by decide +kernel
theorem d_Mod_go_121 : decode b_Mod_go 121 = .ok (.dup, 1) := by decide +kernel
theorem d_Mod_go_122 : decode b_Mod_go 122 = .ok (.getfield 87, 3) := by decide +kernel
theorem d_Mod_go_125 : decode b_Mod_go 125 = .ok (.iconst 1, 1) := by decide +kernel
theorem d_Mod_go_126 : decode b_Mod_go 126 = .ok (.iadd, 1) := by decide +kernel
theorem d_Mod_go_127 : decode b_Mod_go 127 = .ok (.putfield 87, 3) := by decide +kernel
theorem d_Mod_go_130 : decode b_Mod_go 130 = .ok (.iinc 4 1, 3) := by decide +kernel
theorem d_Mod_go_133 : decode b_Mod_go 133 = .ok (.goto (-101), 3) := by decide +kernel
theorem d_Mod_go_136 : decode b_Mod_go 136 = .ok (.iinc 3 1, 3) := by decide +kernel
theorem d_Mod_go_139 : decode b_Mod_go 139 = .ok (.goto (-118), 3) := by decide +kernel
theorem d_Mod_go_142 : decode b_Mod_go 142 = .ok (.return_, 1) := by decide +kernel
theorem d_Mod_far_0 : decode b_Mod_far 0 = .ok (.aload_n 0, 1) := by decide +kernel
theorem d_Mod_far_1 : decode b_Mod_far 1 = .ok (.iload_n 1, 1) := by decide +kernel
theorem d_Mod_far_2 : decode b_Mod_far 2 = .ok (.iload_n 2, 1) := by decide +kernel
theorem d_Mod_far_3 : decode b_Mod_far 3 = .ok (.invokevirtual 93, 3) := by decide +kernel
theorem d_Mod_far_6 : decode b_Mod_far 6 = .ok (.aload_n 0, 1) := by decide +kernel
theorem d_Mod_far_7 : decode b_Mod_far 7 = .ok (.iload_n 3, 1) := by decide +kernel
theorem d_Mod_far_8 : decode b_Mod_far 8 = .ok (.invokevirtual 90, 3) := by decide +kernel
theorem d_Mod_far_11 : decode b_Mod_far 11 = .ok (.istore 4, 2) := by decide +kernel
theorem d_Mod_far_13 : decode b_Mod_far 13 = .ok (.iload 4, 2) := by decide +kernel
theorem d_Mod_far_15 : decode b_Mod_far 15 = .ok (.iconst (-1), 1) := by decide +kernel
theorem d_Mod_far_16 : decode b_Mod_far 16 = .ok (.if_icmp .ne 7, 3) := by decide +kernel
theorem d_Mod_far_19 : decode b_Mod_far 19 = .ok (.iconst (-1), 1) := by decide +kernel
theorem d_Mod_far_20 : decode b_Mod_far 20 = .ok (.goto 10, 3) := by decide +kernel
theorem d_Mod_far_23 : decode b_Mod_far 23 = .ok (.aload_n 0, 1) := by decide +kernel
theorem d_Mod_far_24 : decode b_Mod_far 24 = .ok (.getfield 32, 3) := by decide +kernel
theorem d_Mod_far_27 : decode b_Mod_far 27 = .ok (.iload 4, 2) := by decide +kernel
theorem d_Mod_far_29 : decode b_Mod_far 29 = .ok (.iaload, 1) := by decide +kernel
theorem d_Mod_far_30 : decode b_Mod_far 30 = .ok (.ireturn, 1) := by decide +kernel
theorem d_Mod_reached_0 : decode b_Mod_reached 0 = .ok (.aload_n 0, 1) := by decide +kernel
theorem d_Mod_reached_1 : decode b_Mod_reached 1 = .ok (.iload_n 1, 1) := by decide +kernel
theorem d_Mod_reached_2 : decode b_Mod_reached 2 = .ok (.iload_n 2, 1) := by decide +kernel
theorem d_Mod_reached_3 : decode b_Mod_reached 3 = .ok (.invokevirtual 93, 3) := by decide +kernel
theorem d_Mod_reached_6 : decode b_Mod_reached 6 = .ok (.aload_n 0, 1) := by decide +kernel
theorem d_Mod_reached_7 : decode b_Mod_reached 7 = .ok (.getfield 87, 3) := by decide +kernel
theorem d_Mod_reached_10 : decode b_Mod_reached 10 = .ok (.ireturn, 1) := by decide +kernel
theorem d_Mod_size_0 : decode b_Mod_size 0 = .ok (.aload_n 0, 1) := by decide +kernel
theorem d_Mod_size_1 : decode b_Mod_size 1 = .ok (.getfield 35, 3) := by decide +kernel
theorem d_Mod_size_4 : decode b_Mod_size 4 = .ok (.ireturn, 1) := by decide +kernel
theorem d_Mod_changes_0 : decode b_Mod_changes 0 = .ok (.aload_n 0, 1) := by decide +kernel
theorem d_Mod_changes_1 : decode b_Mod_changes 1 = .ok (.getfield 55, 3) := by decide +kernel
theorem d_Mod_changes_4 : decode b_Mod_changes 4 = .ok (.ireturn, 1) := by decide +kernel
