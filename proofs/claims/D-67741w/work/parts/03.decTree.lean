theorem d_Tree_init_0 : decode b_Tree_init 0 = .ok (.aload_n 0, 1) := by decide +kernel
theorem d_Tree_init_1 : decode b_Tree_init 1 = .ok (.invokespecial 3, 3) := by decide +kernel
theorem d_Tree_init_4 : decode b_Tree_init 4 = .ok (.aload_n 0, 1) := by decide +kernel
theorem d_Tree_init_5 : decode b_Tree_init 5 = .ok (.sipush 13500, 3) := by decide +kernel
theorem d_Tree_init_8 : decode b_Tree_init 8 = .ok (.newarray .int, 2) := by decide +kernel
theorem d_Tree_init_10 : decode b_Tree_init 10 = .ok (.putfield 9, 3) := by decide +kernel
theorem d_Tree_init_13 : decode b_Tree_init 13 = .ok (.aload_n 0, 1) := by decide +kernel
theorem d_Tree_init_14 : decode b_Tree_init 14 = .ok (.sipush 5500, 3) := by decide +kernel
theorem d_Tree_init_17 : decode b_Tree_init 17 = .ok (.newarray .int, 2) := by decide +kernel
theorem d_Tree_init_19 : decode b_Tree_init 19 = .ok (.putfield 15, 3) := by decide +kernel
theorem d_Tree_init_22 : decode b_Tree_init 22 = .ok (.aload_n 0, 1) := by decide +kernel
theorem d_Tree_init_23 : decode b_Tree_init 23 = .ok (.sipush 500, 3) := by decide +kernel
theorem d_Tree_init_26 : decode b_Tree_init 26 = .ok (.newarray .int, 2) := by decide +kernel
theorem d_Tree_init_28 : decode b_Tree_init 28 = .ok (.putfield 18, 3) := by decide +kernel
theorem d_Tree_init_31 : decode b_Tree_init 31 = .ok (.aload_n 0, 1) := by decide +kernel
theorem d_Tree_init_32 : decode b_Tree_init 32 = .ok (.sipush 500, 3) := by decide +kernel
theorem d_Tree_init_35 : decode b_Tree_init 35 = .ok (.newarray .boolean, 2) := by decide +kernel
theorem d_Tree_init_37 : decode b_Tree_init 37 = .ok (.putfield 21, 3) := by decide +kernel
theorem d_Tree_init_40 : decode b_Tree_init 40 = .ok (.aload_n 0, 1) := by decide +kernel
theorem d_Tree_init_41 : decode b_Tree_init 41 = .ok (.sipush 500, 3) := by decide +kernel
theorem d_Tree_init_44 : decode b_Tree_init 44 = .ok (.newarray .int, 2) := by decide +kernel
theorem d_Tree_init_46 : decode b_Tree_init 46 = .ok (.putfield 25, 3) := by decide +kernel
theorem d_Tree_init_49 : decode b_Tree_init 49 = .ok (.aload_n 0, 1) := by decide +kernel
theorem d_Tree_init_50 : decode b_Tree_init 50 = .ok (.sipush 500, 3) := by decide +kernel
theorem d_Tree_init_53 : decode b_Tree_init 53 = .ok (.newarray .int, 2) := by decide +kernel
theorem d_Tree_init_55 : decode b_Tree_init 55 = .ok (.putfield 28, 3) := by decide +kernel
theorem d_Tree_init_58 : decode b_Tree_init 58 = .ok (.aload_n 0, 1) := by decide +kernel
theorem d_Tree_init_59 : decode b_Tree_init 59 = .ok (.iconst 3, 1) := by decide +kernel
theorem d_Tree_init_60 : decode b_Tree_init 60 = .ok (.newarray .int, 2) := by decide +kernel
theorem d_Tree_init_62 : decode b_Tree_init 62 = .ok (.putfield 31, 3) := by decide +kernel
theorem d_Tree_init_65 : decode b_Tree_init 65 = .ok (.aload_n 0, 1) := by decide +kernel
theorem d_Tree_init_66 : decode b_Tree_init 66 = .ok (.iconst 3, 1) := by decide +kernel
theorem d_Tree_init_67 : decode b_Tree_init 67 = .ok (.newarray .int, 2) := by decide +kernel
theorem d_Tree_init_69 : decode b_Tree_init 69 = .ok (.putfield 34, 3) := by decide +kernel
theorem d_Tree_init_72 : decode b_Tree_init 72 = .ok (.iconst 0, 1) := by decide +kernel
theorem d_Tree_init_73 : decode b_Tree_init 73 = .ok (.istore_n 1, 1) := by decide +kernel
theorem d_Tree_init_74 : decode b_Tree_init 74 = .ok (.iload_n 1, 1) := by decide +kernel
theorem d_Tree_init_75 : decode b_Tree_init 75 = .ok (.aload_n 0, 1) := by decide +kernel
theorem d_Tree_init_76 : decode b_Tree_init 76 = .ok (.getfield 25, 3) := by decide +kernel
theorem d_Tree_init_79 : decode b_Tree_init 79 = .ok (.arraylength, 1) := by decide +kernel
theorem d_Tree_init_80 : decode b_Tree_init 80 = .ok (.if_icmp .ge 18, 3) := by decide +kernel
theorem d_Tree_init_83 : decode b_Tree_init 83 = .ok (.aload_n 0, 1) := by decide +kernel
theorem d_Tree_init_84 : decode b_Tree_init 84 = .ok (.getfield 25, 3) := by decide +kernel
theorem d_Tree_init_87 : decode b_Tree_init 87 = .ok (.iload_n 1, 1) := by decide +kernel
theorem d_Tree_init_88 : decode b_Tree_init 88 = .ok (.iload_n 1, 1) := by decide +kernel
theorem d_Tree_init_89 : decode b_Tree_init 89 = .ok (.iconst 1, 1) := by decide +kernel
theorem d_Tree_init_90 : decode b_Tree_init 90 = .ok (.iadd, 1) := by decide +kernel
theorem d_Tree_init_91 : decode b_Tree_init 91 = .ok (.iastore, 1) := by decide +kernel
theorem d_Tree_init_92 : decode b_Tree_init 92 = .ok (.iinc 1 1, 3) := by decide +kernel
theorem d_Tree_init_95 : decode b_Tree_init 95 = .ok (.goto (-21), 3) := by decide +kernel
theorem d_Tree_init_98 : decode b_Tree_init 98 = .ok (.aload_n 0, 1) := by decide +kernel
theorem d_Tree_init_99 : decode b_Tree_init 99 = .ok (.iconst 0, 1) := by decide +kernel
theorem d_Tree_init_100 : decode b_Tree_init 100 = .ok (.putfield 37, 3) := by decide +kernel
theorem d_Tree_init_103 : decode b_Tree_init 103 = .ok (.aload_n 0, 1) := by decide +kernel
theorem d_Tree_init_104 : decode b_Tree_init 104 = .ok (.aload_n 0, 1) := by decide +kernel
theorem d_Tree_init_105 : decode b_Tree_init 105 = .ok (.iconst 1, 1) := by decide +kernel
theorem d_Tree_init_106 : decode b_Tree_init 106 = .ok (.invokevirtual 41, 3) := by decide +kernel
theorem d_Tree_init_109 : decode b_Tree_init 109 = .ok (.putfield 45, 3) := by decide +kernel
theorem d_Tree_init_112 : decode b_Tree_init 112 = .ok (.return_, 1) := by decide +kernel
theorem d_Tree_make_0 : decode b_Tree_make 0 = .ok (.aload_n 0, 1) := by decide +kernel
theorem d_Tree_make_1 : decode b_Tree_make 1 = .ok (.getfield 37, 3) := by decide +kernel
theorem d_Tree_make_4 : decode b_Tree_make 4 = .ok (.istore_n 2, 1) := by decide +kernel
theorem d_Tree_make_5 : decode b_Tree_make 5 = .ok (.aload_n 0, 1) := by decide +kernel
theorem d_Tree_make_6 : decode b_Tree_make 6 = .ok (.aload_n 0, 1) := by decide +kernel
theorem d_Tree_make_7 : decode b_Tree_make 7 = .ok (.getfield 25, 3) := by decide +kernel
theorem d_Tree_make_10 : decode b_Tree_make 10 = .ok (.iload_n 2, 1) := by decide +kernel
theorem d_Tree_make_11 : decode b_Tree_make 11 = .ok (.iaload, 1) := by decide +kernel
theorem d_Tree_make_12 : decode b_Tree_make 12 = .ok (.putfield 37, 3) := by decide +kernel
theorem d_Tree_make_15 : decode b_Tree_make 15 = .ok (.aload_n 0, 1) := by decide +kernel
theorem d_Tree_make_16 : decode b_Tree_make 16 = .ok (.getfield 18, 3) := by decide +kernel
theorem d_Tree_make_19 : decode b_Tree_make 19 = .ok (.iload_n 2, 1) := by decide +kernel
theorem d_Tree_make_20 : decode b_Tree_make 20 = .ok (.iconst 0, 1) := by decide +kernel
theorem d_Tree_make_21 : decode b_Tree_make 21 = .ok (.iastore, 1) := by decide +kernel
theorem d_Tree_make_22 : decode b_Tree_make 22 = .ok (.aload_n 0, 1) := by decide +kernel
theorem d_Tree_make_23 : decode b_Tree_make 23 = .ok (.getfield 28, 3) := by decide +kernel
theorem d_Tree_make_26 : decode b_Tree_make 26 = .ok (.iload_n 2, 1) := by decide +kernel
theorem d_Tree_make_27 : decode b_Tree_make 27 = .ok (.iconst 0, 1) := by decide +kernel
theorem d_Tree_make_28 : decode b_Tree_make 28 = .ok (.iastore, 1) := by decide +kernel
theorem d_Tree_make_29 : decode b_Tree_make 29 = .ok (.aload_n 0, 1) := by decide +kernel
theorem d_Tree_make_30 : decode b_Tree_make 30 = .ok (.getfield 21, 3) := by decide +kernel
theorem d_Tree_make_33 : decode b_Tree_make 33 = .ok (.iload_n 2, 1) := by decide +kernel
theorem d_Tree_make_34 : decode b_Tree_make 34 = .ok (.iload_n 1, 1) := by decide +kernel
theorem d_Tree_make_35 : decode b_Tree_make 35 = .ok (.bastore, 1) := by decide +kernel
theorem d_Tree_make_36 : decode b_Tree_make 36 = .ok (.aload_n 0, 1) := by decide +kernel
theorem d_Tree_make_37 : decode b_Tree_make 37 = .ok (.getfield 25, 3) := by decide +kernel
theorem d_Tree_make_40 : decode b_Tree_make 40 = .ok (.iload_n 2, 1) := by decide +kernel
theorem d_Tree_make_41 : decode b_Tree_make 41 = .ok (.iconst (-1), 1) := by decide +kernel
theorem d_Tree_make_42 : decode b_Tree_make 42 = .ok (.iastore, 1) := by decide +kernel
theorem d_Tree_make_43 : decode b_Tree_make 43 = .ok (.iload_n 2, 1) := by decide +kernel
theorem d_Tree_make_44 : decode b_Tree_make 44 = .ok (.ireturn, 1) := by decide +kernel
theorem d_Tree_drop_0 : decode b_Tree_drop 0 = .ok (.aload_n 0, 1) := by decide +kernel
theorem d_Tree_drop_1 : decode b_Tree_drop 1 = .ok (.getfield 25, 3) := by decide +kernel
theorem d_Tree_drop_4 : decode b_Tree_drop 4 = .ok (.iload_n 1, 1) := by decide +kernel
theorem d_Tree_drop_5 : decode b_Tree_drop 5 = .ok (.aload_n 0, 1) := by decide +kernel
theorem d_Tree_drop_6 : decode b_Tree_drop 6 = .ok (.getfield 37, 3) := by decide +kernel
theorem d_Tree_drop_9 : decode b_Tree_drop 9 = .ok (.iastore, 1) := by decide +kernel
theorem d_Tree_drop_10 : decode b_Tree_drop 10 = .ok (.aload_n 0, 1) := by decide +kernel
theorem d_Tree_drop_11 : decode b_Tree_drop 11 = .ok (.iload_n 1, 1) := by decide +kernel
theorem d_Tree_drop_12 : decode b_Tree_drop 12 = .ok (.putfield 37, 3) := by decide +kernel
theorem d_Tree_drop_15 : decode b_Tree_drop 15 = .ok (.return_, 1) := by decide +kernel
theorem d_Tree_place_0 : decode b_Tree_place 0 = .ok (.bipush 27, 2) := by decide +kernel
theorem d_Tree_place_2 : decode b_Tree_place 2 = .ok (.iload_n 1, 1) := by decide +kernel
theorem d_Tree_place_3 : decode b_Tree_place 3 = .ok (.imul, 1) := by decide +kernel
theorem d_Tree_place_4 : decode b_Tree_place 4 = .ok (.iconst 3, 1) := by decide +kernel
theorem d_Tree_place_5 : decode b_Tree_place 5 = .ok (.iload_n 2, 1) := by decide +kernel
theorem d_Tree_place_6 : decode b_Tree_place 6 = .ok (.imul, 1) := by decide +kernel
theorem d_Tree_place_7 : decode b_Tree_place 7 = .ok (.iadd, 1) := by decide +kernel
theorem d_Tree_place_8 : decode b_Tree_place 8 = .ok (.ireturn, 1) := by decide +kernel
theorem d_Tree_tell_0 : decode b_Tree_tell 0 = .ok (.aload_n 0, 1) := by decide +kernel
theorem d_Tree_tell_1 : decode b_Tree_tell 1 = .ok (.getfield 31, 3) := by decide +kernel
theorem d_Tree_tell_4 : decode b_Tree_tell 4 = .ok (.iconst 0, 1) := by decide +kernel
theorem d_Tree_tell_5 : decode b_Tree_tell 5 = .ok (.iload_n 1, 1) := by decide +kernel
theorem d_Tree_tell_6 : decode b_Tree_tell 6 = .ok (.iastore, 1) := by decide +kernel
theorem d_Tree_tell_7 : decode b_Tree_tell 7 = .ok (.aload_n 0, 1) := by decide +kernel
theorem d_Tree_tell_8 : decode b_Tree_tell 8 = .ok (.getfield 31, 3) := by decide +kernel
theorem d_Tree_tell_11 : decode b_Tree_tell 11 = .ok (.iconst 1, 1) := by decide +kernel
theorem d_Tree_tell_12 : decode b_Tree_tell 12 = .ok (.iload_n 2, 1) := by decide +kernel
theorem d_Tree_tell_13 : decode b_Tree_tell 13 = .ok (.iastore, 1) := by decide +kernel
theorem d_Tree_tell_14 : decode b_Tree_tell 14 = .ok (.aload_n 0, 1) := by decide +kernel
theorem d_Tree_tell_15 : decode b_Tree_tell 15 = .ok (.getfield 31, 3) := by decide +kernel
theorem d_Tree_tell_18 : decode b_Tree_tell 18 = .ok (.iconst 2, 1) := by decide +kernel
theorem d_Tree_tell_19 : decode b_Tree_tell 19 = .ok (.iload_n 3, 1) := by decide +kernel
theorem d_Tree_tell_20 : decode b_Tree_tell 20 = .ok (.iastore, 1) := by decide +kernel
theorem d_Tree_tell_21 : decode b_Tree_tell 21 = .ok (.return_, 1) := by decide +kernel
theorem d_Tree_part_0 : decode b_Tree_part 0 = .ok (.aload_n 0, 1) := by decide +kernel
theorem d_Tree_part_1 : decode b_Tree_part 1 = .ok (.getfield 9, 3) := by decide +kernel
theorem d_Tree_part_4 : decode b_Tree_part 4 = .ok (.aload_n 0, 1) := by decide +kernel
theorem d_Tree_part_5 : decode b_Tree_part 5 = .ok (.iload_n 1, 1) := by decide +kernel
theorem d_Tree_part_6 : decode b_Tree_part 6 = .ok (.iload_n 2, 1) := by decide +kernel
theorem d_Tree_part_7 : decode b_Tree_part 7 = .ok (.invokevirtual 48, 3) := by decide +kernel
theorem d_Tree_part_10 : decode b_Tree_part 10 = .ok (.iload_n 3, 1) := by decide +kernel
theorem d_Tree_part_11 : decode b_Tree_part 11 = .ok (.iadd, 1) := by decide +kernel
theorem d_Tree_part_12 : decode b_Tree_part 12 = .ok (.iaload, 1) := by decide +kernel
theorem d_Tree_part_13 : decode b_Tree_part 13 = .ok (.ireturn, 1) := by decide +kernel
theorem d_Tree_compare_0 : decode b_Tree_compare 0 = .ok (.aload_n 0, 1) := by decide +kernel
theorem d_Tree_compare_1 : decode b_Tree_compare 1 = .ok (.iload_n 1, 1) := by decide +kernel
theorem d_Tree_compare_2 : decode b_Tree_compare 2 = .ok (.iload_n 2, 1) := by decide +kernel
theorem d_Tree_compare_3 : decode b_Tree_compare 3 = .ok (.invokevirtual 48, 3) := by decide +kernel
theorem d_Tree_compare_6 : decode b_Tree_compare 6 = .ok (.istore_n 3, 1) := by decide +kernel
theorem d_Tree_compare_7 : decode b_Tree_compare 7 = .ok (.iconst 0, 1) := by decide +kernel
theorem d_Tree_compare_8 : decode b_Tree_compare 8 = .ok (.istore 4, 2) := by decide +kernel
theorem d_Tree_compare_10 : decode b_Tree_compare 10 = .ok (.iload 4, 2) := by decide +kernel
theorem d_Tree_compare_12 : decode b_Tree_compare 12 = .ok (.iconst 3, 1) := by decide +kernel
theorem d_Tree_compare_13 : decode b_Tree_compare 13 = .ok (.if_icmp .ge 53, 3) := by decide +kernel
theorem d_Tree_compare_16 : decode b_Tree_compare 16 = .ok (.aload_n 0, 1) := by decide +kernel
theorem d_Tree_compare_17 : decode b_Tree_compare 17 = .ok (.getfield 9, 3) := by decide +kernel
theorem d_Tree_compare_20 : decode b_Tree_compare 20 = .ok (.iload_n 3, 1) := by decide +kernel
theorem d_Tree_compare_21 : decode b_Tree_compare 21 = .ok (.iload 4, 2) := by decide +kernel
theorem d_Tree_compare_23 : decode b_Tree_compare 23 = .ok (.iadd, 1) := by decide +kernel
theorem d_Tree_compare_24 : decode b_Tree_compare 24 = .ok (.iaload, 1) := by decide +kernel
theorem d_Tree_compare_25 : decode b_Tree_compare 25 = .ok (.aload_n 0, 1) := by decide +kernel
theorem d_Tree_compare_26 : decode b_Tree_compare 26 = .ok (.getfield 31, 3) := by decide +kernel
theorem d_Tree_compare_29 : decode b_Tree_compare 29 = .ok (.iload 4, 2) := by decide +kernel
theorem d_Tree_compare_31 : decode b_Tree_compare 31 = .ok (.iaload, 1) := by decide +kernel
theorem d_Tree_compare_32 : decode b_Tree_compare 32 = .ok (.if_icmp .eq 28, 3) := by decide +kernel
theorem d_Tree_compare_35 : decode b_Tree_compare 35 = .ok (.aload_n 0, 1) := by decide +kernel
theorem d_Tree_compare_36 : decode b_Tree_compare 36 = .ok (.getfield 9, 3) := by decide +kernel
theorem d_Tree_compare_39 : decode b_Tree_compare 39 = .ok (.iload_n 3, 1) := by decide +kernel
theorem d_Tree_compare_40 : decode b_Tree_compare 40 = .ok (.iload 4, 2) := by decide +kernel
theorem d_Tree_compare_42 : decode b_Tree_compare 42 = .ok (.iadd, 1) := by decide +kernel
theorem d_Tree_compare_43 : decode b_Tree_compare 43 = .ok (.iaload, 1) := by decide +kernel
theorem d_Tree_compare_44 : decode b_Tree_compare 44 = .ok (.aload_n 0, 1) := by decide +kernel
theorem d_Tree_compare_45 : decode b_Tree_compare 45 = .ok (.getfield 31, 3) := by decide +kernel
theorem d_Tree_compare_48 : decode b_Tree_compare 48 = .ok (.iload 4, 2) := by decide +kernel
theorem d_Tree_compare_50 : decode b_Tree_compare 50 = .ok (.iaload, 1) := by decide +kernel
theorem d_Tree_compare_51 : decode b_Tree_compare 51 = .ok (.if_icmp .ge 7, 3) := by decide +kernel
theorem d_Tree_compare_54 : decode b_Tree_compare 54 = .ok (.iconst (-1), 1) := by decide +kernel
theorem d_Tree_compare_55 : decode b_Tree_compare 55 = .ok (.goto 4, 3) := by decide +kernel
theorem d_Tree_compare_58 : decode b_Tree_compare 58 = .ok (.iconst 1, 1) := by decide +kernel
theorem d_Tree_compare_59 : decode b_Tree_compare 59 = .ok (.ireturn, 1) := by decide +kernel
theorem d_Tree_compare_60 : decode b_Tree_compare 60 = .ok (.iinc 4 1, 3) := by decide +kernel
theorem d_Tree_compare_63 : decode b_Tree_compare 63 = .ok (.goto (-53), 3) := by decide +kernel
theorem d_Tree_compare_66 : decode b_Tree_compare 66 = .ok (.iconst 0, 1) := by decide +kernel
theorem d_Tree_compare_67 : decode b_Tree_compare 67 = .ok (.ireturn, 1) := by decide +kernel
theorem d_Tree_copy_0 : decode b_Tree_copy 0 = .ok (.aload_n 0, 1) := by decide +kernel
theorem d_Tree_copy_1 : decode b_Tree_copy 1 = .ok (.getfield 9, 3) := by decide +kernel
theorem d_Tree_copy_4 : decode b_Tree_copy 4 = .ok (.aload_n 0, 1) := by decide +kernel
theorem d_Tree_copy_5 : decode b_Tree_copy 5 = .ok (.iload_n 1, 1) := by decide +kernel
theorem d_Tree_copy_6 : decode b_Tree_copy 6 = .ok (.iload_n 2, 1) := by decide +kernel
theorem d_Tree_copy_7 : decode b_Tree_copy 7 = .ok (.invokevirtual 48, 3) := by decide +kernel
theorem d_Tree_copy_10 : decode b_Tree_copy 10 = .ok (.aload_n 0, 1) := by decide +kernel
theorem d_Tree_copy_11 : decode b_Tree_copy 11 = .ok (.getfield 9, 3) := by decide +kernel
theorem d_Tree_copy_14 : decode b_Tree_copy 14 = .ok (.aload_n 0, 1) := by decide +kernel
theorem d_Tree_copy_15 : decode b_Tree_copy 15 = .ok (.iload_n 3, 1) := by decide +kernel
theorem d_Tree_copy_16 : decode b_Tree_copy 16 = .ok (.iload 4, 2) := by decide +kernel
theorem d_Tree_copy_18 : decode b_Tree_copy 18 = .ok (.invokevirtual 48, 3) := by decide +kernel
theorem d_Tree_copy_21 : decode b_Tree_copy 21 = .ok (.iconst 3, 1) := by decide +kernel
theorem d_Tree_copy_22 : decode b_Tree_copy 22 = .ok (.invokestatic 52, 3) := by decide +kernel
theorem d_Tree_copy_25 : decode b_Tree_copy 25 = .ok (.return_, 1) := by decide +kernel
theorem d_Tree_below_0 : decode b_Tree_below 0 = .ok (.iconst 0, 1) := by decide +kernel
theorem d_Tree_below_1 : decode b_Tree_below 1 = .ok (.istore_n 2, 1) := by decide +kernel
theorem d_Tree_below_2 : decode b_Tree_below 2 = .ok (.iload_n 2, 1) := by decide +kernel
theorem d_Tree_below_3 : decode b_Tree_below 3 = .ok (.aload_n 0, 1) := by decide +kernel
theorem d_Tree_below_4 : decode b_Tree_below 4 = .ok (.getfield 18, 3) := by decide +kernel
theorem d_Tree_below_7 : decode b_Tree_below 7 = .ok (.iload_n 1, 1) := by decide +kernel
theorem d_Tree_below_8 : decode b_Tree_below 8 = .ok (.iaload, 1) := by decide +kernel
theorem d_Tree_below_9 : decode b_Tree_below 9 = .ok (.if_icmp .ge 18, 3) := by decide +kernel
theorem d_Tree_below_12 : decode b_Tree_below 12 = .ok (.aload_n 0, 1) := by decide +kernel
theorem d_Tree_below_13 : decode b_Tree_below 13 = .ok (.iload_n 1, 1) := by decide +kernel
theorem d_Tree_below_14 : decode b_Tree_below 14 = .ok (.iload_n 2, 1) := by decide +kernel
theorem d_Tree_below_15 : decode b_Tree_below 15 = .ok (.invokevirtual 58, 3) := by decide +kernel
theorem d_Tree_below_18 : decode b_Tree_below 18 = .ok (.ifCond .ge 9, 3) := by decide +kernel
theorem d_Tree_below_21 : decode b_Tree_below 21 = .ok (.iinc 2 1, 3) := by decide +kernel
theorem d_Tree_below_24 : decode b_Tree_below 24 = .ok (.goto (-22), 3) := by decide +kernel
theorem d_Tree_below_27 : decode b_Tree_below 27 = .ok (.iload_n 2, 1) := by decide +kernel
theorem d_Tree_below_28 : decode b_Tree_below 28 = .ok (.ireturn, 1) := by decide +kernel
theorem d_Tree_way_0 : decode b_Tree_way 0 = .ok (.iconst 0, 1) := by decide +kernel
theorem d_Tree_way_1 : decode b_Tree_way 1 = .ok (.istore_n 2, 1) := by decide +kernel
theorem d_Tree_way_2 : decode b_Tree_way 2 = .ok (.iload_n 2, 1) := by decide +kernel
theorem d_Tree_way_3 : decode b_Tree_way 3 = .ok (.aload_n 0, 1) := by decide +kernel
theorem d_Tree_way_4 : decode b_Tree_way 4 = .ok (.getfield 18, 3) := by decide +kernel
theorem d_Tree_way_7 : decode b_Tree_way 7 = .ok (.iload_n 1, 1) := by decide +kernel
theorem d_Tree_way_8 : decode b_Tree_way 8 = .ok (.iaload, 1) := by decide +kernel
theorem d_Tree_way_9 : decode b_Tree_way 9 = .ok (.if_icmp .ge 18, 3) := by decide +kernel
theorem d_Tree_way_12 : decode b_Tree_way 12 = .ok (.aload_n 0, 1) := by decide +kernel
theorem d_Tree_way_13 : decode b_Tree_way 13 = .ok (.iload_n 1, 1) := by decide +kernel
theorem d_Tree_way_14 : decode b_Tree_way 14 = .ok (.iload_n 2, 1) := by decide +kernel
theorem d_Tree_way_15 : decode b_Tree_way 15 = .ok (.invokevirtual 58, 3) := by decide +kernel
theorem d_Tree_way_18 : decode b_Tree_way 18 = .ok (.ifCond .gt 9, 3) := by decide +kernel
theorem d_Tree_way_21 : decode b_Tree_way 21 = .ok (.iinc 2 1, 3) := by decide +kernel
theorem d_Tree_way_24 : decode b_Tree_way 24 = .ok (.goto (-22), 3) := by decide +kernel
theorem d_Tree_way_27 : decode b_Tree_way 27 = .ok (.iload_n 2, 1) := by decide +kernel
theorem d_Tree_way_28 : decode b_Tree_way 28 = .ok (.ireturn, 1) := by decide +kernel
theorem d_Tree_kid_0 : decode b_Tree_kid 0 = .ok (.aload_n 0, 1) := by decide +kernel
theorem d_Tree_kid_1 : decode b_Tree_kid 1 = .ok (.getfield 15, 3) := by decide +kernel
theorem d_Tree_kid_4 : decode b_Tree_kid 4 = .ok (.bipush 11, 2) := by decide +kernel
theorem d_Tree_kid_6 : decode b_Tree_kid 6 = .ok (.iload_n 1, 1) := by decide +kernel
theorem d_Tree_kid_7 : decode b_Tree_kid 7 = .ok (.imul, 1) := by decide +kernel
theorem d_Tree_kid_8 : decode b_Tree_kid 8 = .ok (.iload_n 2, 1) := by decide +kernel
theorem d_Tree_kid_9 : decode b_Tree_kid 9 = .ok (.iadd, 1) := by decide +kernel
theorem d_Tree_kid_10 : decode b_Tree_kid 10 = .ok (.iaload, 1) := by decide +kernel
theorem d_Tree_kid_11 : decode b_Tree_kid 11 = .ok (.ireturn, 1) := by decide +kernel
theorem d_Tree_leaf_0 : decode b_Tree_leaf 0 = .ok (.aload_n 0, 1) := by decide +kernel
theorem d_Tree_leaf_1 : decode b_Tree_leaf 1 = .ok (.getfield 45, 3) := by decide +kernel
theorem d_Tree_leaf_4 : decode b_Tree_leaf 4 = .ok (.istore_n 1, 1) := by decide +kernel
theorem d_Tree_leaf_5 : decode b_Tree_leaf 5 = .ok (.aload_n 0, 1) := by decide +kernel
theorem d_Tree_leaf_6 : decode b_Tree_leaf 6 = .ok (.getfield 21, 3) := by decide +kernel
theorem d_Tree_leaf_9 : decode b_Tree_leaf 9 = .ok (.iload_n 1, 1) := by decide +kernel
theorem d_Tree_leaf_10 : decode b_Tree_leaf 10 = .ok (.baload, 1) := by decide +kernel
theorem d_Tree_leaf_11 : decode b_Tree_leaf 11 = .ok (.ifCond .ne 17, 3) := by decide +kernel
theorem d_Tree_leaf_14 : decode b_Tree_leaf 14 = .ok (.aload_n 0, 1) := by decide +kernel
theorem d_Tree_leaf_15 : decode b_Tree_leaf 15 = .ok (.iload_n 1, 1) := by decide +kernel
theorem d_Tree_leaf_16 : decode b_Tree_leaf 16 = .ok (.aload_n 0, 1) := by decide +kernel
theorem d_Tree_leaf_17 : decode b_Tree_leaf 17 = .ok (.iload_n 1, 1) := by decide +kernel
theorem d_Tree_leaf_18 : decode b_Tree_leaf 18 = .ok (.invokevirtual 61, 3) := by decide +kernel
theorem d_Tree_leaf_21 : decode b_Tree_leaf 21 = .ok (.invokevirtual 65, 3) := by decide +kernel
theorem d_Tree_leaf_24 : decode b_Tree_leaf 24 = .ok (.istore_n 1, 1) := by decide +kernel
theorem d_Tree_leaf_25 : decode b_Tree_leaf 25 = .ok (.goto (-20), 3) := by decide +kernel
theorem d_Tree_leaf_28 : decode b_Tree_leaf 28 = .ok (.iload_n 1, 1) := by decide +kernel
theorem d_Tree_leaf_29 : decode b_Tree_leaf 29 = .ok (.ireturn, 1) := by decide +kernel
theorem d_Tree_has_0 : decode b_Tree_has 0 = .ok (.aload_n 0, 1) := by decide +kernel
theorem d_Tree_has_1 : decode b_Tree_has 1 = .ok (.invokevirtual 68, 3) := by decide +kernel
theorem d_Tree_has_4 : decode b_Tree_has 4 = .ok (.istore_n 1, 1) := by decide +kernel
theorem d_Tree_has_5 : decode b_Tree_has 5 = .ok (.aload_n 0, 1) := by decide +kernel
theorem d_Tree_has_6 : decode b_Tree_has 6 = .ok (.iload_n 1, 1) := by decide +kernel
theorem d_Tree_has_7 : decode b_Tree_has 7 = .ok (.invokevirtual 72, 3) := by decide +kernel
theorem d_Tree_has_10 : decode b_Tree_has 10 = .ok (.istore_n 2, 1) := by decide +kernel
theorem d_Tree_has_11 : decode b_Tree_has 11 = .ok (.iload_n 2, 1) := by decide +kernel
theorem d_Tree_has_12 : decode b_Tree_has 12 = .ok (.aload_n 0, 1) := by decide +kernel
theorem d_Tree_has_13 : decode b_Tree_has 13 = .ok (.getfield 18, 3) := by decide +kernel
theorem d_Tree_has_16 : decode b_Tree_has 16 = .ok (.iload_n 1, 1) := by decide +kernel
theorem d_Tree_has_17 : decode b_Tree_has 17 = .ok (.iaload, 1) := by decide +kernel
theorem d_Tree_has_18 : decode b_Tree_has 18 = .ok (.if_icmp .ge 16, 3) := by decide +kernel
theorem d_Tree_has_21 : decode b_Tree_has 21 = .ok (.aload_n 0, 1) := by decide +kernel
theorem d_Tree_has_22 : decode b_Tree_has 22 = .ok (.iload_n 1, 1) := by decide +kernel
theorem d_Tree_has_23 : decode b_Tree_has 23 = .ok (.iload_n 2, 1) := by decide +kernel
theorem d_Tree_has_24 : decode b_Tree_has 24 = .ok (.invokevirtual 58, 3) := by decide +kernel
theorem d_Tree_has_27 : decode b_Tree_has 27 = .ok (.ifCond .ne 7, 3) := by decide +kernel
theorem d_Tree_has_30 : decode b_Tree_has 30 = .ok (.iconst 1, 1) := by decide +kernel
theorem d_Tree_has_31 : decode b_Tree_has 31 = .ok (.goto 4, 3) := by decide +kernel
theorem d_Tree_has_34 : decode b_Tree_has 34 = .ok (.iconst 0, 1) := by decide +kernel
theorem d_Tree_has_35 : decode b_Tree_has 35 = .ok (.ireturn, 1) := by decide +kernel
theorem d_Tree_rank_0 : decode b_Tree_rank 0 = .ok (.aload_n 0, 1) := by decide +kernel
theorem d_Tree_rank_1 : decode b_Tree_rank 1 = .ok (.getfield 45, 3) := by decide +kernel
theorem d_Tree_rank_4 : decode b_Tree_rank 4 = .ok (.istore_n 1, 1) := by decide +kernel
theorem d_Tree_rank_5 : decode b_Tree_rank 5 = .ok (.iconst 0, 1) := by decide +kernel
theorem d_Tree_rank_6 : decode b_Tree_rank 6 = .ok (.istore_n 2, 1) := by decide +kernel
theorem d_Tree_rank_7 : decode b_Tree_rank 7 = .ok (.aload_n 0, 1) := by decide +kernel
theorem d_Tree_rank_8 : decode b_Tree_rank 8 = .ok (.getfield 21, 3) := by decide +kernel
theorem d_Tree_rank_11 : decode b_Tree_rank 11 = .ok (.iload_n 1, 1) := by decide +kernel
theorem d_Tree_rank_12 : decode b_Tree_rank 12 = .ok (.baload, 1) := by decide +kernel
theorem d_Tree_rank_13 : decode b_Tree_rank 13 = .ok (.ifCond .ne 49, 3) := by decide +kernel
theorem d_Tree_rank_16 : decode b_Tree_rank 16 = .ok (.aload_n 0, 1) := by decide +kernel
theorem d_Tree_rank_17 : decode b_Tree_rank 17 = .ok (.iload_n 1, 1) := by decide +kernel
theorem d_Tree_rank_18 : decode b_Tree_rank 18 = .ok (.invokevirtual 61, 3) := by decide +kernel
theorem d_Tree_rank_21 : decode b_Tree_rank 21 = .ok (.istore_n 3, 1) := by decide +kernel
theorem d_Tree_rank_22 : decode b_Tree_rank 22 = .ok (.iconst 0, 1) := by decide +kernel
theorem d_Tree_rank_23 : decode b_Tree_rank 23 = .ok (.istore 4, 2) := by decide +kernel
theorem d_Tree_rank_25 : decode b_Tree_rank 25 = .ok (.iload 4, 2) := by decide +kernel
theorem d_Tree_rank_27 : decode b_Tree_rank 27 = .ok (.iload_n 3, 1) := by decide +kernel
theorem d_Tree_rank_28 : decode b_Tree_rank 28 = .ok (.if_icmp .ge 24, 3) := by decide +kernel
theorem d_Tree_rank_31 : decode b_Tree_rank 31 = .ok (.iload_n 2, 1) := by decide +kernel
theorem d_Tree_rank_32 : decode b_Tree_rank 32 = .ok (.aload_n 0, 1) := by decide +kernel
theorem d_Tree_rank_33 : decode b_Tree_rank 33 = .ok (.getfield 28, 3) := by decide +kernel
theorem d_Tree_rank_36 : decode b_Tree_rank 36 = .ok (.aload_n 0, 1) := by decide +kernel
theorem d_Tree_rank_37 : decode b_Tree_rank 37 = .ok (.iload_n 1, 1) := by decide +kernel
theorem d_Tree_rank_38 : decode b_Tree_rank 38 = .ok (.iload 4, 2) := by decide +kernel
theorem d_Tree_rank_40 : decode b_Tree_rank 40 = .ok (.invokevirtual 65, 3) := by decide +kernel
theorem d_Tree_rank_43 : decode b_Tree_rank 43 = .ok (.iaload, 1) := by decide +kernel
theorem d_Tree_rank_44 : decode b_Tree_rank 44 = .ok (.iadd, 1) := by decide +kernel
theorem d_Tree_rank_45 : decode b_Tree_rank 45 = .ok (.istore_n 2, 1) := by decide +kernel
theorem d_Tree_rank_46 : decode b_Tree_rank 46 = .ok (.iinc 4 1, 3) := by decide +kernel
theorem d_Tree_rank_49 : decode b_Tree_rank 49 = .ok (.goto (-24), 3) := by decide +kernel
theorem d_Tree_rank_52 : decode b_Tree_rank 52 = .ok (.aload_n 0, 1) := by decide +kernel
theorem d_Tree_rank_53 : decode b_Tree_rank 53 = .ok (.iload_n 1, 1) := by decide +kernel
theorem d_Tree_rank_54 : decode b_Tree_rank 54 = .ok (.iload_n 3, 1) := by decide +kernel
theorem d_Tree_rank_55 : decode b_Tree_rank 55 = .ok (.invokevirtual 65, 3) := by decide +kernel
theorem d_Tree_rank_58 : decode b_Tree_rank 58 = .ok (.istore_n 1, 1) := by decide +kernel
theorem d_Tree_rank_59 : decode b_Tree_rank 59 = .ok (.goto (-52), 3) := by decide +kernel
theorem d_Tree_rank_62 : decode b_Tree_rank 62 = .ok (.iload_n 2, 1) := by decide +kernel
theorem d_Tree_rank_63 : decode b_Tree_rank 63 = .ok (.aload_n 0, 1) := by decide +kernel
theorem d_Tree_rank_64 : decode b_Tree_rank 64 = .ok (.iload_n 1, 1) := by decide +kernel
theorem d_Tree_rank_65 : decode b_Tree_rank 65 = .ok (.invokevirtual 72, 3) := by decide +kernel
theorem d_Tree_rank_68 : decode b_Tree_rank 68 = .ok (.iadd, 1) := by decide +kernel
theorem d_Tree_rank_69 : decode b_Tree_rank 69 = .ok (.ireturn, 1) := by decide +kernel
theorem d_Tree_find_0 : decode b_Tree_find 0 = .ok (.aload_n 0, 1) := by decide +kernel
theorem d_Tree_find_1 : decode b_Tree_find 1 = .ok (.getfield 45, 3) := by decide +kernel
theorem d_Tree_find_4 : decode b_Tree_find 4 = .ok (.istore_n 2, 1) := by decide +kernel
theorem d_Tree_find_5 : decode b_Tree_find 5 = .ok (.iload_n 1, 1) := by decide +kernel
theorem d_Tree_find_6 : decode b_Tree_find 6 = .ok (.istore_n 3, 1) := by decide +kernel
theorem d_Tree_find_7 : decode b_Tree_find 7 = .ok (.aload_n 0, 1) := by decide +kernel
theorem d_Tree_find_8 : decode b_Tree_find 8 = .ok (.getfield 21, 3) := by decide +kernel
theorem d_Tree_find_11 : decode b_Tree_find 11 = .ok (.iload_n 2, 1) := by decide +kernel
theorem d_Tree_find_12 : decode b_Tree_find 12 = .ok (.baload, 1) := by decide +kernel
theorem d_Tree_find_13 : decode b_Tree_find 13 = .ok (.ifCond .ne 54, 3) := by decide +kernel
theorem d_Tree_find_16 : decode b_Tree_find 16 = .ok (.iconst 0, 1) := by decide +kernel
theorem d_Tree_find_17 : decode b_Tree_find 17 = .ok (.istore 4, 2) := by decide +kernel
theorem d_Tree_find_19 : decode b_Tree_find 19 = .ok (.iload_n 3, 1) := by decide +kernel
theorem d_Tree_find_20 : decode b_Tree_find 20 = .ok (.aload_n 0, 1) := by decide +kernel
theorem d_Tree_find_21 : decode b_Tree_find 21 = .ok (.getfield 28, 3) := by decide +kernel
theorem d_Tree_find_24 : decode b_Tree_find 24 = .ok (.aload_n 0, 1) := by decide +kernel
theorem d_Tree_find_25 : decode b_Tree_find 25 = .ok (.iload_n 2, 1) := by decide +kernel
theorem d_Tree_find_26 : decode b_Tree_find 26 = .ok (.iload 4, 2) := by decide +kernel
theorem d_Tree_find_28 : decode b_Tree_find 28 = .ok (.invokevirtual 65, 3) := by decide +kernel
theorem d_Tree_find_31 : decode b_Tree_find 31 = .ok (.iaload, 1) := by decide +kernel
theorem d_Tree_find_32 : decode b_Tree_find 32 = .ok (.if_icmp .lt 24, 3) := by decide +kernel
theorem d_Tree_find_35 : decode b_Tree_find 35 = .ok (.iload_n 3, 1) := by decide +kernel
theorem d_Tree_find_36 : decode b_Tree_find 36 = .ok (.aload_n 0, 1) := by decide +kernel
theorem d_Tree_find_37 : decode b_Tree_find 37 = .ok (.getfield 28, 3) := by decide +kernel
theorem d_Tree_find_40 : decode b_Tree_find 40 = .ok (.aload_n 0, 1) := by decide +kernel
theorem d_Tree_find_41 : decode b_Tree_find 41 = .ok (.iload_n 2, 1) := by decide +kernel
theorem d_Tree_find_42 : decode b_Tree_find 42 = .ok (.iload 4, 2) := by decide +kernel
theorem d_Tree_find_44 : decode b_Tree_find 44 = .ok (.invokevirtual 65, 3) := by decide +kernel
theorem d_Tree_find_47 : decode b_Tree_find 47 = .ok (.iaload, 1) := by decide +kernel
theorem d_Tree_find_48 : decode b_Tree_find 48 = .ok (.isub, 1) := by decide +kernel
theorem d_Tree_find_49 : decode b_Tree_find 49 = .ok (.istore_n 3, 1) := by decide +kernel
theorem d_Tree_find_50 : decode b_Tree_find 50 = .ok (.iinc 4 1, 3) := by decide +kernel
theorem d_Tree_find_53 : decode b_Tree_find 53 = .ok (.goto (-34), 3) := by decide +kernel
theorem d_Tree_find_56 : decode b_Tree_find 56 = .ok (.aload_n 0, 1) := by decide +kernel
theorem d_Tree_find_57 : decode b_Tree_find 57 = .ok (.iload_n 2, 1) := by decide +kernel
theorem d_Tree_find_58 : decode b_Tree_find 58 = .ok (.iload 4, 2) := by decide +kernel
theorem d_Tree_find_60 : decode b_Tree_find 60 = .ok (.invokevirtual 65, 3) := by decide +kernel
theorem d_Tree_find_63 : decode b_Tree_find 63 = .ok (.istore_n 2, 1) := by decide +kernel
theorem d_Tree_find_64 : decode b_Tree_find 64 = .ok (.goto (-57), 3) := by decide +kernel
theorem d_Tree_find_67 : decode b_Tree_find 67 = .ok (.aload_n 0, 1) := by decide +kernel
theorem d_Tree_find_68 : decode b_Tree_find 68 = .ok (.iload_n 2, 1) := by decide +kernel
theorem d_Tree_find_69 : decode b_Tree_find 69 = .ok (.putfield 75, 3) := by decide +kernel
theorem d_Tree_find_72 : decode b_Tree_find 72 = .ok (.aload_n 0, 1) := by decide +kernel
theorem d_Tree_find_73 : decode b_Tree_find 73 = .ok (.iload_n 3, 1) := by decide +kernel
theorem d_Tree_find_74 : decode b_Tree_find 74 = .ok (.putfield 78, 3) := by decide +kernel
theorem d_Tree_find_77 : decode b_Tree_find 77 = .ok (.return_, 1) := by decide +kernel
theorem d_Tree_open_0 : decode b_Tree_open 0 = .ok (.aload_n 0, 1) := by decide +kernel
theorem d_Tree_open_1 : decode b_Tree_open 1 = .ok (.getfield 18, 3) := by decide +kernel
theorem d_Tree_open_4 : decode b_Tree_open 4 = .ok (.iload_n 1, 1) := by decide +kernel
theorem d_Tree_open_5 : decode b_Tree_open 5 = .ok (.iaload, 1) := by decide +kernel
theorem d_Tree_open_6 : decode b_Tree_open 6 = .ok (.istore_n 3, 1) := by decide +kernel
theorem d_Tree_open_7 : decode b_Tree_open 7 = .ok (.iload_n 3, 1) := by decide +kernel
theorem d_Tree_open_8 : decode b_Tree_open 8 = .ok (.iload_n 2, 1) := by decide +kernel
theorem d_Tree_open_9 : decode b_Tree_open 9 = .ok (.if_icmp .le 43, 3) := by decide +kernel
theorem d_Tree_open_12 : decode b_Tree_open 12 = .ok (.aload_n 0, 1) := by decide +kernel
theorem d_Tree_open_13 : decode b_Tree_open 13 = .ok (.iload_n 1, 1) := by decide +kernel
theorem d_Tree_open_14 : decode b_Tree_open 14 = .ok (.iload_n 3, 1) := by decide +kernel
theorem d_Tree_open_15 : decode b_Tree_open 15 = .ok (.iconst 1, 1) := by decide +kernel
theorem d_Tree_open_16 : decode b_Tree_open 16 = .ok (.isub, 1) := by decide +kernel
theorem d_Tree_open_17 : decode b_Tree_open 17 = .ok (.iload_n 1, 1) := by decide +kernel
theorem d_Tree_open_18 : decode b_Tree_open 18 = .ok (.iload_n 3, 1) := by decide +kernel
theorem d_Tree_open_19 : decode b_Tree_open 19 = .ok (.invokevirtual 81, 3) := by decide +kernel
theorem d_Tree_open_22 : decode b_Tree_open 22 = .ok (.aload_n 0, 1) := by decide +kernel
theorem d_Tree_open_23 : decode b_Tree_open 23 = .ok (.getfield 15, 3) := by decide +kernel
theorem d_Tree_open_26 : decode b_Tree_open 26 = .ok (.bipush 11, 2) := by decide +kernel
theorem d_Tree_open_28 : decode b_Tree_open 28 = .ok (.iload_n 1, 1) := by decide +kernel
theorem d_Tree_open_29 : decode b_Tree_open 29 = .ok (.imul, 1) := by decide +kernel
theorem d_Tree_open_30 : decode b_Tree_open 30 = .ok (.iload_n 3, 1) := by decide +kernel
theorem d_Tree_open_31 : decode b_Tree_open 31 = .ok (.iadd, 1) := by decide +kernel
theorem d_Tree_open_32 : decode b_Tree_open 32 = .ok (.iconst 1, 1) := by decide +kernel
theorem d_Tree_open_33 : decode b_Tree_open 33 = .ok (.iadd, 1) := by decide +kernel
theorem d_Tree_open_34 : decode b_Tree_open 34 = .ok (.aload_n 0, 1) := by decide +kernel
theorem d_Tree_open_35 : decode b_Tree_open 35 = .ok (.getfield 15, 3) := by decide +kernel
theorem d_Tree_open_38 : decode b_Tree_open 38 = .ok (.bipush 11, 2) := by decide +kernel
theorem d_Tree_open_40 : decode b_Tree_open 40 = .ok (.iload_n 1, 1) := by decide +kernel
theorem d_Tree_open_41 : decode b_Tree_open 41 = .ok (.imul, 1) := by decide +kernel
theorem d_Tree_open_42 : decode b_Tree_open 42 = .ok (.iload_n 3, 1) := by decide +kernel
theorem d_Tree_open_43 : decode b_Tree_open 43 = .ok (.iadd, 1) := by decide +kernel
theorem d_Tree_open_44 : decode b_Tree_open 44 = .ok (.iaload, 1) := by decide +kernel
theorem d_Tree_open_45 : decode b_Tree_open 45 = .ok (.iastore, 1) := by decide +kernel
theorem d_Tree_open_46 : decode b_Tree_open 46 = .ok (.iinc 3 (-1), 3) := by decide +kernel
theorem d_Tree_open_49 : decode b_Tree_open 49 = .ok (.goto (-42), 3) := by decide +kernel
theorem d_Tree_open_52 : decode b_Tree_open 52 = .ok (.aload_n 0, 1) := by decide +kernel
theorem d_Tree_open_53 : decode b_Tree_open 53 = .ok (.getfield 18, 3) := by decide +kernel
theorem d_Tree_open_56 : decode b_Tree_open 56 = .ok (.iload_n 1, 1) := by decide +kernel
theorem d_Tree_open_57 : decode b_Tree_open 57 = .ok (.dup2, 1) := by decide +kernel
theorem d_Tree_open_58 : decode b_Tree_open 58 = .ok (.iaload, 1) := by decide +kernel
theorem d_Tree_open_59 : decode b_Tree_open 59 = .ok (.iconst 1, 1) := by decide +kernel
theorem d_Tree_open_60 : decode b_Tree_open 60 = .ok (.iadd, 1) := by decide +kernel
theorem d_Tree_open_61 : decode b_Tree_open 61 = .ok (.iastore, 1) := by decide +kernel
theorem d_Tree_open_62 : decode b_Tree_open 62 = .ok (.return_, 1) := by decide +kernel
theorem d_Tree_put_0 : decode b_Tree_put 0 = .ok (.aload_n 3, 1) := by decide +kernel
theorem d_Tree_put_1 : decode b_Tree_put 1 = .ok (.iconst 0, 1) := by decide +kernel
theorem d_Tree_put_2 : decode b_Tree_put 2 = .ok (.aload_n 0, 1) := by decide +kernel
theorem d_Tree_put_3 : decode b_Tree_put 3 = .ok (.getfield 9, 3) := by decide +kernel
theorem d_Tree_put_6 : decode b_Tree_put 6 = .ok (.aload_n 0, 1) := by decide +kernel
theorem d_Tree_put_7 : decode b_Tree_put 7 = .ok (.iload_n 1, 1) := by decide +kernel
theorem d_Tree_put_8 : decode b_Tree_put 8 = .ok (.iload_n 2, 1) := by decide +kernel
theorem d_Tree_put_9 : decode b_Tree_put 9 = .ok (.invokevirtual 48, 3) := by decide +kernel
theorem d_Tree_put_12 : decode b_Tree_put 12 = .ok (.iconst 3, 1) := by decide +kernel
theorem d_Tree_put_13 : decode b_Tree_put 13 = .ok (.invokestatic 52, 3) := by decide +kernel
theorem d_Tree_put_16 : decode b_Tree_put 16 = .ok (.return_, 1) := by decide +kernel
theorem d_Tree_add_0 : decode b_Tree_add 0 = .ok (.aload_n 0, 1) := by decide +kernel
theorem d_Tree_add_1 : decode b_Tree_add 1 = .ok (.aload_n 0, 1) := by decide +kernel
theorem d_Tree_add_2 : decode b_Tree_add 2 = .ok (.getfield 45, 3) := by decide +kernel
theorem d_Tree_add_5 : decode b_Tree_add 5 = .ok (.invokevirtual 85, 3) := by decide +kernel
theorem d_Tree_add_8 : decode b_Tree_add 8 = .ok (.istore_n 1, 1) := by decide +kernel
theorem d_Tree_add_9 : decode b_Tree_add 9 = .ok (.iload_n 1, 1) := by decide +kernel
theorem d_Tree_add_10 : decode b_Tree_add 10 = .ok (.iconst (-1), 1) := by decide +kernel
theorem d_Tree_add_11 : decode b_Tree_add 11 = .ok (.if_icmp .eq 78, 3) := by decide +kernel
theorem d_Tree_add_14 : decode b_Tree_add 14 = .ok (.aload_n 0, 1) := by decide +kernel
theorem d_Tree_add_15 : decode b_Tree_add 15 = .ok (.iconst 0, 1) := by decide +kernel
theorem d_Tree_add_16 : decode b_Tree_add 16 = .ok (.invokevirtual 41, 3) := by decide +kernel
theorem d_Tree_add_19 : decode b_Tree_add 19 = .ok (.istore_n 2, 1) := by decide +kernel
theorem d_Tree_add_20 : decode b_Tree_add 20 = .ok (.aload_n 0, 1) := by decide +kernel
theorem d_Tree_add_21 : decode b_Tree_add 21 = .ok (.getfield 15, 3) := by decide +kernel
theorem d_Tree_add_24 : decode b_Tree_add 24 = .ok (.bipush 11, 2) := by decide +kernel
theorem d_Tree_add_26 : decode b_Tree_add 26 = .ok (.iload_n 2, 1) := by decide +kernel
theorem d_Tree_add_27 : decode b_Tree_add 27 = .ok (.imul, 1) := by decide +kernel
theorem d_Tree_add_28 : decode b_Tree_add 28 = .ok (.aload_n 0, 1) := by decide +kernel
theorem d_Tree_add_29 : decode b_Tree_add 29 = .ok (.getfield 45, 3) := by decide +kernel
theorem d_Tree_add_32 : decode b_Tree_add 32 = .ok (.iastore, 1) := by decide +kernel
theorem d_Tree_add_33 : decode b_Tree_add 33 = .ok (.aload_n 0, 1) := by decide +kernel
theorem d_Tree_add_34 : decode b_Tree_add 34 = .ok (.getfield 15, 3) := by decide +kernel
theorem d_Tree_add_37 : decode b_Tree_add 37 = .ok (.bipush 11, 2) := by decide +kernel
theorem d_Tree_add_39 : decode b_Tree_add 39 = .ok (.iload_n 2, 1) := by decide +kernel
theorem d_Tree_add_40 : decode b_Tree_add 40 = .ok (.imul, 1) := by decide +kernel
theorem d_Tree_add_41 : decode b_Tree_add 41 = .ok (.iconst 1, 1) := by decide +kernel
theorem d_Tree_add_42 : decode b_Tree_add 42 = .ok (.iadd, 1) := by decide +kernel
theorem d_Tree_add_43 : decode b_Tree_add 43 = .ok (.iload_n 1, 1) := by decide +kernel
theorem d_Tree_add_44 : decode b_Tree_add 44 = .ok (.iastore, 1) := by decide +kernel
theorem d_Tree_add_45 : decode b_Tree_add 45 = .ok (.aload_n 0, 1) := by decide +kernel
theorem d_Tree_add_46 : decode b_Tree_add 46 = .ok (.getfield 18, 3) := by decide +kernel
theorem d_Tree_add_49 : decode b_Tree_add 49 = .ok (.iload_n 2, 1) := by decide +kernel
theorem d_Tree_add_50 : decode b_Tree_add 50 = .ok (.iconst 1, 1) := by decide +kernel
theorem d_Tree_add_51 : decode b_Tree_add 51 = .ok (.iastore, 1) := by decide +kernel
theorem d_Tree_add_52 : decode b_Tree_add 52 = .ok (.aload_n 0, 1) := by decide +kernel
theorem d_Tree_add_53 : decode b_Tree_add 53 = .ok (.iload_n 2, 1) := by decide +kernel
theorem d_Tree_add_54 : decode b_Tree_add 54 = .ok (.iconst 0, 1) := by decide +kernel
theorem d_Tree_add_55 : decode b_Tree_add 55 = .ok (.aload_n 0, 1) := by decide +kernel
theorem d_Tree_add_56 : decode b_Tree_add 56 = .ok (.getfield 34, 3) := by decide +kernel
theorem d_Tree_add_59 : decode b_Tree_add 59 = .ok (.invokevirtual 88, 3) := by decide +kernel
theorem d_Tree_add_62 : decode b_Tree_add 62 = .ok (.aload_n 0, 1) := by decide +kernel
theorem d_Tree_add_63 : decode b_Tree_add 63 = .ok (.getfield 28, 3) := by decide +kernel
theorem d_Tree_add_66 : decode b_Tree_add 66 = .ok (.iload_n 2, 1) := by decide +kernel
theorem d_Tree_add_67 : decode b_Tree_add 67 = .ok (.aload_n 0, 1) := by decide +kernel
theorem d_Tree_add_68 : decode b_Tree_add 68 = .ok (.getfield 28, 3) := by decide +kernel
theorem d_Tree_add_71 : decode b_Tree_add 71 = .ok (.aload_n 0, 1) := by decide +kernel
theorem d_Tree_add_72 : decode b_Tree_add 72 = .ok (.getfield 45, 3) := by decide +kernel
theorem d_Tree_add_75 : decode b_Tree_add 75 = .ok (.iaload, 1) := by decide +kernel
theorem d_Tree_add_76 : decode b_Tree_add 76 = .ok (.aload_n 0, 1) := by decide +kernel
theorem d_Tree_add_77 : decode b_Tree_add 77 = .ok (.getfield 28, 3) := by decide +kernel
theorem d_Tree_add_80 : decode b_Tree_add 80 = .ok (.iload_n 1, 1) := by decide +kernel
theorem d_Tree_add_81 : decode b_Tree_add 81 = .ok (.iaload, 1) := by decide +kernel
theorem d_Tree_add_82 : decode b_Tree_add 82 = .ok (.iadd, 1) := by decide +kernel
theorem d_Tree_add_83 : decode b_Tree_add 83 = .ok (.iastore, 1) := by decide +kernel
theorem d_Tree_add_84 : decode b_Tree_add 84 = .ok (.aload_n 0, 1) := by decide +kernel
theorem d_Tree_add_85 : decode b_Tree_add 85 = .ok (.iload_n 2, 1) := by decide +kernel
theorem d_Tree_add_86 : decode b_Tree_add 86 = .ok (.putfield 45, 3) := by decide +kernel
theorem d_Tree_add_89 : decode b_Tree_add 89 = .ok (.return_, 1) := by decide +kernel
theorem d_Tree_addTo_0 : decode b_Tree_addTo 0 = .ok (.aload_n 0, 1) := by decide +kernel
theorem d_Tree_addTo_1 : decode b_Tree_addTo 1 = .ok (.getfield 28, 3) := by decide +kernel
theorem d_Tree_addTo_4 : decode b_Tree_addTo 4 = .ok (.iload_n 1, 1) := by decide +kernel
theorem d_Tree_addTo_5 : decode b_Tree_addTo 5 = .ok (.dup2, 1) := by decide +kernel
theorem d_Tree_addTo_6 : decode b_Tree_addTo 6 = .ok (.iaload, 1) := by decide +kernel
theorem d_Tree_addTo_7 : decode b_Tree_addTo 7 = .ok (.iconst 1, 1) := by decide +kernel
theorem d_Tree_addTo_8 : decode b_Tree_addTo 8 = .ok (.iadd, 1) := by decide +kernel
theorem d_Tree_addTo_9 : decode b_Tree_addTo 9 = .ok (.iastore, 1) := by decide +kernel
theorem d_Tree_addTo_10 : decode b_Tree_addTo 10 = .ok (.aload_n 0, 1) := by decide +kernel
theorem d_Tree_addTo_11 : decode b_Tree_addTo 11 = .ok (.getfield 21, 3) := by decide +kernel
theorem d_Tree_addTo_14 : decode b_Tree_addTo 14 = .ok (.iload_n 1, 1) := by decide +kernel
theorem d_Tree_addTo_15 : decode b_Tree_addTo 15 = .ok (.baload, 1) := by decide +kernel
theorem d_Tree_addTo_16 : decode b_Tree_addTo 16 = .ok (.ifCond .eq 46, 3) := by decide +kernel
theorem d_Tree_addTo_19 : decode b_Tree_addTo 19 = .ok (.aload_n 0, 1) := by decide +kernel
theorem d_Tree_addTo_20 : decode b_Tree_addTo 20 = .ok (.iload_n 1, 1) := by decide +kernel
theorem d_Tree_addTo_21 : decode b_Tree_addTo 21 = .ok (.invokevirtual 72, 3) := by decide +kernel
theorem d_Tree_addTo_24 : decode b_Tree_addTo 24 = .ok (.istore_n 2, 1) := by decide +kernel
theorem d_Tree_addTo_25 : decode b_Tree_addTo 25 = .ok (.aload_n 0, 1) := by decide +kernel
theorem d_Tree_addTo_26 : decode b_Tree_addTo 26 = .ok (.iload_n 1, 1) := by decide +kernel
theorem d_Tree_addTo_27 : decode b_Tree_addTo 27 = .ok (.iload_n 2, 1) := by decide +kernel
theorem d_Tree_addTo_28 : decode b_Tree_addTo 28 = .ok (.invokevirtual 92, 3) := by decide +kernel
theorem d_Tree_addTo_31 : decode b_Tree_addTo 31 = .ok (.aload_n 0, 1) := by decide +kernel
theorem d_Tree_addTo_32 : decode b_Tree_addTo 32 = .ok (.iload_n 1, 1) := by decide +kernel
theorem d_Tree_addTo_33 : decode b_Tree_addTo 33 = .ok (.iload_n 2, 1) := by decide +kernel
theorem d_Tree_addTo_34 : decode b_Tree_addTo 34 = .ok (.aload_n 0, 1) := by decide +kernel
theorem d_Tree_addTo_35 : decode b_Tree_addTo 35 = .ok (.getfield 31, 3) := by decide +kernel
theorem d_Tree_addTo_38 : decode b_Tree_addTo 38 = .ok (.invokevirtual 88, 3) := by decide +kernel
theorem d_Tree_addTo_41 : decode b_Tree_addTo 41 = .ok (.aload_n 0, 1) := by decide +kernel
theorem d_Tree_addTo_42 : decode b_Tree_addTo 42 = .ok (.getfield 18, 3) := by decide +kernel
theorem d_Tree_addTo_45 : decode b_Tree_addTo 45 = .ok (.iload_n 1, 1) := by decide +kernel
theorem d_Tree_addTo_46 : decode b_Tree_addTo 46 = .ok (.iaload, 1) := by decide +kernel
theorem d_Tree_addTo_47 : decode b_Tree_addTo 47 = .ok (.bipush 8, 2) := by decide +kernel
theorem d_Tree_addTo_49 : decode b_Tree_addTo 49 = .ok (.if_icmp .ne 11, 3) := by decide +kernel
theorem d_Tree_addTo_52 : decode b_Tree_addTo 52 = .ok (.aload_n 0, 1) := by decide +kernel
theorem d_Tree_addTo_53 : decode b_Tree_addTo 53 = .ok (.iload_n 1, 1) := by decide +kernel
theorem d_Tree_addTo_54 : decode b_Tree_addTo 54 = .ok (.invokevirtual 96, 3) := by decide +kernel
theorem d_Tree_addTo_57 : decode b_Tree_addTo 57 = .ok (.goto 4, 3) := by decide +kernel
theorem d_Tree_addTo_60 : decode b_Tree_addTo 60 = .ok (.iconst (-1), 1) := by decide +kernel
theorem d_Tree_addTo_61 : decode b_Tree_addTo 61 = .ok (.ireturn, 1) := by decide +kernel
theorem d_Tree_addTo_62 : decode b_Tree_addTo 62 = .ok (.aload_n 0, 1) := by decide +kernel
theorem d_Tree_addTo_63 : decode b_Tree_addTo 63 = .ok (.iload_n 1, 1) := by decide +kernel
theorem d_Tree_addTo_64 : decode b_Tree_addTo 64 = .ok (.invokevirtual 61, 3) := by decide +kernel
theorem d_Tree_addTo_67 : decode b_Tree_addTo 67 = .ok (.istore_n 2, 1) := by decide +kernel
theorem d_Tree_addTo_68 : decode b_Tree_addTo 68 = .ok (.aload_n 0, 1) := by decide +kernel
theorem d_Tree_addTo_69 : decode b_Tree_addTo 69 = .ok (.aload_n 0, 1) := by decide +kernel
theorem d_Tree_addTo_70 : decode b_Tree_addTo 70 = .ok (.iload_n 1, 1) := by decide +kernel
theorem d_Tree_addTo_71 : decode b_Tree_addTo 71 = .ok (.iload_n 2, 1) := by decide +kernel
theorem d_Tree_addTo_72 : decode b_Tree_addTo 72 = .ok (.invokevirtual 65, 3) := by decide +kernel
theorem d_Tree_addTo_75 : decode b_Tree_addTo 75 = .ok (.invokevirtual 85, 3) := by decide +kernel
theorem d_Tree_addTo_78 : decode b_Tree_addTo 78 = .ok (.istore_n 3, 1) := by decide +kernel
theorem d_Tree_addTo_79 : decode b_Tree_addTo 79 = .ok (.iload_n 3, 1) := by decide +kernel
theorem d_Tree_addTo_80 : decode b_Tree_addTo 80 = .ok (.iconst (-1), 1) := by decide +kernel
theorem d_Tree_addTo_81 : decode b_Tree_addTo 81 = .ok (.if_icmp .ne 5, 3) := by decide +kernel
theorem d_Tree_addTo_84 : decode b_Tree_addTo 84 = .ok (.iconst (-1), 1) := by decide +kernel
theorem d_Tree_addTo_85 : decode b_Tree_addTo 85 = .ok (.ireturn, 1) := by decide +kernel
theorem d_Tree_addTo_86 : decode b_Tree_addTo 86 = .ok (.aload_n 0, 1) := by decide +kernel
theorem d_Tree_addTo_87 : decode b_Tree_addTo 87 = .ok (.iload_n 1, 1) := by decide +kernel
theorem d_Tree_addTo_88 : decode b_Tree_addTo 88 = .ok (.iload_n 2, 1) := by decide +kernel
theorem d_Tree_addTo_89 : decode b_Tree_addTo 89 = .ok (.invokevirtual 92, 3) := by decide +kernel
theorem d_Tree_addTo_92 : decode b_Tree_addTo 92 = .ok (.aload_n 0, 1) := by decide +kernel
theorem d_Tree_addTo_93 : decode b_Tree_addTo 93 = .ok (.iload_n 1, 1) := by decide +kernel
theorem d_Tree_addTo_94 : decode b_Tree_addTo 94 = .ok (.iload_n 2, 1) := by decide +kernel
theorem d_Tree_addTo_95 : decode b_Tree_addTo 95 = .ok (.aload_n 0, 1) := by decide +kernel
theorem d_Tree_addTo_96 : decode b_Tree_addTo 96 = .ok (.getfield 34, 3) := by decide +kernel
theorem d_Tree_addTo_99 : decode b_Tree_addTo 99 = .ok (.invokevirtual 88, 3) := by decide +kernel
theorem d_Tree_addTo_102 : decode b_Tree_addTo 102 = .ok (.aload_n 0, 1) := by decide +kernel
theorem d_Tree_addTo_103 : decode b_Tree_addTo 103 = .ok (.getfield 15, 3) := by decide +kernel
theorem d_Tree_addTo_106 : decode b_Tree_addTo 106 = .ok (.bipush 11, 2) := by decide +kernel
theorem d_Tree_addTo_108 : decode b_Tree_addTo 108 = .ok (.iload_n 1, 1) := by decide +kernel
theorem d_Tree_addTo_109 : decode b_Tree_addTo 109 = .ok (.imul, 1) := by decide +kernel
theorem d_Tree_addTo_110 : decode b_Tree_addTo 110 = .ok (.iload_n 2, 1) := by decide +kernel
theorem d_Tree_addTo_111 : decode b_Tree_addTo 111 = .ok (.iadd, 1) := by decide +kernel
theorem d_Tree_addTo_112 : decode b_Tree_addTo 112 = .ok (.iconst 1, 1) := by decide +kernel
theorem d_Tree_addTo_113 : decode b_Tree_addTo 113 = .ok (.iadd, 1) := by decide +kernel
theorem d_Tree_addTo_114 : decode b_Tree_addTo 114 = .ok (.iload_n 3, 1) := by decide +kernel
theorem d_Tree_addTo_115 : decode b_Tree_addTo 115 = .ok (.iastore, 1) := by decide +kernel
theorem d_Tree_addTo_116 : decode b_Tree_addTo 116 = .ok (.aload_n 0, 1) := by decide +kernel
theorem d_Tree_addTo_117 : decode b_Tree_addTo 117 = .ok (.getfield 18, 3) := by decide +kernel
theorem d_Tree_addTo_120 : decode b_Tree_addTo 120 = .ok (.iload_n 1, 1) := by decide +kernel
theorem d_Tree_addTo_121 : decode b_Tree_addTo 121 = .ok (.iaload, 1) := by decide +kernel
theorem d_Tree_addTo_122 : decode b_Tree_addTo 122 = .ok (.bipush 8, 2) := by decide +kernel
theorem d_Tree_addTo_124 : decode b_Tree_addTo 124 = .ok (.if_icmp .ne 11, 3) := by decide +kernel
theorem d_Tree_addTo_127 : decode b_Tree_addTo 127 = .ok (.aload_n 0, 1) := by decide +kernel
theorem d_Tree_addTo_128 : decode b_Tree_addTo 128 = .ok (.iload_n 1, 1) := by decide +kernel
theorem d_Tree_addTo_129 : decode b_Tree_addTo 129 = .ok (.invokevirtual 99, 3) := by decide +kernel
theorem d_Tree_addTo_132 : decode b_Tree_addTo 132 = .ok (.goto 4, 3) := by decide +kernel
theorem d_Tree_addTo_135 : decode b_Tree_addTo 135 = .ok (.iconst (-1), 1) := by decide +kernel
theorem d_Tree_addTo_136 : decode b_Tree_addTo 136 = .ok (.ireturn, 1) := by decide +kernel
theorem d_Tree_partLeaf_0 : decode b_Tree_partLeaf 0 = .ok (.aload_n 0, 1) := by decide +kernel
theorem d_Tree_partLeaf_1 : decode b_Tree_partLeaf 1 = .ok (.iconst 1, 1) := by decide +kernel
theorem d_Tree_partLeaf_2 : decode b_Tree_partLeaf 2 = .ok (.invokevirtual 41, 3) := by decide +kernel
theorem d_Tree_partLeaf_5 : decode b_Tree_partLeaf 5 = .ok (.istore_n 2, 1) := by decide +kernel
theorem d_Tree_partLeaf_6 : decode b_Tree_partLeaf 6 = .ok (.iconst 4, 1) := by decide +kernel
theorem d_Tree_partLeaf_7 : decode b_Tree_partLeaf 7 = .ok (.istore_n 3, 1) := by decide +kernel
theorem d_Tree_partLeaf_8 : decode b_Tree_partLeaf 8 = .ok (.iload_n 3, 1) := by decide +kernel
theorem d_Tree_partLeaf_9 : decode b_Tree_partLeaf 9 = .ok (.istore 4, 2) := by decide +kernel
theorem d_Tree_partLeaf_11 : decode b_Tree_partLeaf 11 = .ok (.iload 4, 2) := by decide +kernel
theorem d_Tree_partLeaf_13 : decode b_Tree_partLeaf 13 = .ok (.bipush 8, 2) := by decide +kernel
theorem d_Tree_partLeaf_15 : decode b_Tree_partLeaf 15 = .ok (.if_icmp .ge 21, 3) := by decide +kernel
theorem d_Tree_partLeaf_18 : decode b_Tree_partLeaf 18 = .ok (.aload_n 0, 1) := by decide +kernel
theorem d_Tree_partLeaf_19 : decode b_Tree_partLeaf 19 = .ok (.iload_n 1, 1) := by decide +kernel
theorem d_Tree_partLeaf_20 : decode b_Tree_partLeaf 20 = .ok (.iload 4, 2) := by decide +kernel
theorem d_Tree_partLeaf_22 : decode b_Tree_partLeaf 22 = .ok (.iload_n 2, 1) := by decide +kernel
theorem d_Tree_partLeaf_23 : decode b_Tree_partLeaf 23 = .ok (.iload 4, 2) := by decide +kernel
theorem d_Tree_partLeaf_25 : decode b_Tree_partLeaf 25 = .ok (.iload_n 3, 1) := by decide +kernel
theorem d_Tree_partLeaf_26 : decode b_Tree_partLeaf 26 = .ok (.isub, 1) := by decide +kernel
theorem d_Tree_partLeaf_27 : decode b_Tree_partLeaf 27 = .ok (.invokevirtual 81, 3) := by decide +kernel
theorem d_Tree_partLeaf_30 : decode b_Tree_partLeaf 30 = .ok (.iinc 4 1, 3) := by decide +kernel
theorem d_Tree_partLeaf_33 : decode b_Tree_partLeaf 33 = .ok (.goto (-22), 3) := by decide +kernel
theorem d_Tree_partLeaf_36 : decode b_Tree_partLeaf 36 = .ok (.aload_n 0, 1) := by decide +kernel
theorem d_Tree_partLeaf_37 : decode b_Tree_partLeaf 37 = .ok (.getfield 18, 3) := by decide +kernel
theorem d_Tree_partLeaf_40 : decode b_Tree_partLeaf 40 = .ok (.iload_n 2, 1) := by decide +kernel
theorem d_Tree_partLeaf_41 : decode b_Tree_partLeaf 41 = .ok (.bipush 8, 2) := by decide +kernel
theorem d_Tree_partLeaf_43 : decode b_Tree_partLeaf 43 = .ok (.iload_n 3, 1) := by decide +kernel
theorem d_Tree_partLeaf_44 : decode b_Tree_partLeaf 44 = .ok (.isub, 1) := by decide +kernel
theorem d_Tree_partLeaf_45 : decode b_Tree_partLeaf 45 = .ok (.iastore, 1) := by decide +kernel
theorem d_Tree_partLeaf_46 : decode b_Tree_partLeaf 46 = .ok (.aload_n 0, 1) := by decide +kernel
theorem d_Tree_partLeaf_47 : decode b_Tree_partLeaf 47 = .ok (.getfield 18, 3) := by decide +kernel
theorem d_Tree_partLeaf_50 : decode b_Tree_partLeaf 50 = .ok (.iload_n 1, 1) := by decide +kernel
theorem d_Tree_partLeaf_51 : decode b_Tree_partLeaf 51 = .ok (.iload_n 3, 1) := by decide +kernel
theorem d_Tree_partLeaf_52 : decode b_Tree_partLeaf 52 = .ok (.iastore, 1) := by decide +kernel
theorem d_Tree_partLeaf_53 : decode b_Tree_partLeaf 53 = .ok (.aload_n 0, 1) := by decide +kernel
theorem d_Tree_partLeaf_54 : decode b_Tree_partLeaf 54 = .ok (.getfield 28, 3) := by decide +kernel
theorem d_Tree_partLeaf_57 : decode b_Tree_partLeaf 57 = .ok (.iload_n 2, 1) := by decide +kernel
theorem d_Tree_partLeaf_58 : decode b_Tree_partLeaf 58 = .ok (.aload_n 0, 1) := by decide +kernel
theorem d_Tree_partLeaf_59 : decode b_Tree_partLeaf 59 = .ok (.getfield 18, 3) := by decide +kernel
theorem d_Tree_partLeaf_62 : decode b_Tree_partLeaf 62 = .ok (.iload_n 2, 1) := by decide +kernel
theorem d_Tree_partLeaf_63 : decode b_Tree_partLeaf 63 = .ok (.iaload, 1) := by decide +kernel
theorem d_Tree_partLeaf_64 : decode b_Tree_partLeaf 64 = .ok (.iastore, 1) := by decide +kernel
theorem d_Tree_partLeaf_65 : decode b_Tree_partLeaf 65 = .ok (.aload_n 0, 1) := by decide +kernel
theorem d_Tree_partLeaf_66 : decode b_Tree_partLeaf 66 = .ok (.getfield 28, 3) := by decide +kernel
theorem d_Tree_partLeaf_69 : decode b_Tree_partLeaf 69 = .ok (.iload_n 1, 1) := by decide +kernel
theorem d_Tree_partLeaf_70 : decode b_Tree_partLeaf 70 = .ok (.iload_n 3, 1) := by decide +kernel
theorem d_Tree_partLeaf_71 : decode b_Tree_partLeaf 71 = .ok (.iastore, 1) := by decide +kernel
theorem d_Tree_partLeaf_72 : decode b_Tree_partLeaf 72 = .ok (.aload_n 0, 1) := by decide +kernel
theorem d_Tree_partLeaf_73 : decode b_Tree_partLeaf 73 = .ok (.getfield 25, 3) := by decide +kernel
theorem d_Tree_partLeaf_76 : decode b_Tree_partLeaf 76 = .ok (.iload_n 2, 1) := by decide +kernel
theorem d_Tree_partLeaf_77 : decode b_Tree_partLeaf 77 = .ok (.aload_n 0, 1) := by decide +kernel
theorem d_Tree_partLeaf_78 : decode b_Tree_partLeaf 78 = .ok (.getfield 25, 3) := by decide +kernel
theorem d_Tree_partLeaf_81 : decode b_Tree_partLeaf 81 = .ok (.iload_n 1, 1) := by decide +kernel
theorem d_Tree_partLeaf_82 : decode b_Tree_partLeaf 82 = .ok (.iaload, 1) := by decide +kernel
theorem d_Tree_partLeaf_83 : decode b_Tree_partLeaf 83 = .ok (.iastore, 1) := by decide +kernel
theorem d_Tree_partLeaf_84 : decode b_Tree_partLeaf 84 = .ok (.aload_n 0, 1) := by decide +kernel
theorem d_Tree_partLeaf_85 : decode b_Tree_partLeaf 85 = .ok (.getfield 25, 3) := by decide +kernel
theorem d_Tree_partLeaf_88 : decode b_Tree_partLeaf 88 = .ok (.iload_n 1, 1) := by decide +kernel
theorem d_Tree_partLeaf_89 : decode b_Tree_partLeaf 89 = .ok (.iload_n 2, 1) := by decide +kernel
theorem d_Tree_partLeaf_90 : decode b_Tree_partLeaf 90 = .ok (.iastore, 1) := by decide +kernel
theorem d_Tree_partLeaf_91 : decode b_Tree_partLeaf 91 = .ok (.aload_n 0, 1) := by decide +kernel
theorem d_Tree_partLeaf_92 : decode b_Tree_partLeaf 92 = .ok (.getfield 9, 3) := by decide +kernel
theorem d_Tree_partLeaf_95 : decode b_Tree_partLeaf 95 = .ok (.aload_n 0, 1) := by decide +kernel
theorem d_Tree_partLeaf_96 : decode b_Tree_partLeaf 96 = .ok (.iload_n 2, 1) := by decide +kernel
theorem d_Tree_partLeaf_97 : decode b_Tree_partLeaf 97 = .ok (.iconst 0, 1) := by decide +kernel
theorem d_Tree_partLeaf_98 : decode b_Tree_partLeaf 98 = .ok (.invokevirtual 48, 3) := by decide +kernel
theorem d_Tree_partLeaf_101 : decode b_Tree_partLeaf 101 = .ok (.aload_n 0, 1) := by decide +kernel
theorem d_Tree_partLeaf_102 : decode b_Tree_partLeaf 102 = .ok (.getfield 34, 3) := by decide +kernel
theorem d_Tree_partLeaf_105 : decode b_Tree_partLeaf 105 = .ok (.iconst 0, 1) := by decide +kernel
theorem d_Tree_partLeaf_106 : decode b_Tree_partLeaf 106 = .ok (.iconst 3, 1) := by decide +kernel
theorem d_Tree_partLeaf_107 : decode b_Tree_partLeaf 107 = .ok (.invokestatic 52, 3) := by decide +kernel
theorem d_Tree_partLeaf_110 : decode b_Tree_partLeaf 110 = .ok (.iload_n 2, 1) := by decide +kernel
theorem d_Tree_partLeaf_111 : decode b_Tree_partLeaf 111 = .ok (.ireturn, 1) := by decide +kernel
theorem d_Tree_partNode_0 : decode b_Tree_partNode 0 = .ok (.aload_n 0, 1) := by decide +kernel
theorem d_Tree_partNode_1 : decode b_Tree_partNode 1 = .ok (.iconst 0, 1) := by decide +kernel
theorem d_Tree_partNode_2 : decode b_Tree_partNode 2 = .ok (.invokevirtual 41, 3) := by decide +kernel
theorem d_Tree_partNode_5 : decode b_Tree_partNode 5 = .ok (.istore_n 2, 1) := by decide +kernel
theorem d_Tree_partNode_6 : decode b_Tree_partNode 6 = .ok (.iconst 4, 1) := by decide +kernel
theorem d_Tree_partNode_7 : decode b_Tree_partNode 7 = .ok (.istore_n 3, 1) := by decide +kernel
theorem d_Tree_partNode_8 : decode b_Tree_partNode 8 = .ok (.aload_n 0, 1) := by decide +kernel
theorem d_Tree_partNode_9 : decode b_Tree_partNode 9 = .ok (.getfield 9, 3) := by decide +kernel
theorem d_Tree_partNode_12 : decode b_Tree_partNode 12 = .ok (.aload_n 0, 1) := by decide +kernel
theorem d_Tree_partNode_13 : decode b_Tree_partNode 13 = .ok (.iload_n 1, 1) := by decide +kernel
theorem d_Tree_partNode_14 : decode b_Tree_partNode 14 = .ok (.iload_n 3, 1) := by decide +kernel
theorem d_Tree_partNode_15 : decode b_Tree_partNode 15 = .ok (.invokevirtual 48, 3) := by decide +kernel
theorem d_Tree_partNode_18 : decode b_Tree_partNode 18 = .ok (.aload_n 0, 1) := by decide +kernel
theorem d_Tree_partNode_19 : decode b_Tree_partNode 19 = .ok (.getfield 34, 3) := by decide +kernel
theorem d_Tree_partNode_22 : decode b_Tree_partNode 22 = .ok (.iconst 0, 1) := by decide +kernel
theorem d_Tree_partNode_23 : decode b_Tree_partNode 23 = .ok (.iconst 3, 1) := by decide +kernel
theorem d_Tree_partNode_24 : decode b_Tree_partNode 24 = .ok (.invokestatic 52, 3) := by decide +kernel
theorem d_Tree_partNode_27 : decode b_Tree_partNode 27 = .ok (.iload_n 3, 1) := by decide +kernel
theorem d_Tree_partNode_28 : decode b_Tree_partNode 28 = .ok (.iconst 1, 1) := by decide +kernel
theorem d_Tree_partNode_29 : decode b_Tree_partNode 29 = .ok (.iadd, 1) := by decide +kernel
theorem d_Tree_partNode_30 : decode b_Tree_partNode 30 = .ok (.istore 4, 2) := by decide +kernel
theorem d_Tree_partNode_32 : decode b_Tree_partNode 32 = .ok (.iload 4, 2) := by decide +kernel
theorem d_Tree_partNode_34 : decode b_Tree_partNode 34 = .ok (.bipush 8, 2) := by decide +kernel
theorem d_Tree_partNode_36 : decode b_Tree_partNode 36 = .ok (.if_icmp .ge 23, 3) := by decide +kernel
theorem d_Tree_partNode_39 : decode b_Tree_partNode 39 = .ok (.aload_n 0, 1) := by decide +kernel
theorem d_Tree_partNode_40 : decode b_Tree_partNode 40 = .ok (.iload_n 1, 1) := by decide +kernel
theorem d_Tree_partNode_41 : decode b_Tree_partNode 41 = .ok (.iload 4, 2) := by decide +kernel
theorem d_Tree_partNode_43 : decode b_Tree_partNode 43 = .ok (.iload_n 2, 1) := by decide +kernel
theorem d_Tree_partNode_44 : decode b_Tree_partNode 44 = .ok (.iload 4, 2) := by decide +kernel
theorem d_Tree_partNode_46 : decode b_Tree_partNode 46 = .ok (.iload_n 3, 1) := by decide +kernel
theorem d_Tree_partNode_47 : decode b_Tree_partNode 47 = .ok (.isub, 1) := by decide +kernel
theorem d_Tree_partNode_48 : decode b_Tree_partNode 48 = .ok (.iconst 1, 1) := by decide +kernel
theorem d_Tree_partNode_49 : decode b_Tree_partNode 49 = .ok (.isub, 1) := by decide +kernel
theorem d_Tree_partNode_50 : decode b_Tree_partNode 50 = .ok (.invokevirtual 81, 3) := by decide +kernel
theorem d_Tree_partNode_53 : decode b_Tree_partNode 53 = .ok (.iinc 4 1, 3) := by decide +kernel
theorem d_Tree_partNode_56 : decode b_Tree_partNode 56 = .ok (.goto (-24), 3) := by decide +kernel
theorem d_Tree_partNode_59 : decode b_Tree_partNode 59 = .ok (.iload_n 3, 1) := by decide +kernel
theorem d_Tree_partNode_60 : decode b_Tree_partNode 60 = .ok (.iconst 1, 1) := by decide +kernel
theorem d_Tree_partNode_61 : decode b_Tree_partNode 61 = .ok (.iadd, 1) := by decide +kernel
theorem d_Tree_partNode_62 : decode b_Tree_partNode 62 = .ok (.istore 4, 2) := by decide +kernel
theorem d_Tree_partNode_64 : decode b_Tree_partNode 64 = .ok (.iload 4, 2) := by decide +kernel
theorem d_Tree_partNode_66 : decode b_Tree_partNode 66 = .ok (.bipush 8, 2) := by decide +kernel
theorem d_Tree_partNode_68 : decode b_Tree_partNode 68 = .ok (.if_icmp .gt 37, 3) := by decide +kernel
theorem d_Tree_partNode_71 : decode b_Tree_partNode 71 = .ok (.aload_n 0, 1) := by decide +kernel
theorem d_Tree_partNode_72 : decode b_Tree_partNode 72 = .ok (.getfield 15, 3) := by decide +kernel
theorem d_Tree_partNode_75 : decode b_Tree_partNode 75 = .ok (.bipush 11, 2) := by decide +kernel
theorem d_Tree_partNode_77 : decode b_Tree_partNode 77 = .ok (.iload_n 2, 1) := by decide +kernel
theorem d_Tree_partNode_78 : decode b_Tree_partNode 78 = .ok (.imul, 1) := by decide +kernel
theorem d_Tree_partNode_79 : decode b_Tree_partNode 79 = .ok (.iload 4, 2) := by decide +kernel
theorem d_Tree_partNode_81 : decode b_Tree_partNode 81 = .ok (.iadd, 1) := by decide +kernel
theorem d_Tree_partNode_82 : decode b_Tree_partNode 82 = .ok (.iload_n 3, 1) := by decide +kernel
theorem d_Tree_partNode_83 : decode b_Tree_partNode 83 = .ok (.isub, 1) := by decide +kernel
theorem d_Tree_partNode_84 : decode b_Tree_partNode 84 = .ok (.iconst 1, 1) := by decide +kernel
theorem d_Tree_partNode_85 : decode b_Tree_partNode 85 = .ok (.isub, 1) := by decide +kernel
theorem d_Tree_partNode_86 : decode b_Tree_partNode 86 = .ok (.aload_n 0, 1) := by decide +kernel
theorem d_Tree_partNode_87 : decode b_Tree_partNode 87 = .ok (.getfield 15, 3) := by decide +kernel
theorem d_Tree_partNode_90 : decode b_Tree_partNode 90 = .ok (.bipush 11, 2) := by decide +kernel
theorem d_Tree_partNode_92 : decode b_Tree_partNode 92 = .ok (.iload_n 1, 1) := by decide +kernel
theorem d_Tree_partNode_93 : decode b_Tree_partNode 93 = .ok (.imul, 1) := by decide +kernel
theorem d_Tree_partNode_94 : decode b_Tree_partNode 94 = .ok (.iload 4, 2) := by decide +kernel
theorem d_Tree_partNode_96 : decode b_Tree_partNode 96 = .ok (.iadd, 1) := by decide +kernel
theorem d_Tree_partNode_97 : decode b_Tree_partNode 97 = .ok (.iaload, 1) := by decide +kernel
theorem d_Tree_partNode_98 : decode b_Tree_partNode 98 = .ok (.iastore, 1) := by decide +kernel
theorem d_Tree_partNode_99 : decode b_Tree_partNode 99 = .ok (.iinc 4 1, 3) := by decide +kernel
theorem d_Tree_partNode_102 : decode b_Tree_partNode 102 = .ok (.goto (-38), 3) := by decide +kernel
theorem d_Tree_partNode_105 : decode b_Tree_partNode 105 = .ok (.aload_n 0, 1) := by decide +kernel
theorem d_Tree_partNode_106 : decode b_Tree_partNode 106 = .ok (.getfield 18, 3) := by decide +kernel
theorem d_Tree_partNode_109 : decode b_Tree_partNode 109 = .ok (.iload_n 2, 1) := by decide +kernel
theorem d_Tree_partNode_110 : decode b_Tree_partNode 110 = .ok (.bipush 8, 2) := by decide +kernel
theorem d_Tree_partNode_112 : decode b_Tree_partNode 112 = .ok (.iload_n 3, 1) := by decide +kernel
theorem d_Tree_partNode_113 : decode b_Tree_partNode 113 = .ok (.isub, 1) := by decide +kernel
theorem d_Tree_partNode_114 : decode b_Tree_partNode 114 = .ok (.iconst 1, 1) := by decide +kernel
theorem d_Tree_partNode_115 : decode b_Tree_partNode 115 = .ok (.isub, 1) := by decide +kernel
theorem d_Tree_partNode_116 : decode b_Tree_partNode 116 = .ok (.iastore, 1) := by decide +kernel
theorem d_Tree_partNode_117 : decode b_Tree_partNode 117 = .ok (.aload_n 0, 1) := by decide +kernel
theorem d_Tree_partNode_118 : decode b_Tree_partNode 118 = .ok (.getfield 18, 3) := by decide +kernel
theorem d_Tree_partNode_121 : decode b_Tree_partNode 121 = .ok (.iload_n 1, 1) := by decide +kernel
theorem d_Tree_partNode_122 : decode b_Tree_partNode 122 = .ok (.iload_n 3, 1) := by decide +kernel
theorem d_Tree_partNode_123 : decode b_Tree_partNode 123 = .ok (.iastore, 1) := by decide +kernel
theorem d_Tree_partNode_124 : decode b_Tree_partNode 124 = .ok (.aload_n 0, 1) := by decide +kernel
theorem d_Tree_partNode_125 : decode b_Tree_partNode 125 = .ok (.getfield 28, 3) := by decide +kernel
theorem d_Tree_partNode_128 : decode b_Tree_partNode 128 = .ok (.iload_n 1, 1) := by decide +kernel
theorem d_Tree_partNode_129 : decode b_Tree_partNode 129 = .ok (.aload_n 0, 1) := by decide +kernel
theorem d_Tree_partNode_130 : decode b_Tree_partNode 130 = .ok (.iload_n 1, 1) := by decide +kernel
theorem d_Tree_partNode_131 : decode b_Tree_partNode 131 = .ok (.invokevirtual 102, 3) := by decide +kernel
theorem d_Tree_partNode_134 : decode b_Tree_partNode 134 = .ok (.iastore, 1) := by decide +kernel
theorem d_Tree_partNode_135 : decode b_Tree_partNode 135 = .ok (.aload_n 0, 1) := by decide +kernel
theorem d_Tree_partNode_136 : decode b_Tree_partNode 136 = .ok (.getfield 28, 3) := by decide +kernel
theorem d_Tree_partNode_139 : decode b_Tree_partNode 139 = .ok (.iload_n 2, 1) := by decide +kernel
theorem d_Tree_partNode_140 : decode b_Tree_partNode 140 = .ok (.aload_n 0, 1) := by decide +kernel
theorem d_Tree_partNode_141 : decode b_Tree_partNode 141 = .ok (.iload_n 2, 1) := by decide +kernel
theorem d_Tree_partNode_142 : decode b_Tree_partNode 142 = .ok (.invokevirtual 102, 3) := by decide +kernel
theorem d_Tree_partNode_145 : decode b_Tree_partNode 145 = .ok (.iastore, 1) := by decide +kernel
theorem d_Tree_partNode_146 : decode b_Tree_partNode 146 = .ok (.iload_n 2, 1) := by decide +kernel
theorem d_Tree_partNode_147 : decode b_Tree_partNode 147 = .ok (.ireturn, 1) := by decide +kernel
theorem d_Tree_sum_0 : decode b_Tree_sum 0 = .ok (.iconst 0, 1) := by decide +kernel
theorem d_Tree_sum_1 : decode b_Tree_sum 1 = .ok (.istore_n 2, 1) := by decide +kernel
theorem d_Tree_sum_2 : decode b_Tree_sum 2 = .ok (.iconst 0, 1) := by decide +kernel
theorem d_Tree_sum_3 : decode b_Tree_sum 3 = .ok (.istore_n 3, 1) := by decide +kernel
theorem d_Tree_sum_4 : decode b_Tree_sum 4 = .ok (.iload_n 3, 1) := by decide +kernel
theorem d_Tree_sum_5 : decode b_Tree_sum 5 = .ok (.aload_n 0, 1) := by decide +kernel
theorem d_Tree_sum_6 : decode b_Tree_sum 6 = .ok (.getfield 18, 3) := by decide +kernel
theorem d_Tree_sum_9 : decode b_Tree_sum 9 = .ok (.iload_n 1, 1) := by decide +kernel
theorem d_Tree_sum_10 : decode b_Tree_sum 10 = .ok (.iaload, 1) := by decide +kernel
theorem d_Tree_sum_11 : decode b_Tree_sum 11 = .ok (.if_icmp .gt 23, 3) := by decide +kernel
theorem d_Tree_sum_14 : decode b_Tree_sum 14 = .ok (.iload_n 2, 1) := by decide +kernel
theorem d_Tree_sum_15 : decode b_Tree_sum 15 = .ok (.aload_n 0, 1) := by decide +kernel
theorem d_Tree_sum_16 : decode b_Tree_sum 16 = .ok (.getfield 28, 3) := by decide +kernel
theorem d_Tree_sum_19 : decode b_Tree_sum 19 = .ok (.aload_n 0, 1) := by decide +kernel
theorem d_Tree_sum_20 : decode b_Tree_sum 20 = .ok (.iload_n 1, 1) := by decide +kernel
theorem d_Tree_sum_21 : decode b_Tree_sum 21 = .ok (.iload_n 3, 1) := by decide +kernel
theorem d_Tree_sum_22 : decode b_Tree_sum 22 = .ok (.invokevirtual 65, 3) := by decide +kernel
theorem d_Tree_sum_25 : decode b_Tree_sum 25 = .ok (.iaload, 1) := by decide +kernel
theorem d_Tree_sum_26 : decode b_Tree_sum 26 = .ok (.iadd, 1) := by decide +kernel
theorem d_Tree_sum_27 : decode b_Tree_sum 27 = .ok (.istore_n 2, 1) := by decide +kernel
theorem d_Tree_sum_28 : decode b_Tree_sum 28 = .ok (.iinc 3 1, 3) := by decide +kernel
theorem d_Tree_sum_31 : decode b_Tree_sum 31 = .ok (.goto (-27), 3) := by decide +kernel
theorem d_Tree_sum_34 : decode b_Tree_sum 34 = .ok (.iload_n 2, 1) := by decide +kernel
theorem d_Tree_sum_35 : decode b_Tree_sum 35 = .ok (.ireturn, 1) := by decide +kernel
theorem d_Tree_shut_0 : decode b_Tree_shut 0 = .ok (.aload_n 0, 1) := by decide +kernel
theorem d_Tree_shut_1 : decode b_Tree_shut 1 = .ok (.getfield 18, 3) := by decide +kernel
theorem d_Tree_shut_4 : decode b_Tree_shut 4 = .ok (.iload_n 1, 1) := by decide +kernel
theorem d_Tree_shut_5 : decode b_Tree_shut 5 = .ok (.dup2, 1) := by decide +kernel
theorem d_Tree_shut_6 : decode b_Tree_shut 6 = .ok (.iaload, 1) := by decide +kernel
theorem d_Tree_shut_7 : decode b_Tree_shut 7 = .ok (.iconst 1, 1) := by decide +kernel
theorem d_Tree_shut_8 : decode b_Tree_shut 8 = .ok (.isub, 1) := by decide +kernel
theorem d_Tree_shut_9 : decode b_Tree_shut 9 = .ok (.iastore, 1) := by decide +kernel
theorem d_Tree_shut_10 : decode b_Tree_shut 10 = .ok (.iload_n 2, 1) := by decide +kernel
theorem d_Tree_shut_11 : decode b_Tree_shut 11 = .ok (.istore_n 3, 1) := by decide +kernel
theorem d_Tree_shut_12 : decode b_Tree_shut 12 = .ok (.iload_n 3, 1) := by decide +kernel
theorem d_Tree_shut_13 : decode b_Tree_shut 13 = .ok (.aload_n 0, 1) := by decide +kernel
theorem d_Tree_shut_14 : decode b_Tree_shut 14 = .ok (.getfield 18, 3) := by decide +kernel
theorem d_Tree_shut_17 : decode b_Tree_shut 17 = .ok (.iload_n 1, 1) := by decide +kernel
theorem d_Tree_shut_18 : decode b_Tree_shut 18 = .ok (.iaload, 1) := by decide +kernel
theorem d_Tree_shut_19 : decode b_Tree_shut 19 = .ok (.if_icmp .ge 19, 3) := by decide +kernel
theorem d_Tree_shut_22 : decode b_Tree_shut 22 = .ok (.aload_n 0, 1) := by decide +kernel
theorem d_Tree_shut_23 : decode b_Tree_shut 23 = .ok (.iload_n 1, 1) := by decide +kernel
theorem d_Tree_shut_24 : decode b_Tree_shut 24 = .ok (.iload_n 3, 1) := by decide +kernel
theorem d_Tree_shut_25 : decode b_Tree_shut 25 = .ok (.iconst 1, 1) := by decide +kernel
theorem d_Tree_shut_26 : decode b_Tree_shut 26 = .ok (.iadd, 1) := by decide +kernel
theorem d_Tree_shut_27 : decode b_Tree_shut 27 = .ok (.iload_n 1, 1) := by decide +kernel
theorem d_Tree_shut_28 : decode b_Tree_shut 28 = .ok (.iload_n 3, 1) := by decide +kernel
theorem d_Tree_shut_29 : decode b_Tree_shut 29 = .ok (.invokevirtual 81, 3) := by decide +kernel
theorem d_Tree_shut_32 : decode b_Tree_shut 32 = .ok (.iinc 3 1, 3) := by decide +kernel
theorem d_Tree_shut_35 : decode b_Tree_shut 35 = .ok (.goto (-23), 3) := by decide +kernel
theorem d_Tree_shut_38 : decode b_Tree_shut 38 = .ok (.iload_n 2, 1) := by decide +kernel
theorem d_Tree_shut_39 : decode b_Tree_shut 39 = .ok (.iconst 1, 1) := by decide +kernel
theorem d_Tree_shut_40 : decode b_Tree_shut 40 = .ok (.iadd, 1) := by decide +kernel
theorem d_Tree_shut_41 : decode b_Tree_shut 41 = .ok (.istore_n 3, 1) := by decide +kernel
theorem d_Tree_shut_42 : decode b_Tree_shut 42 = .ok (.iload_n 3, 1) := by decide +kernel
theorem d_Tree_shut_43 : decode b_Tree_shut 43 = .ok (.aload_n 0, 1) := by decide +kernel
theorem d_Tree_shut_44 : decode b_Tree_shut 44 = .ok (.getfield 18, 3) := by decide +kernel
theorem d_Tree_shut_47 : decode b_Tree_shut 47 = .ok (.iload_n 1, 1) := by decide +kernel
theorem d_Tree_shut_48 : decode b_Tree_shut 48 = .ok (.iaload, 1) := by decide +kernel
theorem d_Tree_shut_49 : decode b_Tree_shut 49 = .ok (.if_icmp .gt 33, 3) := by decide +kernel
theorem d_Tree_shut_52 : decode b_Tree_shut 52 = .ok (.aload_n 0, 1) := by decide +kernel
theorem d_Tree_shut_53 : decode b_Tree_shut 53 = .ok (.getfield 15, 3) := by decide +kernel
theorem d_Tree_shut_56 : decode b_Tree_shut 56 = .ok (.bipush 11, 2) := by decide +kernel
theorem d_Tree_shut_58 : decode b_Tree_shut 58 = .ok (.iload_n 1, 1) := by decide +kernel
theorem d_Tree_shut_59 : decode b_Tree_shut 59 = .ok (.imul, 1) := by decide +kernel
theorem d_Tree_shut_60 : decode b_Tree_shut 60 = .ok (.iload_n 3, 1) := by decide +kernel
theorem d_Tree_shut_61 : decode b_Tree_shut 61 = .ok (.iadd, 1) := by decide +kernel
theorem d_Tree_shut_62 : decode b_Tree_shut 62 = .ok (.aload_n 0, 1) := by decide +kernel
theorem d_Tree_shut_63 : decode b_Tree_shut 63 = .ok (.getfield 15, 3) := by decide +kernel
theorem d_Tree_shut_66 : decode b_Tree_shut 66 = .ok (.bipush 11, 2) := by decide +kernel
theorem d_Tree_shut_68 : decode b_Tree_shut 68 = .ok (.iload_n 1, 1) := by decide +kernel
theorem d_Tree_shut_69 : decode b_Tree_shut 69 = .ok (.imul, 1) := by decide +kernel
theorem d_Tree_shut_70 : decode b_Tree_shut 70 = .ok (.iload_n 3, 1) := by decide +kernel
theorem d_Tree_shut_71 : decode b_Tree_shut 71 = .ok (.iadd, 1) := by decide +kernel
theorem d_Tree_shut_72 : decode b_Tree_shut 72 = .ok (.iconst 1, 1) := by decide +kernel
theorem d_Tree_shut_73 : decode b_Tree_shut 73 = .ok (.iadd, 1) := by decide +kernel
theorem d_Tree_shut_74 : decode b_Tree_shut 74 = .ok (.iaload, 1) := by decide +kernel
theorem d_Tree_shut_75 : decode b_Tree_shut 75 = .ok (.iastore, 1) := by decide +kernel
theorem d_Tree_shut_76 : decode b_Tree_shut 76 = .ok (.iinc 3 1, 3) := by decide +kernel
theorem d_Tree_shut_79 : decode b_Tree_shut 79 = .ok (.goto (-37), 3) := by decide +kernel
theorem d_Tree_shut_82 : decode b_Tree_shut 82 = .ok (.return_, 1) := by decide +kernel
theorem d_Tree_remove_0 : decode b_Tree_remove 0 = .ok (.aload_n 0, 1) := by decide +kernel
theorem d_Tree_remove_1 : decode b_Tree_remove 1 = .ok (.aload_n 0, 1) := by decide +kernel
theorem d_Tree_remove_2 : decode b_Tree_remove 2 = .ok (.getfield 45, 3) := by decide +kernel
theorem d_Tree_remove_5 : decode b_Tree_remove 5 = .ok (.invokevirtual 105, 3) := by decide +kernel
theorem d_Tree_remove_8 : decode b_Tree_remove 8 = .ok (.aload_n 0, 1) := by decide +kernel
theorem d_Tree_remove_9 : decode b_Tree_remove 9 = .ok (.getfield 21, 3) := by decide +kernel
theorem d_Tree_remove_12 : decode b_Tree_remove 12 = .ok (.aload_n 0, 1) := by decide +kernel
theorem d_Tree_remove_13 : decode b_Tree_remove 13 = .ok (.getfield 45, 3) := by decide +kernel
theorem d_Tree_remove_16 : decode b_Tree_remove 16 = .ok (.baload, 1) := by decide +kernel
theorem d_Tree_remove_17 : decode b_Tree_remove 17 = .ok (.ifCond .ne 38, 3) := by decide +kernel
theorem d_Tree_remove_20 : decode b_Tree_remove 20 = .ok (.aload_n 0, 1) := by decide +kernel
theorem d_Tree_remove_21 : decode b_Tree_remove 21 = .ok (.getfield 18, 3) := by decide +kernel
theorem d_Tree_remove_24 : decode b_Tree_remove 24 = .ok (.aload_n 0, 1) := by decide +kernel
theorem d_Tree_remove_25 : decode b_Tree_remove 25 = .ok (.getfield 45, 3) := by decide +kernel
theorem d_Tree_remove_28 : decode b_Tree_remove 28 = .ok (.iaload, 1) := by decide +kernel
theorem d_Tree_remove_29 : decode b_Tree_remove 29 = .ok (.ifCond .ne 26, 3) := by decide +kernel
theorem d_Tree_remove_32 : decode b_Tree_remove 32 = .ok (.aload_n 0, 1) := by decide +kernel
theorem d_Tree_remove_33 : decode b_Tree_remove 33 = .ok (.getfield 45, 3) := by decide +kernel
theorem d_Tree_remove_36 : decode b_Tree_remove 36 = .ok (.istore_n 1, 1) := by decide +kernel
theorem d_Tree_remove_37 : decode b_Tree_remove 37 = .ok (.aload_n 0, 1) := by decide +kernel
theorem d_Tree_remove_38 : decode b_Tree_remove 38 = .ok (.aload_n 0, 1) := by decide +kernel
theorem d_Tree_remove_39 : decode b_Tree_remove 39 = .ok (.aload_n 0, 1) := by decide +kernel
theorem d_Tree_remove_40 : decode b_Tree_remove 40 = .ok (.getfield 45, 3) := by decide +kernel
theorem d_Tree_remove_43 : decode b_Tree_remove 43 = .ok (.iconst 0, 1) := by decide +kernel
theorem d_Tree_remove_44 : decode b_Tree_remove 44 = .ok (.invokevirtual 65, 3) := by decide +kernel
theorem d_Tree_remove_47 : decode b_Tree_remove 47 = .ok (.putfield 45, 3) := by decide +kernel
theorem d_Tree_remove_50 : decode b_Tree_remove 50 = .ok (.aload_n 0, 1) := by decide +kernel
theorem d_Tree_remove_51 : decode b_Tree_remove 51 = .ok (.iload_n 1, 1) := by decide +kernel
theorem d_Tree_remove_52 : decode b_Tree_remove 52 = .ok (.invokevirtual 109, 3) := by decide +kernel
theorem d_Tree_remove_55 : decode b_Tree_remove 55 = .ok (.return_, 1) := by decide +kernel
theorem d_Tree_removeFrom_0 : decode b_Tree_removeFrom 0 = .ok (.aload_n 0, 1) := by decide +kernel
theorem d_Tree_removeFrom_1 : decode b_Tree_removeFrom 1 = .ok (.getfield 28, 3) := by decide +kernel
theorem d_Tree_removeFrom_4 : decode b_Tree_removeFrom 4 = .ok (.iload_n 1, 1) := by decide +kernel
theorem d_Tree_removeFrom_5 : decode b_Tree_removeFrom 5 = .ok (.dup2, 1) := by decide +kernel
theorem d_Tree_removeFrom_6 : decode b_Tree_removeFrom 6 = .ok (.iaload, 1) := by decide +kernel
theorem d_Tree_removeFrom_7 : decode b_Tree_removeFrom 7 = .ok (.iconst 1, 1) := by decide +kernel
theorem d_Tree_removeFrom_8 : decode b_Tree_removeFrom 8 = .ok (.isub, 1) := by decide +kernel
theorem d_Tree_removeFrom_9 : decode b_Tree_removeFrom 9 = .ok (.iastore, 1) := by decide +kernel
theorem d_Tree_removeFrom_10 : decode b_Tree_removeFrom 10 = .ok (.aload_n 0, 1) := by decide +kernel
theorem d_Tree_removeFrom_11 : decode b_Tree_removeFrom 11 = .ok (.getfield 21, 3) := by decide +kernel
theorem d_Tree_removeFrom_14 : decode b_Tree_removeFrom 14 = .ok (.iload_n 1, 1) := by decide +kernel
theorem d_Tree_removeFrom_15 : decode b_Tree_removeFrom 15 = .ok (.baload, 1) := by decide +kernel
theorem d_Tree_removeFrom_16 : decode b_Tree_removeFrom 16 = .ok (.ifCond .eq 14, 3) := by decide +kernel
theorem d_Tree_removeFrom_19 : decode b_Tree_removeFrom 19 = .ok (.aload_n 0, 1) := by decide +kernel
theorem d_Tree_removeFrom_20 : decode b_Tree_removeFrom 20 = .ok (.iload_n 1, 1) := by decide +kernel
theorem d_Tree_removeFrom_21 : decode b_Tree_removeFrom 21 = .ok (.aload_n 0, 1) := by decide +kernel
theorem d_Tree_removeFrom_22 : decode b_Tree_removeFrom 22 = .ok (.iload_n 1, 1) := by decide +kernel
theorem d_Tree_removeFrom_23 : decode b_Tree_removeFrom 23 = .ok (.invokevirtual 72, 3) := by decide +kernel
theorem d_Tree_removeFrom_26 : decode b_Tree_removeFrom 26 = .ok (.invokevirtual 112, 3) := by decide +kernel
theorem d_Tree_removeFrom_29 : decode b_Tree_removeFrom 29 = .ok (.return_, 1) := by decide +kernel
theorem d_Tree_removeFrom_30 : decode b_Tree_removeFrom 30 = .ok (.aload_n 0, 1) := by decide +kernel
theorem d_Tree_removeFrom_31 : decode b_Tree_removeFrom 31 = .ok (.iload_n 1, 1) := by decide +kernel
theorem d_Tree_removeFrom_32 : decode b_Tree_removeFrom 32 = .ok (.invokevirtual 61, 3) := by decide +kernel
theorem d_Tree_removeFrom_35 : decode b_Tree_removeFrom 35 = .ok (.istore_n 2, 1) := by decide +kernel
theorem d_Tree_removeFrom_36 : decode b_Tree_removeFrom 36 = .ok (.aload_n 0, 1) := by decide +kernel
theorem d_Tree_removeFrom_37 : decode b_Tree_removeFrom 37 = .ok (.iload_n 1, 1) := by decide +kernel
theorem d_Tree_removeFrom_38 : decode b_Tree_removeFrom 38 = .ok (.iload_n 2, 1) := by decide +kernel
theorem d_Tree_removeFrom_39 : decode b_Tree_removeFrom 39 = .ok (.invokevirtual 65, 3) := by decide +kernel
theorem d_Tree_removeFrom_42 : decode b_Tree_removeFrom 42 = .ok (.istore_n 3, 1) := by decide +kernel
theorem d_Tree_removeFrom_43 : decode b_Tree_removeFrom 43 = .ok (.aload_n 0, 1) := by decide +kernel
theorem d_Tree_removeFrom_44 : decode b_Tree_removeFrom 44 = .ok (.iload_n 3, 1) := by decide +kernel
theorem d_Tree_removeFrom_45 : decode b_Tree_removeFrom 45 = .ok (.invokevirtual 105, 3) := by decide +kernel
theorem d_Tree_removeFrom_48 : decode b_Tree_removeFrom 48 = .ok (.aload_n 0, 1) := by decide +kernel
theorem d_Tree_removeFrom_49 : decode b_Tree_removeFrom 49 = .ok (.getfield 18, 3) := by decide +kernel
theorem d_Tree_removeFrom_52 : decode b_Tree_removeFrom 52 = .ok (.iload_n 3, 1) := by decide +kernel
theorem d_Tree_removeFrom_53 : decode b_Tree_removeFrom 53 = .ok (.iaload, 1) := by decide +kernel
theorem d_Tree_removeFrom_54 : decode b_Tree_removeFrom 54 = .ok (.iconst 3, 1) := by decide +kernel
theorem d_Tree_removeFrom_55 : decode b_Tree_removeFrom 55 = .ok (.if_icmp .ge 9, 3) := by decide +kernel
theorem d_Tree_removeFrom_58 : decode b_Tree_removeFrom 58 = .ok (.aload_n 0, 1) := by decide +kernel
theorem d_Tree_removeFrom_59 : decode b_Tree_removeFrom 59 = .ok (.iload_n 1, 1) := by decide +kernel
theorem d_Tree_removeFrom_60 : decode b_Tree_removeFrom 60 = .ok (.iload_n 2, 1) := by decide +kernel
theorem d_Tree_removeFrom_61 : decode b_Tree_removeFrom 61 = .ok (.invokevirtual 115, 3) := by decide +kernel
theorem d_Tree_removeFrom_64 : decode b_Tree_removeFrom 64 = .ok (.return_, 1) := by decide +kernel
theorem d_Tree_mend_0 : decode b_Tree_mend 0 = .ok (.iload_n 2, 1) := by decide +kernel
theorem d_Tree_mend_1 : decode b_Tree_mend 1 = .ok (.ifCond .le 9, 3) := by decide +kernel
theorem d_Tree_mend_4 : decode b_Tree_mend 4 = .ok (.iload_n 2, 1) := by decide +kernel
theorem d_Tree_mend_5 : decode b_Tree_mend 5 = .ok (.iconst 1, 1) := by decide +kernel
theorem d_Tree_mend_6 : decode b_Tree_mend 6 = .ok (.isub, 1) := by decide +kernel
theorem d_Tree_mend_7 : decode b_Tree_mend 7 = .ok (.goto 4, 3) := by decide +kernel
theorem d_Tree_mend_10 : decode b_Tree_mend 10 = .ok (.iconst 0, 1) := by decide +kernel
theorem d_Tree_mend_11 : decode b_Tree_mend 11 = .ok (.istore_n 3, 1) := by decide +kernel
theorem d_Tree_mend_12 : decode b_Tree_mend 12 = .ok (.aload_n 0, 1) := by decide +kernel
theorem d_Tree_mend_13 : decode b_Tree_mend 13 = .ok (.iload_n 1, 1) := by decide +kernel
theorem d_Tree_mend_14 : decode b_Tree_mend 14 = .ok (.iload_n 3, 1) := by decide +kernel
theorem d_Tree_mend_15 : decode b_Tree_mend 15 = .ok (.invokevirtual 65, 3) := by decide +kernel
theorem d_Tree_mend_18 : decode b_Tree_mend 18 = .ok (.istore 4, 2) := by decide +kernel
theorem d_Tree_mend_20 : decode b_Tree_mend 20 = .ok (.aload_n 0, 1) := by decide +kernel
theorem d_Tree_mend_21 : decode b_Tree_mend 21 = .ok (.iload_n 1, 1) := by decide +kernel
theorem d_Tree_mend_22 : decode b_Tree_mend 22 = .ok (.iload_n 3, 1) := by decide +kernel
theorem d_Tree_mend_23 : decode b_Tree_mend 23 = .ok (.iconst 1, 1) := by decide +kernel
theorem d_Tree_mend_24 : decode b_Tree_mend 24 = .ok (.iadd, 1) := by decide +kernel
theorem d_Tree_mend_25 : decode b_Tree_mend 25 = .ok (.invokevirtual 65, 3) := by decide +kernel
theorem d_Tree_mend_28 : decode b_Tree_mend 28 = .ok (.istore 5, 2) := by decide +kernel
theorem d_Tree_mend_30 : decode b_Tree_mend 30 = .ok (.aload_n 0, 1) := by decide +kernel
theorem d_Tree_mend_31 : decode b_Tree_mend 31 = .ok (.getfield 18, 3) := by decide +kernel
theorem d_Tree_mend_34 : decode b_Tree_mend 34 = .ok (.iload 4, 2) := by decide +kernel
theorem d_Tree_mend_36 : decode b_Tree_mend 36 = .ok (.iaload, 1) := by decide +kernel
theorem d_Tree_mend_37 : decode b_Tree_mend 37 = .ok (.aload_n 0, 1) := by decide +kernel
theorem d_Tree_mend_38 : decode b_Tree_mend 38 = .ok (.getfield 18, 3) := by decide +kernel
theorem d_Tree_mend_41 : decode b_Tree_mend 41 = .ok (.iload 5, 2) := by decide +kernel
theorem d_Tree_mend_43 : decode b_Tree_mend 43 = .ok (.iaload, 1) := by decide +kernel
theorem d_Tree_mend_44 : decode b_Tree_mend 44 = .ok (.iadd, 1) := by decide +kernel
theorem d_Tree_mend_45 : decode b_Tree_mend 45 = .ok (.aload_n 0, 1) := by decide +kernel
theorem d_Tree_mend_46 : decode b_Tree_mend 46 = .ok (.getfield 21, 3) := by decide +kernel
theorem d_Tree_mend_49 : decode b_Tree_mend 49 = .ok (.iload 4, 2) := by decide +kernel
theorem d_Tree_mend_51 : decode b_Tree_mend 51 = .ok (.baload, 1) := by decide +kernel
theorem d_Tree_mend_52 : decode b_Tree_mend 52 = .ok (.ifCond .eq 7, 3) := by decide +kernel
theorem d_Tree_mend_55 : decode b_Tree_mend 55 = .ok (.iconst 0, 1) := by decide +kernel
theorem d_Tree_mend_56 : decode b_Tree_mend 56 = .ok (.goto 4, 3) := by decide +kernel
theorem d_Tree_mend_59 : decode b_Tree_mend 59 = .ok (.iconst 1, 1) := by decide +kernel
theorem d_Tree_mend_60 : decode b_Tree_mend 60 = .ok (.iadd, 1) := by decide +kernel
theorem d_Tree_mend_61 : decode b_Tree_mend 61 = .ok (.bipush 8, 2) := by decide +kernel
theorem d_Tree_mend_63 : decode b_Tree_mend 63 = .ok (.if_icmp .ge 16, 3) := by decide +kernel
theorem d_Tree_mend_66 : decode b_Tree_mend 66 = .ok (.aload_n 0, 1) := by decide +kernel
theorem d_Tree_mend_67 : decode b_Tree_mend 67 = .ok (.iload_n 1, 1) := by decide +kernel
theorem d_Tree_mend_68 : decode b_Tree_mend 68 = .ok (.iload_n 3, 1) := by decide +kernel
theorem d_Tree_mend_69 : decode b_Tree_mend 69 = .ok (.iload 4, 2) := by decide +kernel
theorem d_Tree_mend_71 : decode b_Tree_mend 71 = .ok (.iload 5, 2) := by decide +kernel
theorem d_Tree_mend_73 : decode b_Tree_mend 73 = .ok (.invokevirtual 118, 3) := by decide +kernel
theorem d_Tree_mend_76 : decode b_Tree_mend 76 = .ok (.goto 43, 3) := by decide +kernel
theorem d_Tree_mend_79 : decode b_Tree_mend 79 = .ok (.aload_n 0, 1) := by decide +kernel
theorem d_Tree_mend_80 : decode b_Tree_mend 80 = .ok (.getfield 18, 3) := by decide +kernel
theorem d_Tree_mend_83 : decode b_Tree_mend 83 = .ok (.iload 4, 2) := by decide +kernel
theorem d_Tree_mend_85 : decode b_Tree_mend 85 = .ok (.iaload, 1) := by decide +kernel
theorem d_Tree_mend_86 : decode b_Tree_mend 86 = .ok (.aload_n 0, 1) := by decide +kernel
theorem d_Tree_mend_87 : decode b_Tree_mend 87 = .ok (.getfield 18, 3) := by decide +kernel
theorem d_Tree_mend_90 : decode b_Tree_mend 90 = .ok (.iload 5, 2) := by decide +kernel
theorem d_Tree_mend_92 : decode b_Tree_mend 92 = .ok (.iaload, 1) := by decide +kernel
theorem d_Tree_mend_93 : decode b_Tree_mend 93 = .ok (.if_icmp .le 16, 3) := by decide +kernel
theorem d_Tree_mend_96 : decode b_Tree_mend 96 = .ok (.aload_n 0, 1) := by decide +kernel
theorem d_Tree_mend_97 : decode b_Tree_mend 97 = .ok (.iload_n 1, 1) := by decide +kernel
theorem d_Tree_mend_98 : decode b_Tree_mend 98 = .ok (.iload_n 3, 1) := by decide +kernel
theorem d_Tree_mend_99 : decode b_Tree_mend 99 = .ok (.iload 4, 2) := by decide +kernel
theorem d_Tree_mend_101 : decode b_Tree_mend 101 = .ok (.iload 5, 2) := by decide +kernel
theorem d_Tree_mend_103 : decode b_Tree_mend 103 = .ok (.invokevirtual 121, 3) := by decide +kernel
theorem d_Tree_mend_106 : decode b_Tree_mend 106 = .ok (.goto 13, 3) := by decide +kernel
theorem d_Tree_mend_109 : decode b_Tree_mend 109 = .ok (.aload_n 0, 1) := by decide +kernel
theorem d_Tree_mend_110 : decode b_Tree_mend 110 = .ok (.iload_n 1, 1) := by decide +kernel
theorem d_Tree_mend_111 : decode b_Tree_mend 111 = .ok (.iload_n 3, 1) := by decide +kernel
theorem d_Tree_mend_112 : decode b_Tree_mend 112 = .ok (.iload 4, 2) := by decide +kernel
theorem d_Tree_mend_114 : decode b_Tree_mend 114 = .ok (.iload 5, 2) := by decide +kernel
theorem d_Tree_mend_116 : decode b_Tree_mend 116 = .ok (.invokevirtual 124, 3) := by decide +kernel
theorem d_Tree_mend_119 : decode b_Tree_mend 119 = .ok (.return_, 1) := by decide +kernel
theorem d_Tree_join_0 : decode b_Tree_join 0 = .ok (.aload_n 0, 1) := by decide +kernel
theorem d_Tree_join_1 : decode b_Tree_join 1 = .ok (.getfield 21, 3) := by decide +kernel
theorem d_Tree_join_4 : decode b_Tree_join 4 = .ok (.iload_n 3, 1) := by decide +kernel
theorem d_Tree_join_5 : decode b_Tree_join 5 = .ok (.baload, 1) := by decide +kernel
theorem d_Tree_join_6 : decode b_Tree_join 6 = .ok (.ifCond .eq 74, 3) := by decide +kernel
theorem d_Tree_join_9 : decode b_Tree_join 9 = .ok (.iconst 0, 1) := by decide +kernel
theorem d_Tree_join_10 : decode b_Tree_join 10 = .ok (.istore 5, 2) := by decide +kernel
theorem d_Tree_join_12 : decode b_Tree_join 12 = .ok (.iload 5, 2) := by decide +kernel
theorem d_Tree_join_14 : decode b_Tree_join 14 = .ok (.aload_n 0, 1) := by decide +kernel
theorem d_Tree_join_15 : decode b_Tree_join 15 = .ok (.getfield 18, 3) := by decide +kernel
theorem d_Tree_join_18 : decode b_Tree_join 18 = .ok (.iload 4, 2) := by decide +kernel
theorem d_Tree_join_20 : decode b_Tree_join 20 = .ok (.iaload, 1) := by decide +kernel
theorem d_Tree_join_21 : decode b_Tree_join 21 = .ok (.if_icmp .ge 27, 3) := by decide +kernel
theorem d_Tree_join_24 : decode b_Tree_join 24 = .ok (.aload_n 0, 1) := by decide +kernel
theorem d_Tree_join_25 : decode b_Tree_join 25 = .ok (.iload 4, 2) := by decide +kernel
theorem d_Tree_join_27 : decode b_Tree_join 27 = .ok (.iload 5, 2) := by decide +kernel
theorem d_Tree_join_29 : decode b_Tree_join 29 = .ok (.iload_n 3, 1) := by decide +kernel
theorem d_Tree_join_30 : decode b_Tree_join 30 = .ok (.aload_n 0, 1) := by decide +kernel
theorem d_Tree_join_31 : decode b_Tree_join 31 = .ok (.getfield 18, 3) := by decide +kernel
theorem d_Tree_join_34 : decode b_Tree_join 34 = .ok (.iload_n 3, 1) := by decide +kernel
theorem d_Tree_join_35 : decode b_Tree_join 35 = .ok (.iaload, 1) := by decide +kernel
theorem d_Tree_join_36 : decode b_Tree_join 36 = .ok (.iload 5, 2) := by decide +kernel
theorem d_Tree_join_38 : decode b_Tree_join 38 = .ok (.iadd, 1) := by decide +kernel
theorem d_Tree_join_39 : decode b_Tree_join 39 = .ok (.invokevirtual 81, 3) := by decide +kernel
theorem d_Tree_join_42 : decode b_Tree_join 42 = .ok (.iinc 5 1, 3) := by decide +kernel
theorem d_Tree_join_45 : decode b_Tree_join 45 = .ok (.goto (-33), 3) := by decide +kernel
theorem d_Tree_join_48 : decode b_Tree_join 48 = .ok (.aload_n 0, 1) := by decide +kernel
theorem d_Tree_join_49 : decode b_Tree_join 49 = .ok (.getfield 18, 3) := by decide +kernel
theorem d_Tree_join_52 : decode b_Tree_join 52 = .ok (.iload_n 3, 1) := by decide +kernel
theorem d_Tree_join_53 : decode b_Tree_join 53 = .ok (.dup2, 1) := by decide +kernel
theorem d_Tree_join_54 : decode b_Tree_join 54 = .ok (.iaload, 1) := by decide +kernel
theorem d_Tree_join_55 : decode b_Tree_join 55 = .ok (.aload_n 0, 1) := by decide +kernel
theorem d_Tree_join_56 : decode b_Tree_join 56 = .ok (.getfield 18, 3) := by decide +kernel
theorem d_Tree_join_59 : decode b_Tree_join 59 = .ok (.iload 4, 2) := by decide +kernel
theorem d_Tree_join_61 : decode b_Tree_join 61 = .ok (.iaload, 1) := by decide +kernel
theorem d_Tree_join_62 : decode b_Tree_join 62 = .ok (.iadd, 1) := by decide +kernel
theorem d_Tree_join_63 : decode b_Tree_join 63 = .ok (.iastore, 1) := by decide +kernel
theorem d_Tree_join_64 : decode b_Tree_join 64 = .ok (.aload_n 0, 1) := by decide +kernel
theorem d_Tree_join_65 : decode b_Tree_join 65 = .ok (.getfield 25, 3) := by decide +kernel
theorem d_Tree_join_68 : decode b_Tree_join 68 = .ok (.iload_n 3, 1) := by decide +kernel
theorem d_Tree_join_69 : decode b_Tree_join 69 = .ok (.aload_n 0, 1) := by decide +kernel
theorem d_Tree_join_70 : decode b_Tree_join 70 = .ok (.getfield 25, 3) := by decide +kernel
theorem d_Tree_join_73 : decode b_Tree_join 73 = .ok (.iload 4, 2) := by decide +kernel
theorem d_Tree_join_75 : decode b_Tree_join 75 = .ok (.iaload, 1) := by decide +kernel
theorem d_Tree_join_76 : decode b_Tree_join 76 = .ok (.iastore, 1) := by decide +kernel
theorem d_Tree_join_77 : decode b_Tree_join 77 = .ok (.goto 125, 3) := by decide +kernel
theorem d_Tree_join_80 : decode b_Tree_join 80 = .ok (.aload_n 0, 1) := by decide +kernel
theorem d_Tree_join_81 : decode b_Tree_join 81 = .ok (.iload_n 1, 1) := by decide +kernel
theorem d_Tree_join_82 : decode b_Tree_join 82 = .ok (.iload_n 2, 1) := by decide +kernel
theorem d_Tree_join_83 : decode b_Tree_join 83 = .ok (.iload_n 3, 1) := by decide +kernel
theorem d_Tree_join_84 : decode b_Tree_join 84 = .ok (.aload_n 0, 1) := by decide +kernel
theorem d_Tree_join_85 : decode b_Tree_join 85 = .ok (.getfield 18, 3) := by decide +kernel
theorem d_Tree_join_88 : decode b_Tree_join 88 = .ok (.iload_n 3, 1) := by decide +kernel
theorem d_Tree_join_89 : decode b_Tree_join 89 = .ok (.iaload, 1) := by decide +kernel
theorem d_Tree_join_90 : decode b_Tree_join 90 = .ok (.invokevirtual 81, 3) := by decide +kernel
theorem d_Tree_join_93 : decode b_Tree_join 93 = .ok (.iconst 0, 1) := by decide +kernel
theorem d_Tree_join_94 : decode b_Tree_join 94 = .ok (.istore 5, 2) := by decide +kernel
theorem d_Tree_join_96 : decode b_Tree_join 96 = .ok (.iload 5, 2) := by decide +kernel
theorem d_Tree_join_98 : decode b_Tree_join 98 = .ok (.aload_n 0, 1) := by decide +kernel
theorem d_Tree_join_99 : decode b_Tree_join 99 = .ok (.getfield 18, 3) := by decide +kernel
theorem d_Tree_join_102 : decode b_Tree_join 102 = .ok (.iload 4, 2) := by decide +kernel
theorem d_Tree_join_104 : decode b_Tree_join 104 = .ok (.iaload, 1) := by decide +kernel
theorem d_Tree_join_105 : decode b_Tree_join 105 = .ok (.if_icmp .ge 29, 3) := by decide +kernel
theorem d_Tree_join_108 : decode b_Tree_join 108 = .ok (.aload_n 0, 1) := by decide +kernel
theorem d_Tree_join_109 : decode b_Tree_join 109 = .ok (.iload 4, 2) := by decide +kernel
theorem d_Tree_join_111 : decode b_Tree_join 111 = .ok (.iload 5, 2) := by decide +kernel
theorem d_Tree_join_113 : decode b_Tree_join 113 = .ok (.iload_n 3, 1) := by decide +kernel
theorem d_Tree_join_114 : decode b_Tree_join 114 = .ok (.aload_n 0, 1) := by decide +kernel
theorem d_Tree_join_115 : decode b_Tree_join 115 = .ok (.getfield 18, 3) := by decide +kernel
theorem d_Tree_join_118 : decode b_Tree_join 118 = .ok (.iload_n 3, 1) := by decide +kernel
theorem d_Tree_join_119 : decode b_Tree_join 119 = .ok (.iaload, 1) := by decide +kernel
theorem d_Tree_join_120 : decode b_Tree_join 120 = .ok (.iconst 1, 1) := by decide +kernel
theorem d_Tree_join_121 : decode b_Tree_join 121 = .ok (.iadd, 1) := by decide +kernel
theorem d_Tree_join_122 : decode b_Tree_join 122 = .ok (.iload 5, 2) := by decide +kernel
theorem d_Tree_join_124 : decode b_Tree_join 124 = .ok (.iadd, 1) := by decide +kernel
theorem d_Tree_join_125 : decode b_Tree_join 125 = .ok (.invokevirtual 81, 3) := by decide +kernel
theorem d_Tree_join_128 : decode b_Tree_join 128 = .ok (.iinc 5 1, 3) := by decide +kernel
theorem d_Tree_join_131 : decode b_Tree_join 131 = .ok (.goto (-35), 3) := by decide +kernel
theorem d_Tree_join_134 : decode b_Tree_join 134 = .ok (.iconst 0, 1) := by decide +kernel
theorem d_Tree_join_135 : decode b_Tree_join 135 = .ok (.istore 5, 2) := by decide +kernel
theorem d_Tree_join_137 : decode b_Tree_join 137 = .ok (.iload 5, 2) := by decide +kernel
theorem d_Tree_join_139 : decode b_Tree_join 139 = .ok (.aload_n 0, 1) := by decide +kernel
theorem d_Tree_join_140 : decode b_Tree_join 140 = .ok (.getfield 18, 3) := by decide +kernel
theorem d_Tree_join_143 : decode b_Tree_join 143 = .ok (.iload 4, 2) := by decide +kernel
theorem d_Tree_join_145 : decode b_Tree_join 145 = .ok (.iaload, 1) := by decide +kernel
theorem d_Tree_join_146 : decode b_Tree_join 146 = .ok (.if_icmp .gt 38, 3) := by decide +kernel
theorem d_Tree_join_149 : decode b_Tree_join 149 = .ok (.aload_n 0, 1) := by decide +kernel
theorem d_Tree_join_150 : decode b_Tree_join 150 = .ok (.getfield 15, 3) := by decide +kernel
theorem d_Tree_join_153 : decode b_Tree_join 153 = .ok (.bipush 11, 2) := by decide +kernel
theorem d_Tree_join_155 : decode b_Tree_join 155 = .ok (.iload_n 3, 1) := by decide +kernel
theorem d_Tree_join_156 : decode b_Tree_join 156 = .ok (.imul, 1) := by decide +kernel
theorem d_Tree_join_157 : decode b_Tree_join 157 = .ok (.aload_n 0, 1) := by decide +kernel
theorem d_Tree_join_158 : decode b_Tree_join 158 = .ok (.getfield 18, 3) := by decide +kernel
theorem d_Tree_join_161 : decode b_Tree_join 161 = .ok (.iload_n 3, 1) := by decide +kernel
theorem d_Tree_join_162 : decode b_Tree_join 162 = .ok (.iaload, 1) := by decide +kernel
theorem d_Tree_join_163 : decode b_Tree_join 163 = .ok (.iadd, 1) := by decide +kernel
theorem d_Tree_join_164 : decode b_Tree_join 164 = .ok (.iconst 1, 1) := by decide +kernel
theorem d_Tree_join_165 : decode b_Tree_join 165 = .ok (.iadd, 1) := by decide +kernel
theorem d_Tree_join_166 : decode b_Tree_join 166 = .ok (.iload 5, 2) := by decide +kernel
theorem d_Tree_join_168 : decode b_Tree_join 168 = .ok (.iadd, 1) := by decide +kernel
theorem d_Tree_join_169 : decode b_Tree_join 169 = .ok (.aload_n 0, 1) := by decide +kernel
theorem d_Tree_join_170 : decode b_Tree_join 170 = .ok (.iload 4, 2) := by decide +kernel
theorem d_Tree_join_172 : decode b_Tree_join 172 = .ok (.iload 5, 2) := by decide +kernel
theorem d_Tree_join_174 : decode b_Tree_join 174 = .ok (.invokevirtual 65, 3) := by decide +kernel
theorem d_Tree_join_177 : decode b_Tree_join 177 = .ok (.iastore, 1) := by decide +kernel
theorem d_Tree_join_178 : decode b_Tree_join 178 = .ok (.iinc 5 1, 3) := by decide +kernel
theorem d_Tree_join_181 : decode b_Tree_join 181 = .ok (.goto (-44), 3) := by decide +kernel
theorem d_Tree_join_184 : decode b_Tree_join 184 = .ok (.aload_n 0, 1) := by decide +kernel
theorem d_Tree_join_185 : decode b_Tree_join 185 = .ok (.getfield 18, 3) := by decide +kernel
theorem d_Tree_join_188 : decode b_Tree_join 188 = .ok (.iload_n 3, 1) := by decide +kernel
theorem d_Tree_join_189 : decode b_Tree_join 189 = .ok (.dup2, 1) := by decide +kernel
theorem d_Tree_join_190 : decode b_Tree_join 190 = .ok (.iaload, 1) := by decide +kernel
theorem d_Tree_join_191 : decode b_Tree_join 191 = .ok (.aload_n 0, 1) := by decide +kernel
theorem d_Tree_join_192 : decode b_Tree_join 192 = .ok (.getfield 18, 3) := by decide +kernel
theorem d_Tree_join_195 : decode b_Tree_join 195 = .ok (.iload 4, 2) := by decide +kernel
theorem d_Tree_join_197 : decode b_Tree_join 197 = .ok (.iaload, 1) := by decide +kernel
theorem d_Tree_join_198 : decode b_Tree_join 198 = .ok (.iconst 1, 1) := by decide +kernel
theorem d_Tree_join_199 : decode b_Tree_join 199 = .ok (.iadd, 1) := by decide +kernel
theorem d_Tree_join_200 : decode b_Tree_join 200 = .ok (.iadd, 1) := by decide +kernel
theorem d_Tree_join_201 : decode b_Tree_join 201 = .ok (.iastore, 1) := by decide +kernel
theorem d_Tree_join_202 : decode b_Tree_join 202 = .ok (.aload_n 0, 1) := by decide +kernel
theorem d_Tree_join_203 : decode b_Tree_join 203 = .ok (.getfield 28, 3) := by decide +kernel
theorem d_Tree_join_206 : decode b_Tree_join 206 = .ok (.iload_n 3, 1) := by decide +kernel
theorem d_Tree_join_207 : decode b_Tree_join 207 = .ok (.dup2, 1) := by decide +kernel
theorem d_Tree_join_208 : decode b_Tree_join 208 = .ok (.iaload, 1) := by decide +kernel
theorem d_Tree_join_209 : decode b_Tree_join 209 = .ok (.aload_n 0, 1) := by decide +kernel
theorem d_Tree_join_210 : decode b_Tree_join 210 = .ok (.getfield 28, 3) := by decide +kernel
theorem d_Tree_join_213 : decode b_Tree_join 213 = .ok (.iload 4, 2) := by decide +kernel
theorem d_Tree_join_215 : decode b_Tree_join 215 = .ok (.iaload, 1) := by decide +kernel
theorem d_Tree_join_216 : decode b_Tree_join 216 = .ok (.iadd, 1) := by decide +kernel
theorem d_Tree_join_217 : decode b_Tree_join 217 = .ok (.iastore, 1) := by decide +kernel
theorem d_Tree_join_218 : decode b_Tree_join 218 = .ok (.aload_n 0, 1) := by decide +kernel
theorem d_Tree_join_219 : decode b_Tree_join 219 = .ok (.iload 4, 2) := by decide +kernel
theorem d_Tree_join_221 : decode b_Tree_join 221 = .ok (.invokevirtual 109, 3) := by decide +kernel
theorem d_Tree_join_224 : decode b_Tree_join 224 = .ok (.aload_n 0, 1) := by decide +kernel
theorem d_Tree_join_225 : decode b_Tree_join 225 = .ok (.iload_n 1, 1) := by decide +kernel
theorem d_Tree_join_226 : decode b_Tree_join 226 = .ok (.iload_n 2, 1) := by decide +kernel
theorem d_Tree_join_227 : decode b_Tree_join 227 = .ok (.invokevirtual 112, 3) := by decide +kernel
theorem d_Tree_join_230 : decode b_Tree_join 230 = .ok (.return_, 1) := by decide +kernel
theorem d_Tree_toRight_0 : decode b_Tree_toRight 0 = .ok (.aload_n 0, 1) := by decide +kernel
theorem d_Tree_toRight_1 : decode b_Tree_toRight 1 = .ok (.getfield 18, 3) := by decide +kernel
theorem d_Tree_toRight_4 : decode b_Tree_toRight 4 = .ok (.iload_n 3, 1) := by decide +kernel
theorem d_Tree_toRight_5 : decode b_Tree_toRight 5 = .ok (.iaload, 1) := by decide +kernel
theorem d_Tree_toRight_6 : decode b_Tree_toRight 6 = .ok (.iconst 1, 1) := by decide +kernel
theorem d_Tree_toRight_7 : decode b_Tree_toRight 7 = .ok (.isub, 1) := by decide +kernel
theorem d_Tree_toRight_8 : decode b_Tree_toRight 8 = .ok (.istore 5, 2) := by decide +kernel
theorem d_Tree_toRight_10 : decode b_Tree_toRight 10 = .ok (.aload_n 0, 1) := by decide +kernel
theorem d_Tree_toRight_11 : decode b_Tree_toRight 11 = .ok (.getfield 18, 3) := by decide +kernel
theorem d_Tree_toRight_14 : decode b_Tree_toRight 14 = .ok (.iload 4, 2) := by decide +kernel
theorem d_Tree_toRight_16 : decode b_Tree_toRight 16 = .ok (.iaload, 1) := by decide +kernel
theorem d_Tree_toRight_17 : decode b_Tree_toRight 17 = .ok (.istore 6, 2) := by decide +kernel
theorem d_Tree_toRight_19 : decode b_Tree_toRight 19 = .ok (.iload 6, 2) := by decide +kernel
theorem d_Tree_toRight_21 : decode b_Tree_toRight 21 = .ok (.ifCond .le 23, 3) := by decide +kernel
theorem d_Tree_toRight_24 : decode b_Tree_toRight 24 = .ok (.aload_n 0, 1) := by decide +kernel
theorem d_Tree_toRight_25 : decode b_Tree_toRight 25 = .ok (.iload 4, 2) := by decide +kernel
theorem d_Tree_toRight_27 : decode b_Tree_toRight 27 = .ok (.iload 6, 2) := by decide +kernel
theorem d_Tree_toRight_29 : decode b_Tree_toRight 29 = .ok (.iconst 1, 1) := by decide +kernel
theorem d_Tree_toRight_30 : decode b_Tree_toRight 30 = .ok (.isub, 1) := by decide +kernel
theorem d_Tree_toRight_31 : decode b_Tree_toRight 31 = .ok (.iload 4, 2) := by decide +kernel
theorem d_Tree_toRight_33 : decode b_Tree_toRight 33 = .ok (.iload 6, 2) := by decide +kernel
theorem d_Tree_toRight_35 : decode b_Tree_toRight 35 = .ok (.invokevirtual 81, 3) := by decide +kernel
theorem d_Tree_toRight_38 : decode b_Tree_toRight 38 = .ok (.iinc 6 (-1), 3) := by decide +kernel
theorem d_Tree_toRight_41 : decode b_Tree_toRight 41 = .ok (.goto (-22), 3) := by decide +kernel
theorem d_Tree_toRight_44 : decode b_Tree_toRight 44 = .ok (.aload_n 0, 1) := by decide +kernel
theorem d_Tree_toRight_45 : decode b_Tree_toRight 45 = .ok (.getfield 18, 3) := by decide +kernel
theorem d_Tree_toRight_48 : decode b_Tree_toRight 48 = .ok (.iload 4, 2) := by decide +kernel
theorem d_Tree_toRight_50 : decode b_Tree_toRight 50 = .ok (.iaload, 1) := by decide +kernel
theorem d_Tree_toRight_51 : decode b_Tree_toRight 51 = .ok (.iconst 1, 1) := by decide +kernel
theorem d_Tree_toRight_52 : decode b_Tree_toRight 52 = .ok (.iadd, 1) := by decide +kernel
theorem d_Tree_toRight_53 : decode b_Tree_toRight 53 = .ok (.istore 6, 2) := by decide +kernel
theorem d_Tree_toRight_55 : decode b_Tree_toRight 55 = .ok (.iload 6, 2) := by decide +kernel
theorem d_Tree_toRight_57 : decode b_Tree_toRight 57 = .ok (.ifCond .le 37, 3) := by decide +kernel
theorem d_Tree_toRight_60 : decode b_Tree_toRight 60 = .ok (.aload_n 0, 1) := by decide +kernel
theorem d_Tree_toRight_61 : decode b_Tree_toRight 61 = .ok (.getfield 15, 3) := by decide +kernel
theorem d_Tree_toRight_64 : decode b_Tree_toRight 64 = .ok (.bipush 11, 2) := by decide +kernel
theorem d_Tree_toRight_66 : decode b_Tree_toRight 66 = .ok (.iload 4, 2) := by decide +kernel
theorem d_Tree_toRight_68 : decode b_Tree_toRight 68 = .ok (.imul, 1) := by decide +kernel
theorem d_Tree_toRight_69 : decode b_Tree_toRight 69 = .ok (.iload 6, 2) := by decide +kernel
theorem d_Tree_toRight_71 : decode b_Tree_toRight 71 = .ok (.iadd, 1) := by decide +kernel
theorem d_Tree_toRight_72 : decode b_Tree_toRight 72 = .ok (.aload_n 0, 1) := by decide +kernel
theorem d_Tree_toRight_73 : decode b_Tree_toRight 73 = .ok (.getfield 15, 3) := by decide +kernel
theorem d_Tree_toRight_76 : decode b_Tree_toRight 76 = .ok (.bipush 11, 2) := by decide +kernel
theorem d_Tree_toRight_78 : decode b_Tree_toRight 78 = .ok (.iload 4, 2) := by decide +kernel
theorem d_Tree_toRight_80 : decode b_Tree_toRight 80 = .ok (.imul, 1) := by decide +kernel
theorem d_Tree_toRight_81 : decode b_Tree_toRight 81 = .ok (.iload 6, 2) := by decide +kernel
theorem d_Tree_toRight_83 : decode b_Tree_toRight 83 = .ok (.iadd, 1) := by decide +kernel
theorem d_Tree_toRight_84 : decode b_Tree_toRight 84 = .ok (.iconst 1, 1) := by decide +kernel
theorem d_Tree_toRight_85 : decode b_Tree_toRight 85 = .ok (.isub, 1) := by decide +kernel
theorem d_Tree_toRight_86 : decode b_Tree_toRight 86 = .ok (.iaload, 1) := by decide +kernel
theorem d_Tree_toRight_87 : decode b_Tree_toRight 87 = .ok (.iastore, 1) := by decide +kernel
theorem d_Tree_toRight_88 : decode b_Tree_toRight 88 = .ok (.iinc 6 (-1), 3) := by decide +kernel
theorem d_Tree_toRight_91 : decode b_Tree_toRight 91 = .ok (.goto (-36), 3) := by decide +kernel
theorem d_Tree_toRight_94 : decode b_Tree_toRight 94 = .ok (.iconst 1, 1) := by decide +kernel
theorem d_Tree_toRight_95 : decode b_Tree_toRight 95 = .ok (.istore 6, 2) := by decide +kernel
theorem d_Tree_toRight_97 : decode b_Tree_toRight 97 = .ok (.aload_n 0, 1) := by decide +kernel
theorem d_Tree_toRight_98 : decode b_Tree_toRight 98 = .ok (.getfield 21, 3) := by decide +kernel
theorem d_Tree_toRight_101 : decode b_Tree_toRight 101 = .ok (.iload_n 3, 1) := by decide +kernel
theorem d_Tree_toRight_102 : decode b_Tree_toRight 102 = .ok (.baload, 1) := by decide +kernel
theorem d_Tree_toRight_103 : decode b_Tree_toRight 103 = .ok (.ifCond .eq 25, 3) := by decide +kernel
theorem d_Tree_toRight_106 : decode b_Tree_toRight 106 = .ok (.aload_n 0, 1) := by decide +kernel
theorem d_Tree_toRight_107 : decode b_Tree_toRight 107 = .ok (.iload_n 3, 1) := by decide +kernel
theorem d_Tree_toRight_108 : decode b_Tree_toRight 108 = .ok (.iload 5, 2) := by decide +kernel
theorem d_Tree_toRight_110 : decode b_Tree_toRight 110 = .ok (.iload 4, 2) := by decide +kernel
theorem d_Tree_toRight_112 : decode b_Tree_toRight 112 = .ok (.iconst 0, 1) := by decide +kernel
theorem d_Tree_toRight_113 : decode b_Tree_toRight 113 = .ok (.invokevirtual 81, 3) := by decide +kernel
theorem d_Tree_toRight_116 : decode b_Tree_toRight 116 = .ok (.aload_n 0, 1) := by decide +kernel
theorem d_Tree_toRight_117 : decode b_Tree_toRight 117 = .ok (.iload_n 3, 1) := by decide +kernel
theorem d_Tree_toRight_118 : decode b_Tree_toRight 118 = .ok (.iload 5, 2) := by decide +kernel
theorem d_Tree_toRight_120 : decode b_Tree_toRight 120 = .ok (.iload_n 1, 1) := by decide +kernel
theorem d_Tree_toRight_121 : decode b_Tree_toRight 121 = .ok (.iload_n 2, 1) := by decide +kernel
theorem d_Tree_toRight_122 : decode b_Tree_toRight 122 = .ok (.invokevirtual 81, 3) := by decide +kernel
theorem d_Tree_toRight_125 : decode b_Tree_toRight 125 = .ok (.goto 56, 3) := by decide +kernel
theorem d_Tree_toRight_128 : decode b_Tree_toRight 128 = .ok (.aload_n 0, 1) := by decide +kernel
theorem d_Tree_toRight_129 : decode b_Tree_toRight 129 = .ok (.iload_n 1, 1) := by decide +kernel
theorem d_Tree_toRight_130 : decode b_Tree_toRight 130 = .ok (.iload_n 2, 1) := by decide +kernel
theorem d_Tree_toRight_131 : decode b_Tree_toRight 131 = .ok (.iload 4, 2) := by decide +kernel
theorem d_Tree_toRight_133 : decode b_Tree_toRight 133 = .ok (.iconst 0, 1) := by decide +kernel
theorem d_Tree_toRight_134 : decode b_Tree_toRight 134 = .ok (.invokevirtual 81, 3) := by decide +kernel
theorem d_Tree_toRight_137 : decode b_Tree_toRight 137 = .ok (.aload_n 0, 1) := by decide +kernel
theorem d_Tree_toRight_138 : decode b_Tree_toRight 138 = .ok (.getfield 15, 3) := by decide +kernel
theorem d_Tree_toRight_141 : decode b_Tree_toRight 141 = .ok (.bipush 11, 2) := by decide +kernel
theorem d_Tree_toRight_143 : decode b_Tree_toRight 143 = .ok (.iload 4, 2) := by decide +kernel
theorem d_Tree_toRight_145 : decode b_Tree_toRight 145 = .ok (.imul, 1) := by decide +kernel
theorem d_Tree_toRight_146 : decode b_Tree_toRight 146 = .ok (.aload_n 0, 1) := by decide +kernel
theorem d_Tree_toRight_147 : decode b_Tree_toRight 147 = .ok (.iload_n 3, 1) := by decide +kernel
theorem d_Tree_toRight_148 : decode b_Tree_toRight 148 = .ok (.aload_n 0, 1) := by decide +kernel
theorem d_Tree_toRight_149 : decode b_Tree_toRight 149 = .ok (.getfield 18, 3) := by decide +kernel
theorem d_Tree_toRight_152 : decode b_Tree_toRight 152 = .ok (.iload_n 3, 1) := by decide +kernel
theorem d_Tree_toRight_153 : decode b_Tree_toRight 153 = .ok (.iaload, 1) := by decide +kernel
theorem d_Tree_toRight_154 : decode b_Tree_toRight 154 = .ok (.invokevirtual 65, 3) := by decide +kernel
theorem d_Tree_toRight_157 : decode b_Tree_toRight 157 = .ok (.iastore, 1) := by decide +kernel
theorem d_Tree_toRight_158 : decode b_Tree_toRight 158 = .ok (.aload_n 0, 1) := by decide +kernel
theorem d_Tree_toRight_159 : decode b_Tree_toRight 159 = .ok (.iload_n 3, 1) := by decide +kernel
theorem d_Tree_toRight_160 : decode b_Tree_toRight 160 = .ok (.iload 5, 2) := by decide +kernel
theorem d_Tree_toRight_162 : decode b_Tree_toRight 162 = .ok (.iload_n 1, 1) := by decide +kernel
theorem d_Tree_toRight_163 : decode b_Tree_toRight 163 = .ok (.iload_n 2, 1) := by decide +kernel
theorem d_Tree_toRight_164 : decode b_Tree_toRight 164 = .ok (.invokevirtual 81, 3) := by decide +kernel
theorem d_Tree_toRight_167 : decode b_Tree_toRight 167 = .ok (.aload_n 0, 1) := by decide +kernel
theorem d_Tree_toRight_168 : decode b_Tree_toRight 168 = .ok (.getfield 28, 3) := by decide +kernel
theorem d_Tree_toRight_171 : decode b_Tree_toRight 171 = .ok (.aload_n 0, 1) := by decide +kernel
theorem d_Tree_toRight_172 : decode b_Tree_toRight 172 = .ok (.iload 4, 2) := by decide +kernel
theorem d_Tree_toRight_174 : decode b_Tree_toRight 174 = .ok (.iconst 0, 1) := by decide +kernel
theorem d_Tree_toRight_175 : decode b_Tree_toRight 175 = .ok (.invokevirtual 65, 3) := by decide +kernel
theorem d_Tree_toRight_178 : decode b_Tree_toRight 178 = .ok (.iaload, 1) := by decide +kernel
theorem d_Tree_toRight_179 : decode b_Tree_toRight 179 = .ok (.istore 6, 2) := by decide +kernel
theorem d_Tree_toRight_181 : decode b_Tree_toRight 181 = .ok (.aload_n 0, 1) := by decide +kernel
theorem d_Tree_toRight_182 : decode b_Tree_toRight 182 = .ok (.getfield 18, 3) := by decide +kernel
theorem d_Tree_toRight_185 : decode b_Tree_toRight 185 = .ok (.iload_n 3, 1) := by decide +kernel
theorem d_Tree_toRight_186 : decode b_Tree_toRight 186 = .ok (.dup2, 1) := by decide +kernel
theorem d_Tree_toRight_187 : decode b_Tree_toRight 187 = .ok (.iaload, 1) := by decide +kernel
theorem d_Tree_toRight_188 : decode b_Tree_toRight 188 = .ok (.iconst 1, 1) := by decide +kernel
theorem d_Tree_toRight_189 : decode b_Tree_toRight 189 = .ok (.isub, 1) := by decide +kernel
theorem d_Tree_toRight_190 : decode b_Tree_toRight 190 = .ok (.iastore, 1) := by decide +kernel
theorem d_Tree_toRight_191 : decode b_Tree_toRight 191 = .ok (.aload_n 0, 1) := by decide +kernel
theorem d_Tree_toRight_192 : decode b_Tree_toRight 192 = .ok (.getfield 18, 3) := by decide +kernel
theorem d_Tree_toRight_195 : decode b_Tree_toRight 195 = .ok (.iload 4, 2) := by decide +kernel
theorem d_Tree_toRight_197 : decode b_Tree_toRight 197 = .ok (.dup2, 1) := by decide +kernel
theorem d_Tree_toRight_198 : decode b_Tree_toRight 198 = .ok (.iaload, 1) := by decide +kernel
theorem d_Tree_toRight_199 : decode b_Tree_toRight 199 = .ok (.iconst 1, 1) := by decide +kernel
theorem d_Tree_toRight_200 : decode b_Tree_toRight 200 = .ok (.iadd, 1) := by decide +kernel
theorem d_Tree_toRight_201 : decode b_Tree_toRight 201 = .ok (.iastore, 1) := by decide +kernel
theorem d_Tree_toRight_202 : decode b_Tree_toRight 202 = .ok (.aload_n 0, 1) := by decide +kernel
theorem d_Tree_toRight_203 : decode b_Tree_toRight 203 = .ok (.getfield 28, 3) := by decide +kernel
theorem d_Tree_toRight_206 : decode b_Tree_toRight 206 = .ok (.iload_n 3, 1) := by decide +kernel
theorem d_Tree_toRight_207 : decode b_Tree_toRight 207 = .ok (.dup2, 1) := by decide +kernel
theorem d_Tree_toRight_208 : decode b_Tree_toRight 208 = .ok (.iaload, 1) := by decide +kernel
theorem d_Tree_toRight_209 : decode b_Tree_toRight 209 = .ok (.iload 6, 2) := by decide +kernel
theorem d_Tree_toRight_211 : decode b_Tree_toRight 211 = .ok (.isub, 1) := by decide +kernel
theorem d_Tree_toRight_212 : decode b_Tree_toRight 212 = .ok (.iastore, 1) := by decide +kernel
theorem d_Tree_toRight_213 : decode b_Tree_toRight 213 = .ok (.aload_n 0, 1) := by decide +kernel
theorem d_Tree_toRight_214 : decode b_Tree_toRight 214 = .ok (.getfield 28, 3) := by decide +kernel
theorem d_Tree_toRight_217 : decode b_Tree_toRight 217 = .ok (.iload 4, 2) := by decide +kernel
theorem d_Tree_toRight_219 : decode b_Tree_toRight 219 = .ok (.dup2, 1) := by decide +kernel
theorem d_Tree_toRight_220 : decode b_Tree_toRight 220 = .ok (.iaload, 1) := by decide +kernel
theorem d_Tree_toRight_221 : decode b_Tree_toRight 221 = .ok (.iload 6, 2) := by decide +kernel
theorem d_Tree_toRight_223 : decode b_Tree_toRight 223 = .ok (.iadd, 1) := by decide +kernel
theorem d_Tree_toRight_224 : decode b_Tree_toRight 224 = .ok (.iastore, 1) := by decide +kernel
theorem d_Tree_toRight_225 : decode b_Tree_toRight 225 = .ok (.return_, 1) := by decide +kernel
theorem d_Tree_toLeft_0 : decode b_Tree_toLeft 0 = .ok (.iconst 1, 1) := by decide +kernel
theorem d_Tree_toLeft_1 : decode b_Tree_toLeft 1 = .ok (.istore 5, 2) := by decide +kernel
theorem d_Tree_toLeft_3 : decode b_Tree_toLeft 3 = .ok (.aload_n 0, 1) := by decide +kernel
theorem d_Tree_toLeft_4 : decode b_Tree_toLeft 4 = .ok (.getfield 21, 3) := by decide +kernel
theorem d_Tree_toLeft_7 : decode b_Tree_toLeft 7 = .ok (.iload_n 3, 1) := by decide +kernel
theorem d_Tree_toLeft_8 : decode b_Tree_toLeft 8 = .ok (.baload, 1) := by decide +kernel
theorem d_Tree_toLeft_9 : decode b_Tree_toLeft 9 = .ok (.ifCond .eq 46, 3) := by decide +kernel
theorem d_Tree_toLeft_12 : decode b_Tree_toLeft 12 = .ok (.aload_n 0, 1) := by decide +kernel
theorem d_Tree_toLeft_13 : decode b_Tree_toLeft 13 = .ok (.iload 4, 2) := by decide +kernel
theorem d_Tree_toLeft_15 : decode b_Tree_toLeft 15 = .ok (.iconst 0, 1) := by decide +kernel
theorem d_Tree_toLeft_16 : decode b_Tree_toLeft 16 = .ok (.iload_n 3, 1) := by decide +kernel
theorem d_Tree_toLeft_17 : decode b_Tree_toLeft 17 = .ok (.aload_n 0, 1) := by decide +kernel
theorem d_Tree_toLeft_18 : decode b_Tree_toLeft 18 = .ok (.getfield 18, 3) := by decide +kernel
theorem d_Tree_toLeft_21 : decode b_Tree_toLeft 21 = .ok (.iload_n 3, 1) := by decide +kernel
theorem d_Tree_toLeft_22 : decode b_Tree_toLeft 22 = .ok (.iaload, 1) := by decide +kernel
theorem d_Tree_toLeft_23 : decode b_Tree_toLeft 23 = .ok (.invokevirtual 81, 3) := by decide +kernel
theorem d_Tree_toLeft_26 : decode b_Tree_toLeft 26 = .ok (.aload_n 0, 1) := by decide +kernel
theorem d_Tree_toLeft_27 : decode b_Tree_toLeft 27 = .ok (.getfield 18, 3) := by decide +kernel
theorem d_Tree_toLeft_30 : decode b_Tree_toLeft 30 = .ok (.iload_n 3, 1) := by decide +kernel
theorem d_Tree_toLeft_31 : decode b_Tree_toLeft 31 = .ok (.dup2, 1) := by decide +kernel
theorem d_Tree_toLeft_32 : decode b_Tree_toLeft 32 = .ok (.iaload, 1) := by decide +kernel
theorem d_Tree_toLeft_33 : decode b_Tree_toLeft 33 = .ok (.iconst 1, 1) := by decide +kernel
theorem d_Tree_toLeft_34 : decode b_Tree_toLeft 34 = .ok (.iadd, 1) := by decide +kernel
theorem d_Tree_toLeft_35 : decode b_Tree_toLeft 35 = .ok (.iastore, 1) := by decide +kernel
theorem d_Tree_toLeft_36 : decode b_Tree_toLeft 36 = .ok (.aload_n 0, 1) := by decide +kernel
theorem d_Tree_toLeft_37 : decode b_Tree_toLeft 37 = .ok (.iload 4, 2) := by decide +kernel
theorem d_Tree_toLeft_39 : decode b_Tree_toLeft 39 = .ok (.iconst 0, 1) := by decide +kernel
theorem d_Tree_toLeft_40 : decode b_Tree_toLeft 40 = .ok (.invokevirtual 112, 3) := by decide +kernel
theorem d_Tree_toLeft_43 : decode b_Tree_toLeft 43 = .ok (.aload_n 0, 1) := by decide +kernel
theorem d_Tree_toLeft_44 : decode b_Tree_toLeft 44 = .ok (.iload 4, 2) := by decide +kernel
theorem d_Tree_toLeft_46 : decode b_Tree_toLeft 46 = .ok (.iconst 0, 1) := by decide +kernel
theorem d_Tree_toLeft_47 : decode b_Tree_toLeft 47 = .ok (.iload_n 1, 1) := by decide +kernel
theorem d_Tree_toLeft_48 : decode b_Tree_toLeft 48 = .ok (.iload_n 2, 1) := by decide +kernel
theorem d_Tree_toLeft_49 : decode b_Tree_toLeft 49 = .ok (.invokevirtual 81, 3) := by decide +kernel
theorem d_Tree_toLeft_52 : decode b_Tree_toLeft 52 = .ok (.goto 96, 3) := by decide +kernel
theorem d_Tree_toLeft_55 : decode b_Tree_toLeft 55 = .ok (.aload_n 0, 1) := by decide +kernel
theorem d_Tree_toLeft_56 : decode b_Tree_toLeft 56 = .ok (.iload_n 1, 1) := by decide +kernel
theorem d_Tree_toLeft_57 : decode b_Tree_toLeft 57 = .ok (.iload_n 2, 1) := by decide +kernel
theorem d_Tree_toLeft_58 : decode b_Tree_toLeft 58 = .ok (.iload_n 3, 1) := by decide +kernel
theorem d_Tree_toLeft_59 : decode b_Tree_toLeft 59 = .ok (.aload_n 0, 1) := by decide +kernel
theorem d_Tree_toLeft_60 : decode b_Tree_toLeft 60 = .ok (.getfield 18, 3) := by decide +kernel
theorem d_Tree_toLeft_63 : decode b_Tree_toLeft 63 = .ok (.iload_n 3, 1) := by decide +kernel
theorem d_Tree_toLeft_64 : decode b_Tree_toLeft 64 = .ok (.iaload, 1) := by decide +kernel
theorem d_Tree_toLeft_65 : decode b_Tree_toLeft 65 = .ok (.invokevirtual 81, 3) := by decide +kernel
theorem d_Tree_toLeft_68 : decode b_Tree_toLeft 68 = .ok (.aload_n 0, 1) := by decide +kernel
theorem d_Tree_toLeft_69 : decode b_Tree_toLeft 69 = .ok (.getfield 18, 3) := by decide +kernel
theorem d_Tree_toLeft_72 : decode b_Tree_toLeft 72 = .ok (.iload_n 3, 1) := by decide +kernel
theorem d_Tree_toLeft_73 : decode b_Tree_toLeft 73 = .ok (.dup2, 1) := by decide +kernel
theorem d_Tree_toLeft_74 : decode b_Tree_toLeft 74 = .ok (.iaload, 1) := by decide +kernel
theorem d_Tree_toLeft_75 : decode b_Tree_toLeft 75 = .ok (.iconst 1, 1) := by decide +kernel
theorem d_Tree_toLeft_76 : decode b_Tree_toLeft 76 = .ok (.iadd, 1) := by decide +kernel
theorem d_Tree_toLeft_77 : decode b_Tree_toLeft 77 = .ok (.iastore, 1) := by decide +kernel
theorem d_Tree_toLeft_78 : decode b_Tree_toLeft 78 = .ok (.aload_n 0, 1) := by decide +kernel
theorem d_Tree_toLeft_79 : decode b_Tree_toLeft 79 = .ok (.getfield 15, 3) := by decide +kernel
theorem d_Tree_toLeft_82 : decode b_Tree_toLeft 82 = .ok (.bipush 11, 2) := by decide +kernel
theorem d_Tree_toLeft_84 : decode b_Tree_toLeft 84 = .ok (.iload_n 3, 1) := by decide +kernel
theorem d_Tree_toLeft_85 : decode b_Tree_toLeft 85 = .ok (.imul, 1) := by decide +kernel
theorem d_Tree_toLeft_86 : decode b_Tree_toLeft 86 = .ok (.aload_n 0, 1) := by decide +kernel
theorem d_Tree_toLeft_87 : decode b_Tree_toLeft 87 = .ok (.getfield 18, 3) := by decide +kernel
theorem d_Tree_toLeft_90 : decode b_Tree_toLeft 90 = .ok (.iload_n 3, 1) := by decide +kernel
theorem d_Tree_toLeft_91 : decode b_Tree_toLeft 91 = .ok (.iaload, 1) := by decide +kernel
theorem d_Tree_toLeft_92 : decode b_Tree_toLeft 92 = .ok (.iadd, 1) := by decide +kernel
theorem d_Tree_toLeft_93 : decode b_Tree_toLeft 93 = .ok (.aload_n 0, 1) := by decide +kernel
theorem d_Tree_toLeft_94 : decode b_Tree_toLeft 94 = .ok (.iload 4, 2) := by decide +kernel
theorem d_Tree_toLeft_96 : decode b_Tree_toLeft 96 = .ok (.iconst 0, 1) := by decide +kernel
theorem d_Tree_toLeft_97 : decode b_Tree_toLeft 97 = .ok (.invokevirtual 65, 3) := by decide +kernel
theorem d_Tree_toLeft_100 : decode b_Tree_toLeft 100 = .ok (.iastore, 1) := by decide +kernel
theorem d_Tree_toLeft_101 : decode b_Tree_toLeft 101 = .ok (.aload_n 0, 1) := by decide +kernel
theorem d_Tree_toLeft_102 : decode b_Tree_toLeft 102 = .ok (.getfield 28, 3) := by decide +kernel
theorem d_Tree_toLeft_105 : decode b_Tree_toLeft 105 = .ok (.aload_n 0, 1) := by decide +kernel
theorem d_Tree_toLeft_106 : decode b_Tree_toLeft 106 = .ok (.iload 4, 2) := by decide +kernel
theorem d_Tree_toLeft_108 : decode b_Tree_toLeft 108 = .ok (.iconst 0, 1) := by decide +kernel
theorem d_Tree_toLeft_109 : decode b_Tree_toLeft 109 = .ok (.invokevirtual 65, 3) := by decide +kernel
theorem d_Tree_toLeft_112 : decode b_Tree_toLeft 112 = .ok (.iaload, 1) := by decide +kernel
theorem d_Tree_toLeft_113 : decode b_Tree_toLeft 113 = .ok (.istore 5, 2) := by decide +kernel
theorem d_Tree_toLeft_115 : decode b_Tree_toLeft 115 = .ok (.aload_n 0, 1) := by decide +kernel
theorem d_Tree_toLeft_116 : decode b_Tree_toLeft 116 = .ok (.iload 4, 2) := by decide +kernel
theorem d_Tree_toLeft_118 : decode b_Tree_toLeft 118 = .ok (.iconst 0, 1) := by decide +kernel
theorem d_Tree_toLeft_119 : decode b_Tree_toLeft 119 = .ok (.iload_n 1, 1) := by decide +kernel
theorem d_Tree_toLeft_120 : decode b_Tree_toLeft 120 = .ok (.iload_n 2, 1) := by decide +kernel
theorem d_Tree_toLeft_121 : decode b_Tree_toLeft 121 = .ok (.invokevirtual 81, 3) := by decide +kernel
theorem d_Tree_toLeft_124 : decode b_Tree_toLeft 124 = .ok (.aload_n 0, 1) := by decide +kernel
theorem d_Tree_toLeft_125 : decode b_Tree_toLeft 125 = .ok (.getfield 15, 3) := by decide +kernel
theorem d_Tree_toLeft_128 : decode b_Tree_toLeft 128 = .ok (.bipush 11, 2) := by decide +kernel
theorem d_Tree_toLeft_130 : decode b_Tree_toLeft 130 = .ok (.iload 4, 2) := by decide +kernel
theorem d_Tree_toLeft_132 : decode b_Tree_toLeft 132 = .ok (.imul, 1) := by decide +kernel
theorem d_Tree_toLeft_133 : decode b_Tree_toLeft 133 = .ok (.aload_n 0, 1) := by decide +kernel
theorem d_Tree_toLeft_134 : decode b_Tree_toLeft 134 = .ok (.iload 4, 2) := by decide +kernel
theorem d_Tree_toLeft_136 : decode b_Tree_toLeft 136 = .ok (.iconst 1, 1) := by decide +kernel
theorem d_Tree_toLeft_137 : decode b_Tree_toLeft 137 = .ok (.invokevirtual 65, 3) := by decide +kernel
theorem d_Tree_toLeft_140 : decode b_Tree_toLeft 140 = .ok (.iastore, 1) := by decide +kernel
theorem d_Tree_toLeft_141 : decode b_Tree_toLeft 141 = .ok (.aload_n 0, 1) := by decide +kernel
theorem d_Tree_toLeft_142 : decode b_Tree_toLeft 142 = .ok (.iload 4, 2) := by decide +kernel
theorem d_Tree_toLeft_144 : decode b_Tree_toLeft 144 = .ok (.iconst 0, 1) := by decide +kernel
theorem d_Tree_toLeft_145 : decode b_Tree_toLeft 145 = .ok (.invokevirtual 112, 3) := by decide +kernel
theorem d_Tree_toLeft_148 : decode b_Tree_toLeft 148 = .ok (.aload_n 0, 1) := by decide +kernel
theorem d_Tree_toLeft_149 : decode b_Tree_toLeft 149 = .ok (.getfield 28, 3) := by decide +kernel
theorem d_Tree_toLeft_152 : decode b_Tree_toLeft 152 = .ok (.iload_n 3, 1) := by decide +kernel
theorem d_Tree_toLeft_153 : decode b_Tree_toLeft 153 = .ok (.dup2, 1) := by decide +kernel
theorem d_Tree_toLeft_154 : decode b_Tree_toLeft 154 = .ok (.iaload, 1) := by decide +kernel
theorem d_Tree_toLeft_155 : decode b_Tree_toLeft 155 = .ok (.iload 5, 2) := by decide +kernel
theorem d_Tree_toLeft_157 : decode b_Tree_toLeft 157 = .ok (.iadd, 1) := by decide +kernel
theorem d_Tree_toLeft_158 : decode b_Tree_toLeft 158 = .ok (.iastore, 1) := by decide +kernel
theorem d_Tree_toLeft_159 : decode b_Tree_toLeft 159 = .ok (.aload_n 0, 1) := by decide +kernel
theorem d_Tree_toLeft_160 : decode b_Tree_toLeft 160 = .ok (.getfield 28, 3) := by decide +kernel
theorem d_Tree_toLeft_163 : decode b_Tree_toLeft 163 = .ok (.iload 4, 2) := by decide +kernel
theorem d_Tree_toLeft_165 : decode b_Tree_toLeft 165 = .ok (.dup2, 1) := by decide +kernel
theorem d_Tree_toLeft_166 : decode b_Tree_toLeft 166 = .ok (.iaload, 1) := by decide +kernel
theorem d_Tree_toLeft_167 : decode b_Tree_toLeft 167 = .ok (.iload 5, 2) := by decide +kernel
theorem d_Tree_toLeft_169 : decode b_Tree_toLeft 169 = .ok (.isub, 1) := by decide +kernel
theorem d_Tree_toLeft_170 : decode b_Tree_toLeft 170 = .ok (.iastore, 1) := by decide +kernel
theorem d_Tree_toLeft_171 : decode b_Tree_toLeft 171 = .ok (.return_, 1) := by decide +kernel
