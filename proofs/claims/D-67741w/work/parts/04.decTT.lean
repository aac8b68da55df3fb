theorem d_TT_init_0 : decode b_TT_init 0 = .ok (.aload_n 0, 1) := by decide +kernel
theorem d_TT_init_1 : decode b_TT_init 1 = .ok (.invokespecial 1, 3) := by decide +kernel
theorem d_TT_init_4 : decode b_TT_init 4 = .ok (.aload_n 0, 1) := by decide +kernel
theorem d_TT_init_5 : decode b_TT_init 5 = .ok (.iconst 3, 1) := by decide +kernel
theorem d_TT_init_6 : decode b_TT_init 6 = .ok (.anewarray 7, 3) := by decide +kernel
theorem d_TT_init_9 : decode b_TT_init 9 = .ok (.putfield 9, 3) := by decide +kernel
theorem d_TT_init_12 : decode b_TT_init 12 = .ok (.aload_n 0, 1) := by decide +kernel
theorem d_TT_init_13 : decode b_TT_init 13 = .ok (.bipush 8, 2) := by decide +kernel
theorem d_TT_init_15 : decode b_TT_init 15 = .ok (.anewarray 15, 3) := by decide +kernel
theorem d_TT_init_18 : decode b_TT_init 18 = .ok (.putfield 17, 3) := by decide +kernel
theorem d_TT_init_21 : decode b_TT_init 21 = .ok (.aload_n 0, 1) := by decide +kernel
theorem d_TT_init_22 : decode b_TT_init 22 = .ok (.sipush 1500, 3) := by decide +kernel
theorem d_TT_init_25 : decode b_TT_init 25 = .ok (.newarray .int, 2) := by decide +kernel
theorem d_TT_init_27 : decode b_TT_init 27 = .ok (.putfield 21, 3) := by decide +kernel
theorem d_TT_init_30 : decode b_TT_init 30 = .ok (.aload_n 0, 1) := by decide +kernel
theorem d_TT_init_31 : decode b_TT_init 31 = .ok (.sipush 1500, 3) := by decide +kernel
theorem d_TT_init_34 : decode b_TT_init 34 = .ok (.newarray .int, 2) := by decide +kernel
theorem d_TT_init_36 : decode b_TT_init 36 = .ok (.putfield 25, 3) := by decide +kernel
theorem d_TT_init_39 : decode b_TT_init 39 = .ok (.aload_n 0, 1) := by decide +kernel
theorem d_TT_init_40 : decode b_TT_init 40 = .ok (.new 15, 3) := by decide +kernel
theorem d_TT_init_43 : decode b_TT_init 43 = .ok (.dup, 1) := by decide +kernel
theorem d_TT_init_44 : decode b_TT_init 44 = .ok (.invokespecial 28, 3) := by decide +kernel
theorem d_TT_init_47 : decode b_TT_init 47 = .ok (.putfield 29, 3) := by decide +kernel
theorem d_TT_init_50 : decode b_TT_init 50 = .ok (.aload_n 0, 1) := by decide +kernel
theorem d_TT_init_51 : decode b_TT_init 51 = .ok (.new 15, 3) := by decide +kernel
theorem d_TT_init_54 : decode b_TT_init 54 = .ok (.dup, 1) := by decide +kernel
theorem d_TT_init_55 : decode b_TT_init 55 = .ok (.invokespecial 28, 3) := by decide +kernel
theorem d_TT_init_58 : decode b_TT_init 58 = .ok (.putfield 33, 3) := by decide +kernel
theorem d_TT_init_61 : decode b_TT_init 61 = .ok (.iconst 0, 1) := by decide +kernel
theorem d_TT_init_62 : decode b_TT_init 62 = .ok (.istore_n 1, 1) := by decide +kernel
theorem d_TT_init_63 : decode b_TT_init 63 = .ok (.iload_n 1, 1) := by decide +kernel
theorem d_TT_init_64 : decode b_TT_init 64 = .ok (.iconst 3, 1) := by decide +kernel
theorem d_TT_init_65 : decode b_TT_init 65 = .ok (.if_icmp .ge 22, 3) := by decide +kernel
theorem d_TT_init_68 : decode b_TT_init 68 = .ok (.aload_n 0, 1) := by decide +kernel
theorem d_TT_init_69 : decode b_TT_init 69 = .ok (.getfield 9, 3) := by decide +kernel
theorem d_TT_init_72 : decode b_TT_init 72 = .ok (.iload_n 1, 1) := by decide +kernel
theorem d_TT_init_73 : decode b_TT_init 73 = .ok (.new 7, 3) := by decide +kernel
theorem d_TT_init_76 : decode b_TT_init 76 = .ok (.dup, 1) := by decide +kernel
theorem d_TT_init_77 : decode b_TT_init 77 = .ok (.invokespecial 36, 3) := by decide +kernel
theorem d_TT_init_80 : decode b_TT_init 80 = .ok (.aastore, 1) := by decide +kernel
theorem d_TT_init_81 : decode b_TT_init 81 = .ok (.iinc 1 1, 3) := by decide +kernel
theorem d_TT_init_84 : decode b_TT_init 84 = .ok (.goto (-21), 3) := by decide +kernel
theorem d_TT_init_87 : decode b_TT_init 87 = .ok (.iconst 0, 1) := by decide +kernel
theorem d_TT_init_88 : decode b_TT_init 88 = .ok (.istore_n 1, 1) := by decide +kernel
theorem d_TT_init_89 : decode b_TT_init 89 = .ok (.iload_n 1, 1) := by decide +kernel
theorem d_TT_init_90 : decode b_TT_init 90 = .ok (.bipush 8, 2) := by decide +kernel
theorem d_TT_init_92 : decode b_TT_init 92 = .ok (.if_icmp .ge 22, 3) := by decide +kernel
theorem d_TT_init_95 : decode b_TT_init 95 = .ok (.aload_n 0, 1) := by decide +kernel
theorem d_TT_init_96 : decode b_TT_init 96 = .ok (.getfield 17, 3) := by decide +kernel
theorem d_TT_init_99 : decode b_TT_init 99 = .ok (.iload_n 1, 1) := by decide +kernel
theorem d_TT_init_100 : decode b_TT_init 100 = .ok (.new 15, 3) := by decide +kernel
theorem d_TT_init_103 : decode b_TT_init 103 = .ok (.dup, 1) := by decide +kernel
theorem d_TT_init_104 : decode b_TT_init 104 = .ok (.invokespecial 28, 3) := by decide +kernel
theorem d_TT_init_107 : decode b_TT_init 107 = .ok (.aastore, 1) := by decide +kernel
theorem d_TT_init_108 : decode b_TT_init 108 = .ok (.iinc 1 1, 3) := by decide +kernel
theorem d_TT_init_111 : decode b_TT_init 111 = .ok (.goto (-22), 3) := by decide +kernel
theorem d_TT_init_114 : decode b_TT_init 114 = .ok (.return_, 1) := by decide +kernel
theorem d_TT_tell_0 : decode b_TT_tell 0 = .ok (.aload_n 0, 1) := by decide +kernel
theorem d_TT_tell_1 : decode b_TT_tell 1 = .ok (.getfield 9, 3) := by decide +kernel
theorem d_TT_tell_4 : decode b_TT_tell 4 = .ok (.iload_n 1, 1) := by decide +kernel
theorem d_TT_tell_5 : decode b_TT_tell 5 = .ok (.aaload, 1) := by decide +kernel
theorem d_TT_tell_6 : decode b_TT_tell 6 = .ok (.astore 5, 2) := by decide +kernel
theorem d_TT_tell_8 : decode b_TT_tell 8 = .ok (.iload_n 1, 1) := by decide +kernel
theorem d_TT_tell_9 : decode b_TT_tell 9 = .ok (.ifCond .ne 15, 3) := by decide +kernel
theorem d_TT_tell_12 : decode b_TT_tell 12 = .ok (.aload 5, 2) := by decide +kernel
theorem d_TT_tell_14 : decode b_TT_tell 14 = .ok (.iload_n 2, 1) := by decide +kernel
theorem d_TT_tell_15 : decode b_TT_tell 15 = .ok (.iload_n 3, 1) := by decide +kernel
theorem d_TT_tell_16 : decode b_TT_tell 16 = .ok (.iload 4, 2) := by decide +kernel
theorem d_TT_tell_18 : decode b_TT_tell 18 = .ok (.invokevirtual 37, 3) := by decide +kernel
theorem d_TT_tell_21 : decode b_TT_tell 21 = .ok (.goto 29, 3) := by decide +kernel
theorem d_TT_tell_24 : decode b_TT_tell 24 = .ok (.iload_n 1, 1) := by decide +kernel
theorem d_TT_tell_25 : decode b_TT_tell 25 = .ok (.iconst 1, 1) := by decide +kernel
theorem d_TT_tell_26 : decode b_TT_tell 26 = .ok (.if_icmp .ne 15, 3) := by decide +kernel
theorem d_TT_tell_29 : decode b_TT_tell 29 = .ok (.aload 5, 2) := by decide +kernel
theorem d_TT_tell_31 : decode b_TT_tell 31 = .ok (.iload_n 3, 1) := by decide +kernel
theorem d_TT_tell_32 : decode b_TT_tell 32 = .ok (.iload 4, 2) := by decide +kernel
theorem d_TT_tell_34 : decode b_TT_tell 34 = .ok (.iload_n 2, 1) := by decide +kernel
theorem d_TT_tell_35 : decode b_TT_tell 35 = .ok (.invokevirtual 37, 3) := by decide +kernel
theorem d_TT_tell_38 : decode b_TT_tell 38 = .ok (.goto 12, 3) := by decide +kernel
theorem d_TT_tell_41 : decode b_TT_tell 41 = .ok (.aload 5, 2) := by decide +kernel
theorem d_TT_tell_43 : decode b_TT_tell 43 = .ok (.iload 4, 2) := by decide +kernel
theorem d_TT_tell_45 : decode b_TT_tell 45 = .ok (.iload_n 2, 1) := by decide +kernel
theorem d_TT_tell_46 : decode b_TT_tell 46 = .ok (.iload_n 3, 1) := by decide +kernel
theorem d_TT_tell_47 : decode b_TT_tell 47 = .ok (.invokevirtual 37, 3) := by decide +kernel
theorem d_TT_tell_50 : decode b_TT_tell 50 = .ok (.aload 5, 2) := by decide +kernel
theorem d_TT_tell_52 : decode b_TT_tell 52 = .ok (.areturn, 1) := by decide +kernel
theorem d_TT_add_0 : decode b_TT_add 0 = .ok (.aload_n 0, 1) := by decide +kernel
theorem d_TT_add_1 : decode b_TT_add 1 = .ok (.iconst 0, 1) := by decide +kernel
theorem d_TT_add_2 : decode b_TT_add 2 = .ok (.iload_n 1, 1) := by decide +kernel
theorem d_TT_add_3 : decode b_TT_add 3 = .ok (.iload_n 2, 1) := by decide +kernel
theorem d_TT_add_4 : decode b_TT_add 4 = .ok (.iload_n 3, 1) := by decide +kernel
theorem d_TT_add_5 : decode b_TT_add 5 = .ok (.invokevirtual 41, 3) := by decide +kernel
theorem d_TT_add_8 : decode b_TT_add 8 = .ok (.invokevirtual 44, 3) := by decide +kernel
theorem d_TT_add_11 : decode b_TT_add 11 = .ok (.ifCond .eq 5, 3) := by decide +kernel
theorem d_TT_add_14 : decode b_TT_add 14 = .ok (.iconst 0, 1) := by decide +kernel
theorem d_TT_add_15 : decode b_TT_add 15 = .ok (.ireturn, 1) := by decide +kernel
theorem d_TT_add_16 : decode b_TT_add 16 = .ok (.aload_n 0, 1) := by decide +kernel
theorem d_TT_add_17 : decode b_TT_add 17 = .ok (.getfield 48, 3) := by decide +kernel
theorem d_TT_add_20 : decode b_TT_add 20 = .ok (.sipush 700, 3) := by decide +kernel
theorem d_TT_add_23 : decode b_TT_add 23 = .ok (.if_icmp .ne 6, 3) := by decide +kernel
theorem d_TT_add_26 : decode b_TT_add 26 = .ok (.bipush (-2), 2) := by decide +kernel
theorem d_TT_add_28 : decode b_TT_add 28 = .ok (.ireturn, 1) := by decide +kernel
theorem d_TT_add_29 : decode b_TT_add 29 = .ok (.iconst 0, 1) := by decide +kernel
theorem d_TT_add_30 : decode b_TT_add 30 = .ok (.istore 4, 2) := by decide +kernel
theorem d_TT_add_32 : decode b_TT_add 32 = .ok (.iload 4, 2) := by decide +kernel
theorem d_TT_add_34 : decode b_TT_add 34 = .ok (.iconst 3, 1) := by decide +kernel
theorem d_TT_add_35 : decode b_TT_add 35 = .ok (.if_icmp .ge 21, 3) := by decide +kernel
theorem d_TT_add_38 : decode b_TT_add 38 = .ok (.aload_n 0, 1) := by decide +kernel
theorem d_TT_add_39 : decode b_TT_add 39 = .ok (.iload 4, 2) := by decide +kernel
theorem d_TT_add_41 : decode b_TT_add 41 = .ok (.iload_n 1, 1) := by decide +kernel
theorem d_TT_add_42 : decode b_TT_add 42 = .ok (.iload_n 2, 1) := by decide +kernel
theorem d_TT_add_43 : decode b_TT_add 43 = .ok (.iload_n 3, 1) := by decide +kernel
theorem d_TT_add_44 : decode b_TT_add 44 = .ok (.invokevirtual 41, 3) := by decide +kernel
theorem d_TT_add_47 : decode b_TT_add 47 = .ok (.invokevirtual 52, 3) := by decide +kernel
theorem d_TT_add_50 : decode b_TT_add 50 = .ok (.iinc 4 1, 3) := by decide +kernel
theorem d_TT_add_53 : decode b_TT_add 53 = .ok (.goto (-21), 3) := by decide +kernel
theorem d_TT_add_56 : decode b_TT_add 56 = .ok (.aload_n 0, 1) := by decide +kernel
theorem d_TT_add_57 : decode b_TT_add 57 = .ok (.dup, 1) := by decide +kernel
theorem d_TT_add_58 : decode b_TT_add 58 = .ok (.getfield 48, 3) := by decide +kernel
theorem d_TT_add_61 : decode b_TT_add 61 = .ok (.iconst 1, 1) := by decide +kernel
theorem d_TT_add_62 : decode b_TT_add 62 = .ok (.iadd, 1) := by decide +kernel
theorem d_TT_add_63 : decode b_TT_add 63 = .ok (.putfield 48, 3) := by decide +kernel
theorem d_TT_add_66 : decode b_TT_add 66 = .ok (.aload_n 0, 1) := by decide +kernel
theorem d_TT_add_67 : decode b_TT_add 67 = .ok (.dup, 1) := by decide +kernel
theorem d_TT_add_68 : decode b_TT_add 68 = .ok (.getfield 55, 3) := by decide +kernel
theorem d_TT_add_71 : decode b_TT_add 71 = .ok (.iconst 1, 1) := by decide +kernel
theorem d_TT_add_72 : decode b_TT_add 72 = .ok (.iadd, 1) := by decide +kernel
theorem d_TT_add_73 : decode b_TT_add 73 = .ok (.putfield 55, 3) := by decide +kernel
theorem d_TT_add_76 : decode b_TT_add 76 = .ok (.iconst 1, 1) := by decide +kernel
theorem d_TT_add_77 : decode b_TT_add 77 = .ok (.ireturn, 1) := by decide +kernel
theorem d_TT_remove_0 : decode b_TT_remove 0 = .ok (.aload_n 0, 1) := by decide +kernel
theorem d_TT_remove_1 : decode b_TT_remove 1 = .ok (.iconst 0, 1) := by decide +kernel
theorem d_TT_remove_2 : decode b_TT_remove 2 = .ok (.iload_n 1, 1) := by decide +kernel
theorem d_TT_remove_3 : decode b_TT_remove 3 = .ok (.iload_n 2, 1) := by decide +kernel
theorem d_TT_remove_4 : decode b_TT_remove 4 = .ok (.iload_n 3, 1) := by decide +kernel
theorem d_TT_remove_5 : decode b_TT_remove 5 = .ok (.invokevirtual 41, 3) := by decide +kernel
theorem d_TT_remove_8 : decode b_TT_remove 8 = .ok (.invokevirtual 44, 3) := by decide +kernel
theorem d_TT_remove_11 : decode b_TT_remove 11 = .ok (.ifCond .ne 5, 3) := by decide +kernel
theorem d_TT_remove_14 : decode b_TT_remove 14 = .ok (.iconst 0, 1) := by decide +kernel
theorem d_TT_remove_15 : decode b_TT_remove 15 = .ok (.ireturn, 1) := by decide +kernel
theorem d_TT_remove_16 : decode b_TT_remove 16 = .ok (.iconst 0, 1) := by decide +kernel
theorem d_TT_remove_17 : decode b_TT_remove 17 = .ok (.istore 4, 2) := by decide +kernel
theorem d_TT_remove_19 : decode b_TT_remove 19 = .ok (.iload 4, 2) := by decide +kernel
theorem d_TT_remove_21 : decode b_TT_remove 21 = .ok (.iconst 3, 1) := by decide +kernel
theorem d_TT_remove_22 : decode b_TT_remove 22 = .ok (.if_icmp .ge 21, 3) := by decide +kernel
theorem d_TT_remove_25 : decode b_TT_remove 25 = .ok (.aload_n 0, 1) := by decide +kernel
theorem d_TT_remove_26 : decode b_TT_remove 26 = .ok (.iload 4, 2) := by decide +kernel
theorem d_TT_remove_28 : decode b_TT_remove 28 = .ok (.iload_n 1, 1) := by decide +kernel
theorem d_TT_remove_29 : decode b_TT_remove 29 = .ok (.iload_n 2, 1) := by decide +kernel
theorem d_TT_remove_30 : decode b_TT_remove 30 = .ok (.iload_n 3, 1) := by decide +kernel
theorem d_TT_remove_31 : decode b_TT_remove 31 = .ok (.invokevirtual 41, 3) := by decide +kernel
theorem d_TT_remove_34 : decode b_TT_remove 34 = .ok (.invokevirtual 58, 3) := by decide +kernel
theorem d_TT_remove_37 : decode b_TT_remove 37 = .ok (.iinc 4 1, 3) := by decide +kernel
theorem d_TT_remove_40 : decode b_TT_remove 40 = .ok (.goto (-21), 3) := by decide +kernel
theorem d_TT_remove_43 : decode b_TT_remove 43 = .ok (.aload_n 0, 1) := by decide +kernel
theorem d_TT_remove_44 : decode b_TT_remove 44 = .ok (.dup, 1) := by decide +kernel
theorem d_TT_remove_45 : decode b_TT_remove 45 = .ok (.getfield 48, 3) := by decide +kernel
theorem d_TT_remove_48 : decode b_TT_remove 48 = .ok (.iconst 1, 1) := by decide +kernel
theorem d_TT_remove_49 : decode b_TT_remove 49 = .ok (.isub, 1) := by decide +kernel
theorem d_TT_remove_50 : decode b_TT_remove 50 = .ok (.putfield 48, 3) := by decide +kernel
theorem d_TT_remove_53 : decode b_TT_remove 53 = .ok (.aload_n 0, 1) := by decide +kernel
theorem d_TT_remove_54 : decode b_TT_remove 54 = .ok (.dup, 1) := by decide +kernel
theorem d_TT_remove_55 : decode b_TT_remove 55 = .ok (.getfield 55, 3) := by decide +kernel
theorem d_TT_remove_58 : decode b_TT_remove 58 = .ok (.iconst 1, 1) := by decide +kernel
theorem d_TT_remove_59 : decode b_TT_remove 59 = .ok (.iadd, 1) := by decide +kernel
theorem d_TT_remove_60 : decode b_TT_remove 60 = .ok (.putfield 55, 3) := by decide +kernel
theorem d_TT_remove_63 : decode b_TT_remove 63 = .ok (.iconst 1, 1) := by decide +kernel
theorem d_TT_remove_64 : decode b_TT_remove 64 = .ok (.ireturn, 1) := by decide +kernel
theorem d_TT_holds_0 : decode b_TT_holds 0 = .ok (.aload_n 0, 1) := by decide +kernel
theorem d_TT_holds_1 : decode b_TT_holds 1 = .ok (.iconst 0, 1) := by decide +kernel
theorem d_TT_holds_2 : decode b_TT_holds 2 = .ok (.iload_n 1, 1) := by decide +kernel
theorem d_TT_holds_3 : decode b_TT_holds 3 = .ok (.iload_n 2, 1) := by decide +kernel
theorem d_TT_holds_4 : decode b_TT_holds 4 = .ok (.iload_n 3, 1) := by decide +kernel
theorem d_TT_holds_5 : decode b_TT_holds 5 = .ok (.invokevirtual 41, 3) := by decide +kernel
theorem d_TT_holds_8 : decode b_TT_holds 8 = .ok (.invokevirtual 44, 3) := by decide +kernel
theorem d_TT_holds_11 : decode b_TT_holds 11 = .ok (.ireturn, 1) := by decide +kernel
theorem d_TT_isMask_0 : decode b_TT_isMask 0 = .ok (.iload_n 0, 1) := by decide +kernel
theorem d_TT_isMask_1 : decode b_TT_isMask 1 = .ok (.ifCond .lt 13, 3) := by decide +kernel
theorem d_TT_isMask_4 : decode b_TT_isMask 4 = .ok (.iload_n 0, 1) := by decide +kernel
theorem d_TT_isMask_5 : decode b_TT_isMask 5 = .ok (.bipush 8, 2) := by decide +kernel
theorem d_TT_isMask_7 : decode b_TT_isMask 7 = .ok (.if_icmp .ge 7, 3) := by decide +kernel
theorem d_TT_isMask_10 : decode b_TT_isMask 10 = .ok (.iconst 1, 1) := by decide +kernel
theorem d_TT_isMask_11 : decode b_TT_isMask 11 = .ok (.goto 4, 3) := by decide +kernel
theorem d_TT_isMask_14 : decode b_TT_isMask 14 = .ok (.iconst 0, 1) := by decide +kernel
theorem d_TT_isMask_15 : decode b_TT_isMask 15 = .ok (.ireturn, 1) := by decide +kernel
theorem d_TT_orderOf_0 : decode b_TT_orderOf 0 = .ok (.iload_n 0, 1) := by decide +kernel
theorem d_TT_orderOf_1 : decode b_TT_orderOf 1 = .ok (.iconst 2, 1) := by decide +kernel
theorem d_TT_orderOf_2 : decode b_TT_orderOf 2 = .ok (.if_icmp .eq 9, 3) := by decide +kernel
theorem d_TT_orderOf_5 : decode b_TT_orderOf 5 = .ok (.iload_n 0, 1) := by decide +kernel
theorem d_TT_orderOf_6 : decode b_TT_orderOf 6 = .ok (.bipush 6, 2) := by decide +kernel
theorem d_TT_orderOf_8 : decode b_TT_orderOf 8 = .ok (.if_icmp .ne 7, 3) := by decide +kernel
theorem d_TT_orderOf_11 : decode b_TT_orderOf 11 = .ok (.iconst 1, 1) := by decide +kernel
theorem d_TT_orderOf_12 : decode b_TT_orderOf 12 = .ok (.goto 18, 3) := by decide +kernel
theorem d_TT_orderOf_15 : decode b_TT_orderOf 15 = .ok (.iload_n 0, 1) := by decide +kernel
theorem d_TT_orderOf_16 : decode b_TT_orderOf 16 = .ok (.iconst 4, 1) := by decide +kernel
theorem d_TT_orderOf_17 : decode b_TT_orderOf 17 = .ok (.if_icmp .eq 8, 3) := by decide +kernel
theorem d_TT_orderOf_20 : decode b_TT_orderOf 20 = .ok (.iload_n 0, 1) := by decide +kernel
theorem d_TT_orderOf_21 : decode b_TT_orderOf 21 = .ok (.iconst 5, 1) := by decide +kernel
theorem d_TT_orderOf_22 : decode b_TT_orderOf 22 = .ok (.if_icmp .ne 7, 3) := by decide +kernel
theorem d_TT_orderOf_25 : decode b_TT_orderOf 25 = .ok (.iconst 2, 1) := by decide +kernel
theorem d_TT_orderOf_26 : decode b_TT_orderOf 26 = .ok (.goto 4, 3) := by decide +kernel
theorem d_TT_orderOf_29 : decode b_TT_orderOf 29 = .ok (.iconst 0, 1) := by decide +kernel
theorem d_TT_orderOf_30 : decode b_TT_orderOf 30 = .ok (.ireturn, 1) := by decide +kernel
theorem d_TT_begin_0 : decode b_TT_begin 0 = .ok (.aload_n 1, 1) := by decide +kernel
theorem d_TT_begin_1 : decode b_TT_begin 1 = .ok (.iconst 1, 1) := by decide +kernel
theorem d_TT_begin_2 : decode b_TT_begin 2 = .ok (.putfield 61, 3) := by decide +kernel
theorem d_TT_begin_5 : decode b_TT_begin 5 = .ok (.aload_n 1, 1) := by decide +kernel
theorem d_TT_begin_6 : decode b_TT_begin 6 = .ok (.aload_n 0, 1) := by decide +kernel
theorem d_TT_begin_7 : decode b_TT_begin 7 = .ok (.getfield 55, 3) := by decide +kernel
theorem d_TT_begin_10 : decode b_TT_begin 10 = .ok (.putfield 65, 3) := by decide +kernel
theorem d_TT_begin_13 : decode b_TT_begin 13 = .ok (.aload_n 1, 1) := by decide +kernel
theorem d_TT_begin_14 : decode b_TT_begin 14 = .ok (.iload_n 2, 1) := by decide +kernel
theorem d_TT_begin_15 : decode b_TT_begin 15 = .ok (.invokestatic 68, 3) := by decide +kernel
theorem d_TT_begin_18 : decode b_TT_begin 18 = .ok (.putfield 72, 3) := by decide +kernel
theorem d_TT_begin_21 : decode b_TT_begin 21 = .ok (.aload_n 1, 1) := by decide +kernel
theorem d_TT_begin_22 : decode b_TT_begin 22 = .ok (.iload_n 2, 1) := by decide +kernel
theorem d_TT_begin_23 : decode b_TT_begin 23 = .ok (.invokestatic 75, 3) := by decide +kernel
theorem d_TT_begin_26 : decode b_TT_begin 26 = .ok (.putfield 80, 3) := by decide +kernel
theorem d_TT_begin_29 : decode b_TT_begin 29 = .ok (.aload_n 1, 1) := by decide +kernel
theorem d_TT_begin_30 : decode b_TT_begin 30 = .ok (.iconst 0, 1) := by decide +kernel
theorem d_TT_begin_31 : decode b_TT_begin 31 = .ok (.putfield 83, 3) := by decide +kernel
theorem d_TT_begin_34 : decode b_TT_begin 34 = .ok (.aload_n 0, 1) := by decide +kernel
theorem d_TT_begin_35 : decode b_TT_begin 35 = .ok (.aload_n 1, 1) := by decide +kernel
theorem d_TT_begin_36 : decode b_TT_begin 36 = .ok (.getfield 72, 3) := by decide +kernel
theorem d_TT_begin_39 : decode b_TT_begin 39 = .ok (.iload_n 3, 1) := by decide +kernel
theorem d_TT_begin_40 : decode b_TT_begin 40 = .ok (.iload 4, 2) := by decide +kernel
theorem d_TT_begin_42 : decode b_TT_begin 42 = .ok (.iload 5, 2) := by decide +kernel
theorem d_TT_begin_44 : decode b_TT_begin 44 = .ok (.invokevirtual 41, 3) := by decide +kernel
theorem d_TT_begin_47 : decode b_TT_begin 47 = .ok (.astore 6, 2) := by decide +kernel
theorem d_TT_begin_49 : decode b_TT_begin 49 = .ok (.iconst 0, 1) := by decide +kernel
theorem d_TT_begin_50 : decode b_TT_begin 50 = .ok (.istore 7, 2) := by decide +kernel
theorem d_TT_begin_52 : decode b_TT_begin 52 = .ok (.iload 7, 2) := by decide +kernel
theorem d_TT_begin_54 : decode b_TT_begin 54 = .ok (.iconst 3, 1) := by decide +kernel
theorem d_TT_begin_55 : decode b_TT_begin 55 = .ok (.if_icmp .ge 54, 3) := by decide +kernel
theorem d_TT_begin_58 : decode b_TT_begin 58 = .ok (.aload_n 1, 1) := by decide +kernel
theorem d_TT_begin_59 : decode b_TT_begin 59 = .ok (.getfield 85, 3) := by decide +kernel
theorem d_TT_begin_62 : decode b_TT_begin 62 = .ok (.iload 7, 2) := by decide +kernel
theorem d_TT_begin_64 : decode b_TT_begin 64 = .ok (.aload 6, 2) := by decide +kernel
theorem d_TT_begin_66 : decode b_TT_begin 66 = .ok (.getfield 88, 3) := by decide +kernel
theorem d_TT_begin_69 : decode b_TT_begin 69 = .ok (.iload 7, 2) := by decide +kernel
theorem d_TT_begin_71 : decode b_TT_begin 71 = .ok (.iaload, 1) := by decide +kernel
theorem d_TT_begin_72 : decode b_TT_begin 72 = .ok (.iastore, 1) := by decide +kernel
theorem d_TT_begin_73 : decode b_TT_begin 73 = .ok (.aload 6, 2) := by decide +kernel
theorem d_TT_begin_75 : decode b_TT_begin 75 = .ok (.getfield 88, 3) := by decide +kernel
theorem d_TT_begin_78 : decode b_TT_begin 78 = .ok (.iload 7, 2) := by decide +kernel
theorem d_TT_begin_80 : decode b_TT_begin 80 = .ok (.iload 7, 2) := by decide +kernel
theorem d_TT_begin_82 : decode b_TT_begin 82 = .ok (.aload_n 1, 1) := by decide +kernel
theorem d_TT_begin_83 : decode b_TT_begin 83 = .ok (.getfield 80, 3) := by decide +kernel
theorem d_TT_begin_86 : decode b_TT_begin 86 = .ok (.if_icmp .ge 14, 3) := by decide +kernel
theorem d_TT_begin_89 : decode b_TT_begin 89 = .ok (.aload 6, 2) := by decide +kernel
theorem d_TT_begin_91 : decode b_TT_begin 91 = .ok (.getfield 88, 3) := by decide +kernel
theorem d_TT_begin_94 : decode b_TT_begin 94 = .ok (.iload 7, 2) := by decide +kernel
theorem d_TT_begin_96 : decode b_TT_begin 96 = .ok (.iaload, 1) := by decide +kernel
theorem d_TT_begin_97 : decode b_TT_begin 97 = .ok (.goto 5, 3) := by decide +kernel
theorem d_TT_begin_100 : decode b_TT_begin 100 = .ok (.ldc 91, 2) := by decide +kernel
theorem d_TT_begin_102 : decode b_TT_begin 102 = .ok (.iastore, 1) := by decide +kernel
theorem d_TT_begin_103 : decode b_TT_begin 103 = .ok (.iinc 7 1, 3) := by decide +kernel
theorem d_TT_begin_106 : decode b_TT_begin 106 = .ok (.goto (-54), 3) := by decide +kernel
theorem d_TT_begin_109 : decode b_TT_begin 109 = .ok (.aload_n 1, 1) := by decide +kernel
theorem d_TT_begin_110 : decode b_TT_begin 110 = .ok (.aload 6, 2) := by decide +kernel
theorem d_TT_begin_112 : decode b_TT_begin 112 = .ok (.invokevirtual 92, 3) := by decide +kernel
theorem d_TT_begin_115 : decode b_TT_begin 115 = .ok (.putfield 96, 3) := by decide +kernel
theorem d_TT_begin_118 : decode b_TT_begin 118 = .ok (.aload_n 1, 1) := by decide +kernel
theorem d_TT_begin_119 : decode b_TT_begin 119 = .ok (.aload 6, 2) := by decide +kernel
theorem d_TT_begin_121 : decode b_TT_begin 121 = .ok (.aload_n 1, 1) := by decide +kernel
theorem d_TT_begin_122 : decode b_TT_begin 122 = .ok (.getfield 96, 3) := by decide +kernel
theorem d_TT_begin_125 : decode b_TT_begin 125 = .ok (.invokevirtual 98, 3) := by decide +kernel
theorem d_TT_begin_128 : decode b_TT_begin 128 = .ok (.putfield 101, 3) := by decide +kernel
theorem d_TT_begin_131 : decode b_TT_begin 131 = .ok (.return_, 1) := by decide +kernel
theorem d_TT_step_0 : decode b_TT_step 0 = .ok (.aload_n 0, 1) := by decide +kernel
theorem d_TT_step_1 : decode b_TT_step 1 = .ok (.getfield 9, 3) := by decide +kernel
theorem d_TT_step_4 : decode b_TT_step 4 = .ok (.aload_n 1, 1) := by decide +kernel
theorem d_TT_step_5 : decode b_TT_step 5 = .ok (.getfield 72, 3) := by decide +kernel
theorem d_TT_step_8 : decode b_TT_step 8 = .ok (.aaload, 1) := by decide +kernel
theorem d_TT_step_9 : decode b_TT_step 9 = .ok (.astore_n 2, 1) := by decide +kernel
theorem d_TT_step_10 : decode b_TT_step 10 = .ok (.aload_n 1, 1) := by decide +kernel
theorem d_TT_step_11 : decode b_TT_step 11 = .ok (.getfield 96, 3) := by decide +kernel
theorem d_TT_step_14 : decode b_TT_step 14 = .ok (.iconst (-1), 1) := by decide +kernel
theorem d_TT_step_15 : decode b_TT_step 15 = .ok (.if_icmp .eq 40, 3) := by decide +kernel
theorem d_TT_step_18 : decode b_TT_step 18 = .ok (.aload_n 1, 1) := by decide +kernel
theorem d_TT_step_19 : decode b_TT_step 19 = .ok (.getfield 101, 3) := by decide +kernel
theorem d_TT_step_22 : decode b_TT_step 22 = .ok (.aload_n 2, 1) := by decide +kernel
theorem d_TT_step_23 : decode b_TT_step 23 = .ok (.getfield 104, 3) := by decide +kernel
theorem d_TT_step_26 : decode b_TT_step 26 = .ok (.aload_n 1, 1) := by decide +kernel
theorem d_TT_step_27 : decode b_TT_step 27 = .ok (.getfield 96, 3) := by decide +kernel
theorem d_TT_step_30 : decode b_TT_step 30 = .ok (.iaload, 1) := by decide +kernel
theorem d_TT_step_31 : decode b_TT_step 31 = .ok (.if_icmp .ne 24, 3) := by decide +kernel
theorem d_TT_step_34 : decode b_TT_step 34 = .ok (.aload_n 1, 1) := by decide +kernel
theorem d_TT_step_35 : decode b_TT_step 35 = .ok (.aload_n 2, 1) := by decide +kernel
theorem d_TT_step_36 : decode b_TT_step 36 = .ok (.getfield 107, 3) := by decide +kernel
theorem d_TT_step_39 : decode b_TT_step 39 = .ok (.aload_n 1, 1) := by decide +kernel
theorem d_TT_step_40 : decode b_TT_step 40 = .ok (.getfield 96, 3) := by decide +kernel
theorem d_TT_step_43 : decode b_TT_step 43 = .ok (.iaload, 1) := by decide +kernel
theorem d_TT_step_44 : decode b_TT_step 44 = .ok (.putfield 96, 3) := by decide +kernel
theorem d_TT_step_47 : decode b_TT_step 47 = .ok (.aload_n 1, 1) := by decide +kernel
theorem d_TT_step_48 : decode b_TT_step 48 = .ok (.iconst 0, 1) := by decide +kernel
theorem d_TT_step_49 : decode b_TT_step 49 = .ok (.putfield 101, 3) := by decide +kernel
theorem d_TT_step_52 : decode b_TT_step 52 = .ok (.goto (-42), 3) := by decide +kernel
theorem d_TT_step_55 : decode b_TT_step 55 = .ok (.aload_n 1, 1) := by decide +kernel
theorem d_TT_step_56 : decode b_TT_step 56 = .ok (.getfield 96, 3) := by decide +kernel
theorem d_TT_step_59 : decode b_TT_step 59 = .ok (.iconst (-1), 1) := by decide +kernel
theorem d_TT_step_60 : decode b_TT_step 60 = .ok (.if_icmp .eq 7, 3) := by decide +kernel
theorem d_TT_step_63 : decode b_TT_step 63 = .ok (.iconst 1, 1) := by decide +kernel
theorem d_TT_step_64 : decode b_TT_step 64 = .ok (.goto 4, 3) := by decide +kernel
theorem d_TT_step_67 : decode b_TT_step 67 = .ok (.iconst 0, 1) := by decide +kernel
theorem d_TT_step_68 : decode b_TT_step 68 = .ok (.istore_n 3, 1) := by decide +kernel
theorem d_TT_step_69 : decode b_TT_step 69 = .ok (.iconst 0, 1) := by decide +kernel
theorem d_TT_step_70 : decode b_TT_step 70 = .ok (.istore 4, 2) := by decide +kernel
theorem d_TT_step_72 : decode b_TT_step 72 = .ok (.iload 4, 2) := by decide +kernel
theorem d_TT_step_74 : decode b_TT_step 74 = .ok (.aload_n 1, 1) := by decide +kernel
theorem d_TT_step_75 : decode b_TT_step 75 = .ok (.getfield 80, 3) := by decide +kernel
theorem d_TT_step_78 : decode b_TT_step 78 = .ok (.if_icmp .ge 43, 3) := by decide +kernel
theorem d_TT_step_81 : decode b_TT_step 81 = .ok (.iload_n 3, 1) := by decide +kernel
theorem d_TT_step_82 : decode b_TT_step 82 = .ok (.ifCond .eq 39, 3) := by decide +kernel
theorem d_TT_step_85 : decode b_TT_step 85 = .ok (.aload_n 2, 1) := by decide +kernel
theorem d_TT_step_86 : decode b_TT_step 86 = .ok (.aload_n 1, 1) := by decide +kernel
theorem d_TT_step_87 : decode b_TT_step 87 = .ok (.getfield 96, 3) := by decide +kernel
theorem d_TT_step_90 : decode b_TT_step 90 = .ok (.aload_n 1, 1) := by decide +kernel
theorem d_TT_step_91 : decode b_TT_step 91 = .ok (.getfield 101, 3) := by decide +kernel
theorem d_TT_step_94 : decode b_TT_step 94 = .ok (.iload 4, 2) := by decide +kernel
theorem d_TT_step_96 : decode b_TT_step 96 = .ok (.invokevirtual 110, 3) := by decide +kernel
theorem d_TT_step_99 : decode b_TT_step 99 = .ok (.aload_n 1, 1) := by decide +kernel
theorem d_TT_step_100 : decode b_TT_step 100 = .ok (.getfield 85, 3) := by decide +kernel
theorem d_TT_step_103 : decode b_TT_step 103 = .ok (.iload 4, 2) := by decide +kernel
theorem d_TT_step_105 : decode b_TT_step 105 = .ok (.iaload, 1) := by decide +kernel
theorem d_TT_step_106 : decode b_TT_step 106 = .ok (.if_icmp .ne 7, 3) := by decide +kernel
theorem d_TT_step_109 : decode b_TT_step 109 = .ok (.iconst 1, 1) := by decide +kernel
theorem d_TT_step_110 : decode b_TT_step 110 = .ok (.goto 4, 3) := by decide +kernel
theorem d_TT_step_113 : decode b_TT_step 113 = .ok (.iconst 0, 1) := by decide +kernel
theorem d_TT_step_114 : decode b_TT_step 114 = .ok (.istore_n 3, 1) := by decide +kernel
theorem d_TT_step_115 : decode b_TT_step 115 = .ok (.iinc 4 1, 3) := by decide +kernel
theorem d_TT_step_118 : decode b_TT_step 118 = .ok (.goto (-46), 3) := by decide +kernel
theorem d_TT_step_121 : decode b_TT_step 121 = .ok (.aload_n 1, 1) := by decide +kernel
theorem d_TT_step_122 : decode b_TT_step 122 = .ok (.iload_n 3, 1) := by decide +kernel
theorem d_TT_step_123 : decode b_TT_step 123 = .ok (.putfield 83, 3) := by decide +kernel
theorem d_TT_step_126 : decode b_TT_step 126 = .ok (.iload_n 3, 1) := by decide +kernel
theorem d_TT_step_127 : decode b_TT_step 127 = .ok (.ifCond .eq 49, 3) := by decide +kernel
theorem d_TT_step_130 : decode b_TT_step 130 = .ok (.iconst 0, 1) := by decide +kernel
theorem d_TT_step_131 : decode b_TT_step 131 = .ok (.istore 4, 2) := by decide +kernel
theorem d_TT_step_133 : decode b_TT_step 133 = .ok (.iload 4, 2) := by decide +kernel
theorem d_TT_step_135 : decode b_TT_step 135 = .ok (.iconst 3, 1) := by decide +kernel
theorem d_TT_step_136 : decode b_TT_step 136 = .ok (.if_icmp .ge 30, 3) := by decide +kernel
theorem d_TT_step_139 : decode b_TT_step 139 = .ok (.aload_n 1, 1) := by decide +kernel
theorem d_TT_step_140 : decode b_TT_step 140 = .ok (.getfield 114, 3) := by decide +kernel
theorem d_TT_step_143 : decode b_TT_step 143 = .ok (.iload 4, 2) := by decide +kernel
theorem d_TT_step_145 : decode b_TT_step 145 = .ok (.aload_n 2, 1) := by decide +kernel
theorem d_TT_step_146 : decode b_TT_step 146 = .ok (.aload_n 1, 1) := by decide +kernel
theorem d_TT_step_147 : decode b_TT_step 147 = .ok (.getfield 96, 3) := by decide +kernel
theorem d_TT_step_150 : decode b_TT_step 150 = .ok (.aload_n 1, 1) := by decide +kernel
theorem d_TT_step_151 : decode b_TT_step 151 = .ok (.getfield 101, 3) := by decide +kernel
theorem d_TT_step_154 : decode b_TT_step 154 = .ok (.iload 4, 2) := by decide +kernel
theorem d_TT_step_156 : decode b_TT_step 156 = .ok (.invokevirtual 110, 3) := by decide +kernel
theorem d_TT_step_159 : decode b_TT_step 159 = .ok (.iastore, 1) := by decide +kernel
theorem d_TT_step_160 : decode b_TT_step 160 = .ok (.iinc 4 1, 3) := by decide +kernel
theorem d_TT_step_163 : decode b_TT_step 163 = .ok (.goto (-30), 3) := by decide +kernel
theorem d_TT_step_166 : decode b_TT_step 166 = .ok (.aload_n 1, 1) := by decide +kernel
theorem d_TT_step_167 : decode b_TT_step 167 = .ok (.dup, 1) := by decide +kernel
theorem d_TT_step_168 : decode b_TT_step 168 = .ok (.getfield 101, 3) := by decide +kernel
theorem d_TT_step_171 : decode b_TT_step 171 = .ok (.iconst 1, 1) := by decide +kernel
theorem d_TT_step_172 : decode b_TT_step 172 = .ok (.iadd, 1) := by decide +kernel
theorem d_TT_step_173 : decode b_TT_step 173 = .ok (.putfield 101, 3) := by decide +kernel
theorem d_TT_step_176 : decode b_TT_step 176 = .ok (.iload_n 3, 1) := by decide +kernel
theorem d_TT_step_177 : decode b_TT_step 177 = .ok (.ireturn, 1) := by decide +kernel
theorem d_TT_removeAll_0 : decode b_TT_removeAll 0 = .ok (.iload_n 1, 1) := by decide +kernel
theorem d_TT_removeAll_1 : decode b_TT_removeAll 1 = .ok (.invokestatic 117, 3) := by decide +kernel
theorem d_TT_removeAll_4 : decode b_TT_removeAll 4 = .ok (.ifCond .ne 5, 3) := by decide +kernel
theorem d_TT_removeAll_7 : decode b_TT_removeAll 7 = .ok (.iconst (-1), 1) := by decide +kernel
theorem d_TT_removeAll_8 : decode b_TT_removeAll 8 = .ok (.ireturn, 1) := by decide +kernel
theorem d_TT_removeAll_9 : decode b_TT_removeAll 9 = .ok (.iconst 0, 1) := by decide +kernel
theorem d_TT_removeAll_10 : decode b_TT_removeAll 10 = .ok (.istore 5, 2) := by decide +kernel
theorem d_TT_removeAll_12 : decode b_TT_removeAll 12 = .ok (.aload_n 0, 1) := by decide +kernel
theorem d_TT_removeAll_13 : decode b_TT_removeAll 13 = .ok (.aload_n 0, 1) := by decide +kernel
theorem d_TT_removeAll_14 : decode b_TT_removeAll 14 = .ok (.getfield 29, 3) := by decide +kernel
theorem d_TT_removeAll_17 : decode b_TT_removeAll 17 = .ok (.iload_n 1, 1) := by decide +kernel
theorem d_TT_removeAll_18 : decode b_TT_removeAll 18 = .ok (.iload_n 2, 1) := by decide +kernel
theorem d_TT_removeAll_19 : decode b_TT_removeAll 19 = .ok (.iload_n 3, 1) := by decide +kernel
theorem d_TT_removeAll_20 : decode b_TT_removeAll 20 = .ok (.iload 4, 2) := by decide +kernel
theorem d_TT_removeAll_22 : decode b_TT_removeAll 22 = .ok (.invokevirtual 121, 3) := by decide +kernel
theorem d_TT_removeAll_25 : decode b_TT_removeAll 25 = .ok (.aload_n 0, 1) := by decide +kernel
theorem d_TT_removeAll_26 : decode b_TT_removeAll 26 = .ok (.aload_n 0, 1) := by decide +kernel
theorem d_TT_removeAll_27 : decode b_TT_removeAll 27 = .ok (.getfield 29, 3) := by decide +kernel
theorem d_TT_removeAll_30 : decode b_TT_removeAll 30 = .ok (.invokevirtual 125, 3) := by decide +kernel
theorem d_TT_removeAll_33 : decode b_TT_removeAll 33 = .ok (.ifCond .eq 52, 3) := by decide +kernel
theorem d_TT_removeAll_36 : decode b_TT_removeAll 36 = .ok (.aload_n 0, 1) := by decide +kernel
theorem d_TT_removeAll_37 : decode b_TT_removeAll 37 = .ok (.aload_n 0, 1) := by decide +kernel
theorem d_TT_removeAll_38 : decode b_TT_removeAll 38 = .ok (.getfield 29, 3) := by decide +kernel
theorem d_TT_removeAll_41 : decode b_TT_removeAll 41 = .ok (.iconst 0, 1) := by decide +kernel
theorem d_TT_removeAll_42 : decode b_TT_removeAll 42 = .ok (.invokestatic 129, 3) := by decide +kernel
theorem d_TT_removeAll_45 : decode b_TT_removeAll 45 = .ok (.aload_n 0, 1) := by decide +kernel
theorem d_TT_removeAll_46 : decode b_TT_removeAll 46 = .ok (.getfield 29, 3) := by decide +kernel
theorem d_TT_removeAll_49 : decode b_TT_removeAll 49 = .ok (.iconst 1, 1) := by decide +kernel
theorem d_TT_removeAll_50 : decode b_TT_removeAll 50 = .ok (.invokestatic 129, 3) := by decide +kernel
theorem d_TT_removeAll_53 : decode b_TT_removeAll 53 = .ok (.aload_n 0, 1) := by decide +kernel
theorem d_TT_removeAll_54 : decode b_TT_removeAll 54 = .ok (.getfield 29, 3) := by decide +kernel
theorem d_TT_removeAll_57 : decode b_TT_removeAll 57 = .ok (.iconst 2, 1) := by decide +kernel
theorem d_TT_removeAll_58 : decode b_TT_removeAll 58 = .ok (.invokestatic 129, 3) := by decide +kernel
theorem d_TT_removeAll_61 : decode b_TT_removeAll 61 = .ok (.invokevirtual 133, 3) := by decide +kernel
theorem d_TT_removeAll_64 : decode b_TT_removeAll 64 = .ok (.istore 6, 2) := by decide +kernel
theorem d_TT_removeAll_66 : decode b_TT_removeAll 66 = .ok (.iinc 5 1, 3) := by decide +kernel
theorem d_TT_removeAll_69 : decode b_TT_removeAll 69 = .ok (.aload_n 0, 1) := by decide +kernel
theorem d_TT_removeAll_70 : decode b_TT_removeAll 70 = .ok (.aload_n 0, 1) := by decide +kernel
theorem d_TT_removeAll_71 : decode b_TT_removeAll 71 = .ok (.getfield 29, 3) := by decide +kernel
theorem d_TT_removeAll_74 : decode b_TT_removeAll 74 = .ok (.iload_n 1, 1) := by decide +kernel
theorem d_TT_removeAll_75 : decode b_TT_removeAll 75 = .ok (.iload_n 2, 1) := by decide +kernel
theorem d_TT_removeAll_76 : decode b_TT_removeAll 76 = .ok (.iload_n 3, 1) := by decide +kernel
theorem d_TT_removeAll_77 : decode b_TT_removeAll 77 = .ok (.iload 4, 2) := by decide +kernel
theorem d_TT_removeAll_79 : decode b_TT_removeAll 79 = .ok (.invokevirtual 121, 3) := by decide +kernel
theorem d_TT_removeAll_82 : decode b_TT_removeAll 82 = .ok (.goto (-57), 3) := by decide +kernel
theorem d_TT_removeAll_85 : decode b_TT_removeAll 85 = .ok (.iload 5, 2) := by decide +kernel
theorem d_TT_removeAll_87 : decode b_TT_removeAll 87 = .ok (.ireturn, 1) := by decide +kernel
theorem d_TT_partOf_0 : decode b_TT_partOf 0 = .ok (.aload_n 0, 1) := by decide +kernel
theorem d_TT_partOf_1 : decode b_TT_partOf 1 = .ok (.getfield 114, 3) := by decide +kernel
theorem d_TT_partOf_4 : decode b_TT_partOf 4 = .ok (.iload_n 1, 1) := by decide +kernel
theorem d_TT_partOf_5 : decode b_TT_partOf 5 = .ok (.iconst 3, 1) := by decide +kernel
theorem d_TT_partOf_6 : decode b_TT_partOf 6 = .ok (.iadd, 1) := by decide +kernel
theorem d_TT_partOf_7 : decode b_TT_partOf 7 = .ok (.aload_n 0, 1) := by decide +kernel
theorem d_TT_partOf_8 : decode b_TT_partOf 8 = .ok (.getfield 72, 3) := by decide +kernel
theorem d_TT_partOf_11 : decode b_TT_partOf 11 = .ok (.isub, 1) := by decide +kernel
theorem d_TT_partOf_12 : decode b_TT_partOf 12 = .ok (.iconst 3, 1) := by decide +kernel
theorem d_TT_partOf_13 : decode b_TT_partOf 13 = .ok (.irem, 1) := by decide +kernel
theorem d_TT_partOf_14 : decode b_TT_partOf 14 = .ok (.iaload, 1) := by decide +kernel
theorem d_TT_partOf_15 : decode b_TT_partOf 15 = .ok (.ireturn, 1) := by decide +kernel
theorem d_TT_open_0 : decode b_TT_open 0 = .ok (.iload_n 1, 1) := by decide +kernel
theorem d_TT_open_1 : decode b_TT_open 1 = .ok (.invokestatic 117, 3) := by decide +kernel
theorem d_TT_open_4 : decode b_TT_open 4 = .ok (.ifCond .ne 5, 3) := by decide +kernel
theorem d_TT_open_7 : decode b_TT_open 7 = .ok (.iconst (-1), 1) := by decide +kernel
theorem d_TT_open_8 : decode b_TT_open 8 = .ok (.ireturn, 1) := by decide +kernel
theorem d_TT_open_9 : decode b_TT_open 9 = .ok (.iconst 0, 1) := by decide +kernel
theorem d_TT_open_10 : decode b_TT_open 10 = .ok (.istore 5, 2) := by decide +kernel
theorem d_TT_open_12 : decode b_TT_open 12 = .ok (.iload 5, 2) := by decide +kernel
theorem d_TT_open_14 : decode b_TT_open 14 = .ok (.bipush 8, 2) := by decide +kernel
theorem d_TT_open_16 : decode b_TT_open 16 = .ok (.if_icmp .ge 22, 3) := by decide +kernel
theorem d_TT_open_19 : decode b_TT_open 19 = .ok (.aload_n 0, 1) := by decide +kernel
theorem d_TT_open_20 : decode b_TT_open 20 = .ok (.getfield 17, 3) := by decide +kernel
theorem d_TT_open_23 : decode b_TT_open 23 = .ok (.iload 5, 2) := by decide +kernel
theorem d_TT_open_25 : decode b_TT_open 25 = .ok (.aaload, 1) := by decide +kernel
theorem d_TT_open_26 : decode b_TT_open 26 = .ok (.getfield 61, 3) := by decide +kernel
theorem d_TT_open_29 : decode b_TT_open 29 = .ok (.ifCond .eq 9, 3) := by decide +kernel
theorem d_TT_open_32 : decode b_TT_open 32 = .ok (.iinc 5 1, 3) := by decide +kernel
theorem d_TT_open_35 : decode b_TT_open 35 = .ok (.goto (-23), 3) := by decide +kernel
theorem d_TT_open_38 : decode b_TT_open 38 = .ok (.iload 5, 2) := by decide +kernel
theorem d_TT_open_40 : decode b_TT_open 40 = .ok (.bipush 8, 2) := by decide +kernel
theorem d_TT_open_42 : decode b_TT_open 42 = .ok (.if_icmp .ne 6, 3) := by decide +kernel
theorem d_TT_open_45 : decode b_TT_open 45 = .ok (.bipush (-2), 2) := by decide +kernel
theorem d_TT_open_47 : decode b_TT_open 47 = .ok (.ireturn, 1) := by decide +kernel
theorem d_TT_open_48 : decode b_TT_open 48 = .ok (.aload_n 0, 1) := by decide +kernel
theorem d_TT_open_49 : decode b_TT_open 49 = .ok (.aload_n 0, 1) := by decide +kernel
theorem d_TT_open_50 : decode b_TT_open 50 = .ok (.getfield 17, 3) := by decide +kernel
theorem d_TT_open_53 : decode b_TT_open 53 = .ok (.iload 5, 2) := by decide +kernel
theorem d_TT_open_55 : decode b_TT_open 55 = .ok (.aaload, 1) := by decide +kernel
theorem d_TT_open_56 : decode b_TT_open 56 = .ok (.iload_n 1, 1) := by decide +kernel
theorem d_TT_open_57 : decode b_TT_open 57 = .ok (.iload_n 2, 1) := by decide +kernel
theorem d_TT_open_58 : decode b_TT_open 58 = .ok (.iload_n 3, 1) := by decide +kernel
theorem d_TT_open_59 : decode b_TT_open 59 = .ok (.iload 4, 2) := by decide +kernel
theorem d_TT_open_61 : decode b_TT_open 61 = .ok (.invokevirtual 121, 3) := by decide +kernel
theorem d_TT_open_64 : decode b_TT_open 64 = .ok (.iload 5, 2) := by decide +kernel
theorem d_TT_open_66 : decode b_TT_open 66 = .ok (.ireturn, 1) := by decide +kernel
theorem d_TT_isOpen_0 : decode b_TT_isOpen 0 = .ok (.iload_n 1, 1) := by decide +kernel
theorem d_TT_isOpen_1 : decode b_TT_isOpen 1 = .ok (.ifCond .lt 25, 3) := by decide +kernel
theorem d_TT_isOpen_4 : decode b_TT_isOpen 4 = .ok (.iload_n 1, 1) := by decide +kernel
theorem d_TT_isOpen_5 : decode b_TT_isOpen 5 = .ok (.bipush 8, 2) := by decide +kernel
theorem d_TT_isOpen_7 : decode b_TT_isOpen 7 = .ok (.if_icmp .ge 19, 3) := by decide +kernel
theorem d_TT_isOpen_10 : decode b_TT_isOpen 10 = .ok (.aload_n 0, 1) := by decide +kernel
theorem d_TT_isOpen_11 : decode b_TT_isOpen 11 = .ok (.getfield 17, 3) := by decide +kernel
theorem d_TT_isOpen_14 : decode b_TT_isOpen 14 = .ok (.iload_n 1, 1) := by decide +kernel
theorem d_TT_isOpen_15 : decode b_TT_isOpen 15 = .ok (.aaload, 1) := by decide +kernel
theorem d_TT_isOpen_16 : decode b_TT_isOpen 16 = .ok (.getfield 61, 3) := by decide +kernel
theorem d_TT_isOpen_19 : decode b_TT_isOpen 19 = .ok (.ifCond .eq 7, 3) := by decide +kernel
theorem d_TT_isOpen_22 : decode b_TT_isOpen 22 = .ok (.iconst 1, 1) := by decide +kernel
theorem d_TT_isOpen_23 : decode b_TT_isOpen 23 = .ok (.goto 4, 3) := by decide +kernel
theorem d_TT_isOpen_26 : decode b_TT_isOpen 26 = .ok (.iconst 0, 1) := by decide +kernel
theorem d_TT_isOpen_27 : decode b_TT_isOpen 27 = .ok (.ireturn, 1) := by decide +kernel
theorem d_TT_state_0 : decode b_TT_state 0 = .ok (.aload_n 0, 1) := by decide +kernel
theorem d_TT_state_1 : decode b_TT_state 1 = .ok (.iload_n 1, 1) := by decide +kernel
theorem d_TT_state_2 : decode b_TT_state 2 = .ok (.invokevirtual 136, 3) := by decide +kernel
theorem d_TT_state_5 : decode b_TT_state 5 = .ok (.ifCond .ne 7, 3) := by decide +kernel
theorem d_TT_state_8 : decode b_TT_state 8 = .ok (.iconst (-1), 1) := by decide +kernel
theorem d_TT_state_9 : decode b_TT_state 9 = .ok (.goto 25, 3) := by decide +kernel
theorem d_TT_state_12 : decode b_TT_state 12 = .ok (.aload_n 0, 1) := by decide +kernel
theorem d_TT_state_13 : decode b_TT_state 13 = .ok (.getfield 17, 3) := by decide +kernel
theorem d_TT_state_16 : decode b_TT_state 16 = .ok (.iload_n 1, 1) := by decide +kernel
theorem d_TT_state_17 : decode b_TT_state 17 = .ok (.aaload, 1) := by decide +kernel
theorem d_TT_state_18 : decode b_TT_state 18 = .ok (.getfield 65, 3) := by decide +kernel
theorem d_TT_state_21 : decode b_TT_state 21 = .ok (.aload_n 0, 1) := by decide +kernel
theorem d_TT_state_22 : decode b_TT_state 22 = .ok (.getfield 55, 3) := by decide +kernel
theorem d_TT_state_25 : decode b_TT_state 25 = .ok (.if_icmp .eq 8, 3) := by decide +kernel
theorem d_TT_state_28 : decode b_TT_state 28 = .ok (.bipush (-3), 2) := by decide +kernel
theorem d_TT_state_30 : decode b_TT_state 30 = .ok (.goto 4, 3) := by decide +kernel
theorem d_TT_state_33 : decode b_TT_state 33 = .ok (.iconst 0, 1) := by decide +kernel
theorem d_TT_state_34 : decode b_TT_state 34 = .ok (.ireturn, 1) := by decide +kernel
theorem d_TT_next_0 : decode b_TT_next 0 = .ok (.aload_n 0, 1) := by decide +kernel
theorem d_TT_next_1 : decode b_TT_next 1 = .ok (.iload_n 1, 1) := by decide +kernel
theorem d_TT_next_2 : decode b_TT_next 2 = .ok (.invokevirtual 139, 3) := by decide +kernel
theorem d_TT_next_5 : decode b_TT_next 5 = .ok (.istore_n 2, 1) := by decide +kernel
theorem d_TT_next_6 : decode b_TT_next 6 = .ok (.iload_n 2, 1) := by decide +kernel
theorem d_TT_next_7 : decode b_TT_next 7 = .ok (.ifCond .eq 7, 3) := by decide +kernel
theorem d_TT_next_10 : decode b_TT_next 10 = .ok (.iload_n 2, 1) := by decide +kernel
theorem d_TT_next_11 : decode b_TT_next 11 = .ok (.goto 21, 3) := by decide +kernel
theorem d_TT_next_14 : decode b_TT_next 14 = .ok (.aload_n 0, 1) := by decide +kernel
theorem d_TT_next_15 : decode b_TT_next 15 = .ok (.aload_n 0, 1) := by decide +kernel
theorem d_TT_next_16 : decode b_TT_next 16 = .ok (.getfield 17, 3) := by decide +kernel
theorem d_TT_next_19 : decode b_TT_next 19 = .ok (.iload_n 1, 1) := by decide +kernel
theorem d_TT_next_20 : decode b_TT_next 20 = .ok (.aaload, 1) := by decide +kernel
theorem d_TT_next_21 : decode b_TT_next 21 = .ok (.invokevirtual 125, 3) := by decide +kernel
theorem d_TT_next_24 : decode b_TT_next 24 = .ok (.ifCond .eq 7, 3) := by decide +kernel
theorem d_TT_next_27 : decode b_TT_next 27 = .ok (.iconst 1, 1) := by decide +kernel
theorem d_TT_next_28 : decode b_TT_next 28 = .ok (.goto 4, 3) := by decide +kernel
theorem d_TT_next_31 : decode b_TT_next 31 = .ok (.iconst 0, 1) := by decide +kernel
theorem d_TT_next_32 : decode b_TT_next 32 = .ok (.ireturn, 1) := by decide +kernel
theorem d_TT_seek_0 : decode b_TT_seek 0 = .ok (.aload_n 0, 1) := by decide +kernel
theorem d_TT_seek_1 : decode b_TT_seek 1 = .ok (.iload_n 1, 1) := by decide +kernel
theorem d_TT_seek_2 : decode b_TT_seek 2 = .ok (.invokevirtual 139, 3) := by decide +kernel
theorem d_TT_seek_5 : decode b_TT_seek 5 = .ok (.istore 5, 2) := by decide +kernel
theorem d_TT_seek_7 : decode b_TT_seek 7 = .ok (.iload 5, 2) := by decide +kernel
theorem d_TT_seek_9 : decode b_TT_seek 9 = .ok (.ifCond .eq 6, 3) := by decide +kernel
theorem d_TT_seek_12 : decode b_TT_seek 12 = .ok (.iload 5, 2) := by decide +kernel
theorem d_TT_seek_14 : decode b_TT_seek 14 = .ok (.ireturn, 1) := by decide +kernel
theorem d_TT_seek_15 : decode b_TT_seek 15 = .ok (.aload_n 0, 1) := by decide +kernel
theorem d_TT_seek_16 : decode b_TT_seek 16 = .ok (.getfield 17, 3) := by decide +kernel
theorem d_TT_seek_19 : decode b_TT_seek 19 = .ok (.iload_n 1, 1) := by decide +kernel
theorem d_TT_seek_20 : decode b_TT_seek 20 = .ok (.aaload, 1) := by decide +kernel
theorem d_TT_seek_21 : decode b_TT_seek 21 = .ok (.astore 6, 2) := by decide +kernel
theorem d_TT_seek_23 : decode b_TT_seek 23 = .ok (.aload_n 0, 1) := by decide +kernel
theorem d_TT_seek_24 : decode b_TT_seek 24 = .ok (.getfield 9, 3) := by decide +kernel
theorem d_TT_seek_27 : decode b_TT_seek 27 = .ok (.aload 6, 2) := by decide +kernel
theorem d_TT_seek_29 : decode b_TT_seek 29 = .ok (.getfield 72, 3) := by decide +kernel
theorem d_TT_seek_32 : decode b_TT_seek 32 = .ok (.aaload, 1) := by decide +kernel
theorem d_TT_seek_33 : decode b_TT_seek 33 = .ok (.astore 7, 2) := by decide +kernel
theorem d_TT_seek_35 : decode b_TT_seek 35 = .ok (.aload 7, 2) := by decide +kernel
theorem d_TT_seek_37 : decode b_TT_seek 37 = .ok (.iload_n 2, 1) := by decide +kernel
theorem d_TT_seek_38 : decode b_TT_seek 38 = .ok (.iload_n 3, 1) := by decide +kernel
theorem d_TT_seek_39 : decode b_TT_seek 39 = .ok (.iload 4, 2) := by decide +kernel
theorem d_TT_seek_41 : decode b_TT_seek 41 = .ok (.invokevirtual 37, 3) := by decide +kernel
theorem d_TT_seek_44 : decode b_TT_seek 44 = .ok (.aload_n 0, 1) := by decide +kernel
theorem d_TT_seek_45 : decode b_TT_seek 45 = .ok (.aload 6, 2) := by decide +kernel
theorem d_TT_seek_47 : decode b_TT_seek 47 = .ok (.invokevirtual 125, 3) := by decide +kernel
theorem d_TT_seek_50 : decode b_TT_seek 50 = .ok (.istore 8, 2) := by decide +kernel
theorem d_TT_seek_52 : decode b_TT_seek 52 = .ok (.iload 8, 2) := by decide +kernel
theorem d_TT_seek_54 : decode b_TT_seek 54 = .ok (.ifCond .eq 56, 3) := by decide +kernel
theorem d_TT_seek_57 : decode b_TT_seek 57 = .ok (.aload 7, 2) := by decide +kernel
theorem d_TT_seek_59 : decode b_TT_seek 59 = .ok (.aload 6, 2) := by decide +kernel
theorem d_TT_seek_61 : decode b_TT_seek 61 = .ok (.getfield 96, 3) := by decide +kernel
theorem d_TT_seek_64 : decode b_TT_seek 64 = .ok (.aload 6, 2) := by decide +kernel
theorem d_TT_seek_66 : decode b_TT_seek 66 = .ok (.getfield 101, 3) := by decide +kernel
theorem d_TT_seek_69 : decode b_TT_seek 69 = .ok (.iconst 1, 1) := by decide +kernel
theorem d_TT_seek_70 : decode b_TT_seek 70 = .ok (.isub, 1) := by decide +kernel
theorem d_TT_seek_71 : decode b_TT_seek 71 = .ok (.invokevirtual 142, 3) := by decide +kernel
theorem d_TT_seek_74 : decode b_TT_seek 74 = .ok (.ifCond .ge 36, 3) := by decide +kernel
theorem d_TT_seek_77 : decode b_TT_seek 77 = .ok (.aload 6, 2) := by decide +kernel
theorem d_TT_seek_79 : decode b_TT_seek 79 = .ok (.aload 7, 2) := by decide +kernel
theorem d_TT_seek_81 : decode b_TT_seek 81 = .ok (.invokevirtual 92, 3) := by decide +kernel
theorem d_TT_seek_84 : decode b_TT_seek 84 = .ok (.putfield 96, 3) := by decide +kernel
theorem d_TT_seek_87 : decode b_TT_seek 87 = .ok (.aload 6, 2) := by decide +kernel
theorem d_TT_seek_89 : decode b_TT_seek 89 = .ok (.aload 7, 2) := by decide +kernel
theorem d_TT_seek_91 : decode b_TT_seek 91 = .ok (.aload 6, 2) := by decide +kernel
theorem d_TT_seek_93 : decode b_TT_seek 93 = .ok (.getfield 96, 3) := by decide +kernel
theorem d_TT_seek_96 : decode b_TT_seek 96 = .ok (.invokevirtual 98, 3) := by decide +kernel
theorem d_TT_seek_99 : decode b_TT_seek 99 = .ok (.putfield 101, 3) := by decide +kernel
theorem d_TT_seek_102 : decode b_TT_seek 102 = .ok (.aload_n 0, 1) := by decide +kernel
theorem d_TT_seek_103 : decode b_TT_seek 103 = .ok (.aload 6, 2) := by decide +kernel
theorem d_TT_seek_105 : decode b_TT_seek 105 = .ok (.invokevirtual 125, 3) := by decide +kernel
theorem d_TT_seek_108 : decode b_TT_seek 108 = .ok (.istore 8, 2) := by decide +kernel
theorem d_TT_seek_110 : decode b_TT_seek 110 = .ok (.iload 8, 2) := by decide +kernel
theorem d_TT_seek_112 : decode b_TT_seek 112 = .ok (.ifCond .eq 7, 3) := by decide +kernel
theorem d_TT_seek_115 : decode b_TT_seek 115 = .ok (.iconst 1, 1) := by decide +kernel
theorem d_TT_seek_116 : decode b_TT_seek 116 = .ok (.goto 4, 3) := by decide +kernel
theorem d_TT_seek_119 : decode b_TT_seek 119 = .ok (.iconst 0, 1) := by decide +kernel
theorem d_TT_seek_120 : decode b_TT_seek 120 = .ok (.ireturn, 1) := by decide +kernel
theorem d_TT_part_0 : decode b_TT_part 0 = .ok (.aload_n 0, 1) := by decide +kernel
theorem d_TT_part_1 : decode b_TT_part 1 = .ok (.iload_n 1, 1) := by decide +kernel
theorem d_TT_part_2 : decode b_TT_part 2 = .ok (.invokevirtual 139, 3) := by decide +kernel
theorem d_TT_part_5 : decode b_TT_part 5 = .ok (.ifCond .ne 37, 3) := by decide +kernel
theorem d_TT_part_8 : decode b_TT_part 8 = .ok (.aload_n 0, 1) := by decide +kernel
theorem d_TT_part_9 : decode b_TT_part 9 = .ok (.getfield 17, 3) := by decide +kernel
theorem d_TT_part_12 : decode b_TT_part 12 = .ok (.iload_n 1, 1) := by decide +kernel
theorem d_TT_part_13 : decode b_TT_part 13 = .ok (.aaload, 1) := by decide +kernel
theorem d_TT_part_14 : decode b_TT_part 14 = .ok (.getfield 83, 3) := by decide +kernel
theorem d_TT_part_17 : decode b_TT_part 17 = .ok (.ifCond .eq 25, 3) := by decide +kernel
theorem d_TT_part_20 : decode b_TT_part 20 = .ok (.iload_n 2, 1) := by decide +kernel
theorem d_TT_part_21 : decode b_TT_part 21 = .ok (.ifCond .lt 21, 3) := by decide +kernel
theorem d_TT_part_24 : decode b_TT_part 24 = .ok (.iload_n 2, 1) := by decide +kernel
theorem d_TT_part_25 : decode b_TT_part 25 = .ok (.iconst 3, 1) := by decide +kernel
theorem d_TT_part_26 : decode b_TT_part 26 = .ok (.if_icmp .ge 16, 3) := by decide +kernel
theorem d_TT_part_29 : decode b_TT_part 29 = .ok (.aload_n 0, 1) := by decide +kernel
theorem d_TT_part_30 : decode b_TT_part 30 = .ok (.getfield 17, 3) := by decide +kernel
theorem d_TT_part_33 : decode b_TT_part 33 = .ok (.iload_n 1, 1) := by decide +kernel
theorem d_TT_part_34 : decode b_TT_part 34 = .ok (.aaload, 1) := by decide +kernel
theorem d_TT_part_35 : decode b_TT_part 35 = .ok (.iload_n 2, 1) := by decide +kernel
theorem d_TT_part_36 : decode b_TT_part 36 = .ok (.invokestatic 129, 3) := by decide +kernel
theorem d_TT_part_39 : decode b_TT_part 39 = .ok (.goto 4, 3) := by decide +kernel
theorem d_TT_part_42 : decode b_TT_part 42 = .ok (.iconst 0, 1) := by decide +kernel
theorem d_TT_part_43 : decode b_TT_part 43 = .ok (.ireturn, 1) := by decide +kernel
theorem d_TT_close_0 : decode b_TT_close 0 = .ok (.aload_n 0, 1) := by decide +kernel
theorem d_TT_close_1 : decode b_TT_close 1 = .ok (.iload_n 1, 1) := by decide +kernel
theorem d_TT_close_2 : decode b_TT_close 2 = .ok (.invokevirtual 136, 3) := by decide +kernel
theorem d_TT_close_5 : decode b_TT_close 5 = .ok (.ifCond .ne 5, 3) := by decide +kernel
theorem d_TT_close_8 : decode b_TT_close 8 = .ok (.iconst 0, 1) := by decide +kernel
theorem d_TT_close_9 : decode b_TT_close 9 = .ok (.ireturn, 1) := by decide +kernel
theorem d_TT_close_10 : decode b_TT_close 10 = .ok (.aload_n 0, 1) := by decide +kernel
theorem d_TT_close_11 : decode b_TT_close 11 = .ok (.getfield 17, 3) := by decide +kernel
theorem d_TT_close_14 : decode b_TT_close 14 = .ok (.iload_n 1, 1) := by decide +kernel
theorem d_TT_close_15 : decode b_TT_close 15 = .ok (.aaload, 1) := by decide +kernel
theorem d_TT_close_16 : decode b_TT_close 16 = .ok (.iconst 0, 1) := by decide +kernel
theorem d_TT_close_17 : decode b_TT_close 17 = .ok (.putfield 61, 3) := by decide +kernel
theorem d_TT_close_20 : decode b_TT_close 20 = .ok (.iconst 1, 1) := by decide +kernel
theorem d_TT_close_21 : decode b_TT_close 21 = .ok (.ireturn, 1) := by decide +kernel
theorem d_TT_many_0 : decode b_TT_many 0 = .ok (.iload_n 1, 1) := by decide +kernel
theorem d_TT_many_1 : decode b_TT_many 1 = .ok (.invokestatic 117, 3) := by decide +kernel
theorem d_TT_many_4 : decode b_TT_many 4 = .ok (.ifCond .ne 5, 3) := by decide +kernel
theorem d_TT_many_7 : decode b_TT_many 7 = .ok (.iconst (-1), 1) := by decide +kernel
theorem d_TT_many_8 : decode b_TT_many 8 = .ok (.ireturn, 1) := by decide +kernel
theorem d_TT_many_9 : decode b_TT_many 9 = .ok (.iconst 0, 1) := by decide +kernel
theorem d_TT_many_10 : decode b_TT_many 10 = .ok (.istore 5, 2) := by decide +kernel
theorem d_TT_many_12 : decode b_TT_many 12 = .ok (.aload_n 0, 1) := by decide +kernel
theorem d_TT_many_13 : decode b_TT_many 13 = .ok (.aload_n 0, 1) := by decide +kernel
theorem d_TT_many_14 : decode b_TT_many 14 = .ok (.getfield 29, 3) := by decide +kernel
theorem d_TT_many_17 : decode b_TT_many 17 = .ok (.iload_n 1, 1) := by decide +kernel
theorem d_TT_many_18 : decode b_TT_many 18 = .ok (.iload_n 2, 1) := by decide +kernel
theorem d_TT_many_19 : decode b_TT_many 19 = .ok (.iload_n 3, 1) := by decide +kernel
theorem d_TT_many_20 : decode b_TT_many 20 = .ok (.iload 4, 2) := by decide +kernel
theorem d_TT_many_22 : decode b_TT_many 22 = .ok (.invokevirtual 121, 3) := by decide +kernel
theorem d_TT_many_25 : decode b_TT_many 25 = .ok (.aload_n 0, 1) := by decide +kernel
theorem d_TT_many_26 : decode b_TT_many 26 = .ok (.aload_n 0, 1) := by decide +kernel
theorem d_TT_many_27 : decode b_TT_many 27 = .ok (.getfield 29, 3) := by decide +kernel
theorem d_TT_many_30 : decode b_TT_many 30 = .ok (.invokevirtual 125, 3) := by decide +kernel
theorem d_TT_many_33 : decode b_TT_many 33 = .ok (.ifCond .eq 9, 3) := by decide +kernel
theorem d_TT_many_36 : decode b_TT_many 36 = .ok (.iinc 5 1, 3) := by decide +kernel
theorem d_TT_many_39 : decode b_TT_many 39 = .ok (.goto (-14), 3) := by decide +kernel
theorem d_TT_many_42 : decode b_TT_many 42 = .ok (.iload 5, 2) := by decide +kernel
theorem d_TT_many_44 : decode b_TT_many 44 = .ok (.ireturn, 1) := by decide +kernel
theorem d_TT_at_0 : decode b_TT_at 0 = .ok (.iload_n 1, 1) := by decide +kernel
theorem d_TT_at_1 : decode b_TT_at 1 = .ok (.ifCond .lt 29, 3) := by decide +kernel
theorem d_TT_at_4 : decode b_TT_at 4 = .ok (.iload_n 1, 1) := by decide +kernel
theorem d_TT_at_5 : decode b_TT_at 5 = .ok (.iconst 2, 1) := by decide +kernel
theorem d_TT_at_6 : decode b_TT_at 6 = .ok (.if_icmp .gt 24, 3) := by decide +kernel
theorem d_TT_at_9 : decode b_TT_at 9 = .ok (.iload_n 2, 1) := by decide +kernel
theorem d_TT_at_10 : decode b_TT_at 10 = .ok (.ifCond .lt 20, 3) := by decide +kernel
theorem d_TT_at_13 : decode b_TT_at 13 = .ok (.iload_n 2, 1) := by decide +kernel
theorem d_TT_at_14 : decode b_TT_at 14 = .ok (.aload_n 0, 1) := by decide +kernel
theorem d_TT_at_15 : decode b_TT_at 15 = .ok (.getfield 48, 3) := by decide +kernel
theorem d_TT_at_18 : decode b_TT_at 18 = .ok (.if_icmp .ge 12, 3) := by decide +kernel
theorem d_TT_at_21 : decode b_TT_at 21 = .ok (.iload_n 3, 1) := by decide +kernel
theorem d_TT_at_22 : decode b_TT_at 22 = .ok (.ifCond .lt 8, 3) := by decide +kernel
theorem d_TT_at_25 : decode b_TT_at 25 = .ok (.iload_n 3, 1) := by decide +kernel
theorem d_TT_at_26 : decode b_TT_at 26 = .ok (.iconst 2, 1) := by decide +kernel
theorem d_TT_at_27 : decode b_TT_at 27 = .ok (.if_icmp .le 5, 3) := by decide +kernel
theorem d_TT_at_30 : decode b_TT_at 30 = .ok (.iconst 0, 1) := by decide +kernel
theorem d_TT_at_31 : decode b_TT_at 31 = .ok (.ireturn, 1) := by decide +kernel
theorem d_TT_at_32 : decode b_TT_at 32 = .ok (.aload_n 0, 1) := by decide +kernel
theorem d_TT_at_33 : decode b_TT_at 33 = .ok (.getfield 9, 3) := by decide +kernel
theorem d_TT_at_36 : decode b_TT_at 36 = .ok (.iload_n 1, 1) := by decide +kernel
theorem d_TT_at_37 : decode b_TT_at 37 = .ok (.aaload, 1) := by decide +kernel
theorem d_TT_at_38 : decode b_TT_at 38 = .ok (.astore 4, 2) := by decide +kernel
theorem d_TT_at_40 : decode b_TT_at 40 = .ok (.aload 4, 2) := by decide +kernel
theorem d_TT_at_42 : decode b_TT_at 42 = .ok (.iload_n 2, 1) := by decide +kernel
theorem d_TT_at_43 : decode b_TT_at 43 = .ok (.invokevirtual 146, 3) := by decide +kernel
theorem d_TT_at_46 : decode b_TT_at 46 = .ok (.aload 4, 2) := by decide +kernel
theorem d_TT_at_48 : decode b_TT_at 48 = .ok (.aload 4, 2) := by decide +kernel
theorem d_TT_at_50 : decode b_TT_at 50 = .ok (.getfield 150, 3) := by decide +kernel
theorem d_TT_at_53 : decode b_TT_at 53 = .ok (.aload 4, 2) := by decide +kernel
theorem d_TT_at_55 : decode b_TT_at 55 = .ok (.getfield 153, 3) := by decide +kernel
theorem d_TT_at_58 : decode b_TT_at 58 = .ok (.iload_n 3, 1) := by decide +kernel
theorem d_TT_at_59 : decode b_TT_at 59 = .ok (.iconst 3, 1) := by decide +kernel
theorem d_TT_at_60 : decode b_TT_at 60 = .ok (.iadd, 1) := by decide +kernel
theorem d_TT_at_61 : decode b_TT_at 61 = .ok (.iload_n 1, 1) := by decide +kernel
theorem d_TT_at_62 : decode b_TT_at 62 = .ok (.isub, 1) := by decide +kernel
theorem d_TT_at_63 : decode b_TT_at 63 = .ok (.iconst 3, 1) := by decide +kernel
theorem d_TT_at_64 : decode b_TT_at 64 = .ok (.irem, 1) := by decide +kernel
theorem d_TT_at_65 : decode b_TT_at 65 = .ok (.invokevirtual 110, 3) := by decide +kernel
theorem d_TT_at_68 : decode b_TT_at 68 = .ok (.ireturn, 1) := by decide +kernel
theorem d_TT_before_0 : decode b_TT_before 0 = .ok (.iload_n 1, 1) := by decide +kernel
theorem d_TT_before_1 : decode b_TT_before 1 = .ok (.ifCond .lt 8, 3) := by decide +kernel
theorem d_TT_before_4 : decode b_TT_before 4 = .ok (.iload_n 1, 1) := by decide +kernel
theorem d_TT_before_5 : decode b_TT_before 5 = .ok (.iconst 2, 1) := by decide +kernel
theorem d_TT_before_6 : decode b_TT_before 6 = .ok (.if_icmp .le 7, 3) := by decide +kernel
theorem d_TT_before_9 : decode b_TT_before 9 = .ok (.iconst (-1), 1) := by decide +kernel
theorem d_TT_before_10 : decode b_TT_before 10 = .ok (.goto 15, 3) := by decide +kernel
theorem d_TT_before_13 : decode b_TT_before 13 = .ok (.aload_n 0, 1) := by decide +kernel
theorem d_TT_before_14 : decode b_TT_before 14 = .ok (.iload_n 1, 1) := by decide +kernel
theorem d_TT_before_15 : decode b_TT_before 15 = .ok (.iload_n 2, 1) := by decide +kernel
theorem d_TT_before_16 : decode b_TT_before 16 = .ok (.iload_n 3, 1) := by decide +kernel
theorem d_TT_before_17 : decode b_TT_before 17 = .ok (.iload 4, 2) := by decide +kernel
theorem d_TT_before_19 : decode b_TT_before 19 = .ok (.invokevirtual 41, 3) := by decide +kernel
theorem d_TT_before_22 : decode b_TT_before 22 = .ok (.invokevirtual 156, 3) := by decide +kernel
theorem d_TT_before_25 : decode b_TT_before 25 = .ok (.ireturn, 1) := by decide +kernel
theorem d_TT_different_0 : decode b_TT_different 0 = .ok (.iload_n 1, 1) := by decide +kernel
theorem d_TT_different_1 : decode b_TT_different 1 = .ok (.ifCond .lt 8, 3) := by decide +kernel
theorem d_TT_different_4 : decode b_TT_different 4 = .ok (.iload_n 1, 1) := by decide +kernel
theorem d_TT_different_5 : decode b_TT_different 5 = .ok (.iconst 2, 1) := by decide +kernel
theorem d_TT_different_6 : decode b_TT_different 6 = .ok (.if_icmp .le 5, 3) := by decide +kernel
theorem d_TT_different_9 : decode b_TT_different 9 = .ok (.iconst (-1), 1) := by decide +kernel
theorem d_TT_different_10 : decode b_TT_different 10 = .ok (.ireturn, 1) := by decide +kernel
theorem d_TT_different_11 : decode b_TT_different 11 = .ok (.iconst 0, 1) := by decide +kernel
theorem d_TT_different_12 : decode b_TT_different 12 = .ok (.istore_n 2, 1) := by decide +kernel
theorem d_TT_different_13 : decode b_TT_different 13 = .ok (.iconst 0, 1) := by decide +kernel
theorem d_TT_different_14 : decode b_TT_different 14 = .ok (.istore_n 3, 1) := by decide +kernel
theorem d_TT_different_15 : decode b_TT_different 15 = .ok (.aload_n 0, 1) := by decide +kernel
theorem d_TT_different_16 : decode b_TT_different 16 = .ok (.aload_n 0, 1) := by decide +kernel
theorem d_TT_different_17 : decode b_TT_different 17 = .ok (.getfield 29, 3) := by decide +kernel
theorem d_TT_different_20 : decode b_TT_different 20 = .ok (.iconst 0, 1) := by decide +kernel
theorem d_TT_different_21 : decode b_TT_different 21 = .ok (.iconst 0, 1) := by decide +kernel
theorem d_TT_different_22 : decode b_TT_different 22 = .ok (.iconst 0, 1) := by decide +kernel
theorem d_TT_different_23 : decode b_TT_different 23 = .ok (.iconst 0, 1) := by decide +kernel
theorem d_TT_different_24 : decode b_TT_different 24 = .ok (.invokevirtual 121, 3) := by decide +kernel
theorem d_TT_different_27 : decode b_TT_different 27 = .ok (.aload_n 0, 1) := by decide +kernel
theorem d_TT_different_28 : decode b_TT_different 28 = .ok (.getfield 29, 3) := by decide +kernel
theorem d_TT_different_31 : decode b_TT_different 31 = .ok (.iload_n 1, 1) := by decide +kernel
theorem d_TT_different_32 : decode b_TT_different 32 = .ok (.putfield 72, 3) := by decide +kernel
theorem d_TT_different_35 : decode b_TT_different 35 = .ok (.aload_n 0, 1) := by decide +kernel
theorem d_TT_different_36 : decode b_TT_different 36 = .ok (.getfield 9, 3) := by decide +kernel
theorem d_TT_different_39 : decode b_TT_different 39 = .ok (.iload_n 1, 1) := by decide +kernel
theorem d_TT_different_40 : decode b_TT_different 40 = .ok (.aaload, 1) := by decide +kernel
theorem d_TT_different_41 : decode b_TT_different 41 = .ok (.ldc 91, 2) := by decide +kernel
theorem d_TT_different_43 : decode b_TT_different 43 = .ok (.ldc 91, 2) := by decide +kernel
theorem d_TT_different_45 : decode b_TT_different 45 = .ok (.ldc 91, 2) := by decide +kernel
theorem d_TT_different_47 : decode b_TT_different 47 = .ok (.invokevirtual 37, 3) := by decide +kernel
theorem d_TT_different_50 : decode b_TT_different 50 = .ok (.aload_n 0, 1) := by decide +kernel
theorem d_TT_different_51 : decode b_TT_different 51 = .ok (.getfield 29, 3) := by decide +kernel
theorem d_TT_different_54 : decode b_TT_different 54 = .ok (.aload_n 0, 1) := by decide +kernel
theorem d_TT_different_55 : decode b_TT_different 55 = .ok (.getfield 9, 3) := by decide +kernel
theorem d_TT_different_58 : decode b_TT_different 58 = .ok (.iload_n 1, 1) := by decide +kernel
theorem d_TT_different_59 : decode b_TT_different 59 = .ok (.aaload, 1) := by decide +kernel
theorem d_TT_different_60 : decode b_TT_different 60 = .ok (.invokevirtual 92, 3) := by decide +kernel
theorem d_TT_different_63 : decode b_TT_different 63 = .ok (.putfield 96, 3) := by decide +kernel
theorem d_TT_different_66 : decode b_TT_different 66 = .ok (.aload_n 0, 1) := by decide +kernel
theorem d_TT_different_67 : decode b_TT_different 67 = .ok (.getfield 29, 3) := by decide +kernel
theorem d_TT_different_70 : decode b_TT_different 70 = .ok (.iconst 0, 1) := by decide +kernel
theorem d_TT_different_71 : decode b_TT_different 71 = .ok (.putfield 101, 3) := by decide +kernel
theorem d_TT_different_74 : decode b_TT_different 74 = .ok (.aload_n 0, 1) := by decide +kernel
theorem d_TT_different_75 : decode b_TT_different 75 = .ok (.aload_n 0, 1) := by decide +kernel
theorem d_TT_different_76 : decode b_TT_different 76 = .ok (.getfield 29, 3) := by decide +kernel
theorem d_TT_different_79 : decode b_TT_different 79 = .ok (.invokevirtual 125, 3) := by decide +kernel
theorem d_TT_different_82 : decode b_TT_different 82 = .ok (.ifCond .eq 41, 3) := by decide +kernel
theorem d_TT_different_85 : decode b_TT_different 85 = .ok (.iload_n 2, 1) := by decide +kernel
theorem d_TT_different_86 : decode b_TT_different 86 = .ok (.iload_n 2, 1) := by decide +kernel
theorem d_TT_different_87 : decode b_TT_different 87 = .ok (.ifCond .eq 16, 3) := by decide +kernel
theorem d_TT_different_90 : decode b_TT_different 90 = .ok (.aload_n 0, 1) := by decide +kernel
theorem d_TT_different_91 : decode b_TT_different 91 = .ok (.getfield 29, 3) := by decide +kernel
theorem d_TT_different_94 : decode b_TT_different 94 = .ok (.getfield 114, 3) := by decide +kernel
theorem d_TT_different_97 : decode b_TT_different 97 = .ok (.iconst 0, 1) := by decide +kernel
theorem d_TT_different_98 : decode b_TT_different 98 = .ok (.iaload, 1) := by decide +kernel
theorem d_TT_different_99 : decode b_TT_different 99 = .ok (.iload_n 3, 1) := by decide +kernel
theorem d_TT_different_100 : decode b_TT_different 100 = .ok (.if_icmp .eq 7, 3) := by decide +kernel
theorem d_TT_different_103 : decode b_TT_different 103 = .ok (.iconst 1, 1) := by decide +kernel
theorem d_TT_different_104 : decode b_TT_different 104 = .ok (.goto 4, 3) := by decide +kernel
theorem d_TT_different_107 : decode b_TT_different 107 = .ok (.iconst 0, 1) := by decide +kernel
theorem d_TT_different_108 : decode b_TT_different 108 = .ok (.iadd, 1) := by decide +kernel
theorem d_TT_different_109 : decode b_TT_different 109 = .ok (.istore_n 2, 1) := by decide +kernel
theorem d_TT_different_110 : decode b_TT_different 110 = .ok (.aload_n 0, 1) := by decide +kernel
theorem d_TT_different_111 : decode b_TT_different 111 = .ok (.getfield 29, 3) := by decide +kernel
theorem d_TT_different_114 : decode b_TT_different 114 = .ok (.getfield 114, 3) := by decide +kernel
theorem d_TT_different_117 : decode b_TT_different 117 = .ok (.iconst 0, 1) := by decide +kernel
theorem d_TT_different_118 : decode b_TT_different 118 = .ok (.iaload, 1) := by decide +kernel
theorem d_TT_different_119 : decode b_TT_different 119 = .ok (.istore_n 3, 1) := by decide +kernel
theorem d_TT_different_120 : decode b_TT_different 120 = .ok (.goto (-46), 3) := by decide +kernel
theorem d_TT_different_123 : decode b_TT_different 123 = .ok (.iload_n 2, 1) := by decide +kernel
theorem d_TT_different_124 : decode b_TT_different 124 = .ok (.ireturn, 1) := by decide +kernel
theorem d_TT_chains_0 : decode b_TT_chains 0 = .ok (.iconst 0, 1) := by decide +kernel
theorem d_TT_chains_1 : decode b_TT_chains 1 = .ok (.istore_n 3, 1) := by decide +kernel
theorem d_TT_chains_2 : decode b_TT_chains 2 = .ok (.aload_n 0, 1) := by decide +kernel
theorem d_TT_chains_3 : decode b_TT_chains 3 = .ok (.aload_n 0, 1) := by decide +kernel
theorem d_TT_chains_4 : decode b_TT_chains 4 = .ok (.getfield 29, 3) := by decide +kernel
theorem d_TT_chains_7 : decode b_TT_chains 7 = .ok (.iconst 2, 1) := by decide +kernel
theorem d_TT_chains_8 : decode b_TT_chains 8 = .ok (.iconst 0, 1) := by decide +kernel
theorem d_TT_chains_9 : decode b_TT_chains 9 = .ok (.iload_n 1, 1) := by decide +kernel
theorem d_TT_chains_10 : decode b_TT_chains 10 = .ok (.iconst 0, 1) := by decide +kernel
theorem d_TT_chains_11 : decode b_TT_chains 11 = .ok (.invokevirtual 121, 3) := by decide +kernel
theorem d_TT_chains_14 : decode b_TT_chains 14 = .ok (.aload_n 0, 1) := by decide +kernel
theorem d_TT_chains_15 : decode b_TT_chains 15 = .ok (.aload_n 0, 1) := by decide +kernel
theorem d_TT_chains_16 : decode b_TT_chains 16 = .ok (.getfield 29, 3) := by decide +kernel
theorem d_TT_chains_19 : decode b_TT_chains 19 = .ok (.invokevirtual 125, 3) := by decide +kernel
theorem d_TT_chains_22 : decode b_TT_chains 22 = .ok (.ifCond .eq 39, 3) := by decide +kernel
theorem d_TT_chains_25 : decode b_TT_chains 25 = .ok (.aload_n 0, 1) := by decide +kernel
theorem d_TT_chains_26 : decode b_TT_chains 26 = .ok (.aload_n 0, 1) := by decide +kernel
theorem d_TT_chains_27 : decode b_TT_chains 27 = .ok (.getfield 33, 3) := by decide +kernel
theorem d_TT_chains_30 : decode b_TT_chains 30 = .ok (.iconst 3, 1) := by decide +kernel
theorem d_TT_chains_31 : decode b_TT_chains 31 = .ok (.aload_n 0, 1) := by decide +kernel
theorem d_TT_chains_32 : decode b_TT_chains 32 = .ok (.getfield 29, 3) := by decide +kernel
theorem d_TT_chains_35 : decode b_TT_chains 35 = .ok (.iconst 2, 1) := by decide +kernel
theorem d_TT_chains_36 : decode b_TT_chains 36 = .ok (.invokestatic 129, 3) := by decide +kernel
theorem d_TT_chains_39 : decode b_TT_chains 39 = .ok (.iload_n 2, 1) := by decide +kernel
theorem d_TT_chains_40 : decode b_TT_chains 40 = .ok (.iconst 0, 1) := by decide +kernel
theorem d_TT_chains_41 : decode b_TT_chains 41 = .ok (.invokevirtual 121, 3) := by decide +kernel
theorem d_TT_chains_44 : decode b_TT_chains 44 = .ok (.aload_n 0, 1) := by decide +kernel
theorem d_TT_chains_45 : decode b_TT_chains 45 = .ok (.aload_n 0, 1) := by decide +kernel
theorem d_TT_chains_46 : decode b_TT_chains 46 = .ok (.getfield 33, 3) := by decide +kernel
theorem d_TT_chains_49 : decode b_TT_chains 49 = .ok (.invokevirtual 125, 3) := by decide +kernel
theorem d_TT_chains_52 : decode b_TT_chains 52 = .ok (.ifCond .eq (-38), 3) := by decide +kernel
theorem d_TT_chains_55 : decode b_TT_chains 55 = .ok (.iinc 3 1, 3) := by decide +kernel
theorem d_TT_chains_58 : decode b_TT_chains 58 = .ok (.goto (-14), 3) := by decide +kernel
theorem d_TT_chains_61 : decode b_TT_chains 61 = .ok (.iload_n 3, 1) := by decide +kernel
theorem d_TT_chains_62 : decode b_TT_chains 62 = .ok (.ireturn, 1) := by decide +kernel
theorem d_TT_walk_0 : decode b_TT_walk 0 = .ok (.aload_n 0, 1) := by decide +kernel
theorem d_TT_walk_1 : decode b_TT_walk 1 = .ok (.getfield 21, 3) := by decide +kernel
theorem d_TT_walk_4 : decode b_TT_walk 4 = .ok (.iconst 0, 1) := by decide +kernel
theorem d_TT_walk_5 : decode b_TT_walk 5 = .ok (.iload_n 2, 1) := by decide +kernel
theorem d_TT_walk_6 : decode b_TT_walk 6 = .ok (.iastore, 1) := by decide +kernel
theorem d_TT_walk_7 : decode b_TT_walk 7 = .ok (.aload_n 0, 1) := by decide +kernel
theorem d_TT_walk_8 : decode b_TT_walk 8 = .ok (.getfield 25, 3) := by decide +kernel
theorem d_TT_walk_11 : decode b_TT_walk 11 = .ok (.iconst 0, 1) := by decide +kernel
theorem d_TT_walk_12 : decode b_TT_walk 12 = .ok (.iconst 0, 1) := by decide +kernel
theorem d_TT_walk_13 : decode b_TT_walk 13 = .ok (.iastore, 1) := by decide +kernel
theorem d_TT_walk_14 : decode b_TT_walk 14 = .ok (.aload_n 0, 1) := by decide +kernel
theorem d_TT_walk_15 : decode b_TT_walk 15 = .ok (.iconst 1, 1) := by decide +kernel
theorem d_TT_walk_16 : decode b_TT_walk 16 = .ok (.putfield 159, 3) := by decide +kernel
theorem d_TT_walk_19 : decode b_TT_walk 19 = .ok (.iconst 0, 1) := by decide +kernel
theorem d_TT_walk_20 : decode b_TT_walk 20 = .ok (.istore_n 3, 1) := by decide +kernel
theorem d_TT_walk_21 : decode b_TT_walk 21 = .ok (.iload_n 3, 1) := by decide +kernel
theorem d_TT_walk_22 : decode b_TT_walk 22 = .ok (.aload_n 0, 1) := by decide +kernel
theorem d_TT_walk_23 : decode b_TT_walk 23 = .ok (.getfield 159, 3) := by decide +kernel
theorem d_TT_walk_26 : decode b_TT_walk 26 = .ok (.if_icmp .ge 60, 3) := by decide +kernel
theorem d_TT_walk_29 : decode b_TT_walk 29 = .ok (.aload_n 0, 1) := by decide +kernel
theorem d_TT_walk_30 : decode b_TT_walk 30 = .ok (.aload_n 0, 1) := by decide +kernel
theorem d_TT_walk_31 : decode b_TT_walk 31 = .ok (.getfield 29, 3) := by decide +kernel
theorem d_TT_walk_34 : decode b_TT_walk 34 = .ok (.iconst 3, 1) := by decide +kernel
theorem d_TT_walk_35 : decode b_TT_walk 35 = .ok (.aload_n 0, 1) := by decide +kernel
theorem d_TT_walk_36 : decode b_TT_walk 36 = .ok (.getfield 21, 3) := by decide +kernel
theorem d_TT_walk_39 : decode b_TT_walk 39 = .ok (.iload_n 3, 1) := by decide +kernel
theorem d_TT_walk_40 : decode b_TT_walk 40 = .ok (.iaload, 1) := by decide +kernel
theorem d_TT_walk_41 : decode b_TT_walk 41 = .ok (.iload_n 1, 1) := by decide +kernel
theorem d_TT_walk_42 : decode b_TT_walk 42 = .ok (.iconst 0, 1) := by decide +kernel
theorem d_TT_walk_43 : decode b_TT_walk 43 = .ok (.invokevirtual 121, 3) := by decide +kernel
theorem d_TT_walk_46 : decode b_TT_walk 46 = .ok (.aload_n 0, 1) := by decide +kernel
theorem d_TT_walk_47 : decode b_TT_walk 47 = .ok (.aload_n 0, 1) := by decide +kernel
theorem d_TT_walk_48 : decode b_TT_walk 48 = .ok (.getfield 29, 3) := by decide +kernel
theorem d_TT_walk_51 : decode b_TT_walk 51 = .ok (.invokevirtual 125, 3) := by decide +kernel
theorem d_TT_walk_54 : decode b_TT_walk 54 = .ok (.ifCond .eq 26, 3) := by decide +kernel
theorem d_TT_walk_57 : decode b_TT_walk 57 = .ok (.aload_n 0, 1) := by decide +kernel
theorem d_TT_walk_58 : decode b_TT_walk 58 = .ok (.aload_n 0, 1) := by decide +kernel
theorem d_TT_walk_59 : decode b_TT_walk 59 = .ok (.getfield 29, 3) := by decide +kernel
theorem d_TT_walk_62 : decode b_TT_walk 62 = .ok (.iconst 2, 1) := by decide +kernel
theorem d_TT_walk_63 : decode b_TT_walk 63 = .ok (.invokestatic 129, 3) := by decide +kernel
theorem d_TT_walk_66 : decode b_TT_walk 66 = .ok (.aload_n 0, 1) := by decide +kernel
theorem d_TT_walk_67 : decode b_TT_walk 67 = .ok (.getfield 25, 3) := by decide +kernel
theorem d_TT_walk_70 : decode b_TT_walk 70 = .ok (.iload_n 3, 1) := by decide +kernel
theorem d_TT_walk_71 : decode b_TT_walk 71 = .ok (.iaload, 1) := by decide +kernel
theorem d_TT_walk_72 : decode b_TT_walk 72 = .ok (.iconst 1, 1) := by decide +kernel
theorem d_TT_walk_73 : decode b_TT_walk 73 = .ok (.iadd, 1) := by decide +kernel
theorem d_TT_walk_74 : decode b_TT_walk 74 = .ok (.invokevirtual 162, 3) := by decide +kernel
theorem d_TT_walk_77 : decode b_TT_walk 77 = .ok (.goto (-31), 3) := by decide +kernel
theorem d_TT_walk_80 : decode b_TT_walk 80 = .ok (.iinc 3 1, 3) := by decide +kernel
theorem d_TT_walk_83 : decode b_TT_walk 83 = .ok (.goto (-62), 3) := by decide +kernel
theorem d_TT_walk_86 : decode b_TT_walk 86 = .ok (.return_, 1) := by decide +kernel
theorem d_TT_meet_0 : decode b_TT_meet 0 = .ok (.iconst 0, 1) := by decide +kernel
theorem d_TT_meet_1 : decode b_TT_meet 1 = .ok (.istore_n 3, 1) := by decide +kernel
theorem d_TT_meet_2 : decode b_TT_meet 2 = .ok (.iload_n 3, 1) := by decide +kernel
theorem d_TT_meet_3 : decode b_TT_meet 3 = .ok (.aload_n 0, 1) := by decide +kernel
theorem d_TT_meet_4 : decode b_TT_meet 4 = .ok (.getfield 159, 3) := by decide +kernel
theorem d_TT_meet_7 : decode b_TT_meet 7 = .ok (.if_icmp .ge 19, 3) := by decide +kernel
theorem d_TT_meet_10 : decode b_TT_meet 10 = .ok (.aload_n 0, 1) := by decide +kernel
theorem d_TT_meet_11 : decode b_TT_meet 11 = .ok (.getfield 21, 3) := by decide +kernel
theorem d_TT_meet_14 : decode b_TT_meet 14 = .ok (.iload_n 3, 1) := by decide +kernel
theorem d_TT_meet_15 : decode b_TT_meet 15 = .ok (.iaload, 1) := by decide +kernel
theorem d_TT_meet_16 : decode b_TT_meet 16 = .ok (.iload_n 1, 1) := by decide +kernel
theorem d_TT_meet_17 : decode b_TT_meet 17 = .ok (.if_icmp .eq 9, 3) := by decide +kernel
theorem d_TT_meet_20 : decode b_TT_meet 20 = .ok (.iinc 3 1, 3) := by decide +kernel
theorem d_TT_meet_23 : decode b_TT_meet 23 = .ok (.goto (-21), 3) := by decide +kernel
theorem d_TT_meet_26 : decode b_TT_meet 26 = .ok (.iload_n 3, 1) := by decide +kernel
theorem d_TT_meet_27 : decode b_TT_meet 27 = .ok (.aload_n 0, 1) := by decide +kernel
theorem d_TT_meet_28 : decode b_TT_meet 28 = .ok (.getfield 159, 3) := by decide +kernel
theorem d_TT_meet_31 : decode b_TT_meet 31 = .ok (.if_icmp .ne 27, 3) := by decide +kernel
theorem d_TT_meet_34 : decode b_TT_meet 34 = .ok (.aload_n 0, 1) := by decide +kernel
theorem d_TT_meet_35 : decode b_TT_meet 35 = .ok (.getfield 21, 3) := by decide +kernel
theorem d_TT_meet_38 : decode b_TT_meet 38 = .ok (.iload_n 3, 1) := by decide +kernel
theorem d_TT_meet_39 : decode b_TT_meet 39 = .ok (.iload_n 1, 1) := by decide +kernel
theorem d_TT_meet_40 : decode b_TT_meet 40 = .ok (.iastore, 1) := by decide +kernel
theorem d_TT_meet_41 : decode b_TT_meet 41 = .ok (.aload_n 0, 1) := by decide +kernel
theorem d_TT_meet_42 : decode b_TT_meet 42 = .ok (.getfield 25, 3) := by decide +kernel
theorem d_TT_meet_45 : decode b_TT_meet 45 = .ok (.iload_n 3, 1) := by decide +kernel
theorem d_TT_meet_46 : decode b_TT_meet 46 = .ok (.iload_n 2, 1) := by decide +kernel
theorem d_TT_meet_47 : decode b_TT_meet 47 = .ok (.iastore, 1) := by decide +kernel
theorem d_TT_meet_48 : decode b_TT_meet 48 = .ok (.aload_n 0, 1) := by decide +kernel
theorem d_TT_meet_49 : decode b_TT_meet 49 = .ok (.dup, 1) := by decide +kernel
theorem d_TT_meet_50 : decode b_TT_meet 50 = .ok (.getfield 159, 3) := by decide +kernel
theorem d_TT_meet_53 : decode b_TT_meet 53 = .ok (.iconst 1, 1) := by decide +kernel
theorem d_TT_meet_54 : decode b_TT_meet 54 = .ok (.iadd, 1) := by decide +kernel
theorem d_TT_meet_55 : decode b_TT_meet 55 = .ok (.putfield 159, 3) := by decide +kernel
theorem d_TT_meet_58 : decode b_TT_meet 58 = .ok (.return_, 1) := by decide +kernel
theorem d_TT_far_0 : decode b_TT_far 0 = .ok (.aload_n 0, 1) := by decide +kernel
theorem d_TT_far_1 : decode b_TT_far 1 = .ok (.iload_n 1, 1) := by decide +kernel
theorem d_TT_far_2 : decode b_TT_far 2 = .ok (.iload_n 2, 1) := by decide +kernel
theorem d_TT_far_3 : decode b_TT_far 3 = .ok (.invokevirtual 166, 3) := by decide +kernel
theorem d_TT_far_6 : decode b_TT_far 6 = .ok (.iconst 0, 1) := by decide +kernel
theorem d_TT_far_7 : decode b_TT_far 7 = .ok (.istore 4, 2) := by decide +kernel
theorem d_TT_far_9 : decode b_TT_far 9 = .ok (.iload 4, 2) := by decide +kernel
theorem d_TT_far_11 : decode b_TT_far 11 = .ok (.aload_n 0, 1) := by decide +kernel
theorem d_TT_far_12 : decode b_TT_far 12 = .ok (.getfield 159, 3) := by decide +kernel
theorem d_TT_far_15 : decode b_TT_far 15 = .ok (.if_icmp .ge 20, 3) := by decide +kernel
theorem d_TT_far_18 : decode b_TT_far 18 = .ok (.aload_n 0, 1) := by decide +kernel
theorem d_TT_far_19 : decode b_TT_far 19 = .ok (.getfield 21, 3) := by decide +kernel
theorem d_TT_far_22 : decode b_TT_far 22 = .ok (.iload 4, 2) := by decide +kernel
theorem d_TT_far_24 : decode b_TT_far 24 = .ok (.iaload, 1) := by decide +kernel
theorem d_TT_far_25 : decode b_TT_far 25 = .ok (.iload_n 3, 1) := by decide +kernel
theorem d_TT_far_26 : decode b_TT_far 26 = .ok (.if_icmp .eq 9, 3) := by decide +kernel
theorem d_TT_far_29 : decode b_TT_far 29 = .ok (.iinc 4 1, 3) := by decide +kernel
theorem d_TT_far_32 : decode b_TT_far 32 = .ok (.goto (-23), 3) := by decide +kernel
theorem d_TT_far_35 : decode b_TT_far 35 = .ok (.iload 4, 2) := by decide +kernel
theorem d_TT_far_37 : decode b_TT_far 37 = .ok (.aload_n 0, 1) := by decide +kernel
theorem d_TT_far_38 : decode b_TT_far 38 = .ok (.getfield 159, 3) := by decide +kernel
theorem d_TT_far_41 : decode b_TT_far 41 = .ok (.if_icmp .ge 13, 3) := by decide +kernel
theorem d_TT_far_44 : decode b_TT_far 44 = .ok (.aload_n 0, 1) := by decide +kernel
theorem d_TT_far_45 : decode b_TT_far 45 = .ok (.getfield 25, 3) := by decide +kernel
theorem d_TT_far_48 : decode b_TT_far 48 = .ok (.iload 4, 2) := by decide +kernel
theorem d_TT_far_50 : decode b_TT_far 50 = .ok (.iaload, 1) := by decide +kernel
theorem d_TT_far_51 : decode b_TT_far 51 = .ok (.goto 4, 3) := by decide +kernel
theorem d_TT_far_54 : decode b_TT_far 54 = .ok (.iconst (-1), 1) := by decide +kernel
theorem d_TT_far_55 : decode b_TT_far 55 = .ok (.ireturn, 1) := by decide +kernel
theorem d_TT_reached_0 : decode b_TT_reached 0 = .ok (.aload_n 0, 1) := by decide +kernel
theorem d_TT_reached_1 : decode b_TT_reached 1 = .ok (.iload_n 1, 1) := by decide +kernel
theorem d_TT_reached_2 : decode b_TT_reached 2 = .ok (.iload_n 2, 1) := by decide +kernel
theorem d_TT_reached_3 : decode b_TT_reached 3 = .ok (.invokevirtual 166, 3) := by decide +kernel
theorem d_TT_reached_6 : decode b_TT_reached 6 = .ok (.aload_n 0, 1) := by decide +kernel
theorem d_TT_reached_7 : decode b_TT_reached 7 = .ok (.getfield 159, 3) := by decide +kernel
theorem d_TT_reached_10 : decode b_TT_reached 10 = .ok (.ireturn, 1) := by decide +kernel
theorem d_TT_size_0 : decode b_TT_size 0 = .ok (.aload_n 0, 1) := by decide +kernel
theorem d_TT_size_1 : decode b_TT_size 1 = .ok (.getfield 48, 3) := by decide +kernel
theorem d_TT_size_4 : decode b_TT_size 4 = .ok (.ireturn, 1) := by decide +kernel
theorem d_TT_changes_0 : decode b_TT_changes 0 = .ok (.aload_n 0, 1) := by decide +kernel
theorem d_TT_changes_1 : decode b_TT_changes 1 = .ok (.getfield 55, 3) := by decide +kernel
theorem d_TT_changes_4 : decode b_TT_changes 4 = .ok (.ireturn, 1) := by decide +kernel
theorem d_Cur_init_0 : decode b_Cur_init 0 = .ok (.aload_n 0, 1) := by decide +kernel
theorem d_Cur_init_1 : decode b_Cur_init 1 = .ok (.invokespecial 1, 3) := by decide +kernel
theorem d_Cur_init_4 : decode b_Cur_init 4 = .ok (.aload_n 0, 1) := by decide +kernel
theorem d_Cur_init_5 : decode b_Cur_init 5 = .ok (.iconst 3, 1) := by decide +kernel
theorem d_Cur_init_6 : decode b_Cur_init 6 = .ok (.newarray .int, 2) := by decide +kernel
theorem d_Cur_init_8 : decode b_Cur_init 8 = .ok (.putfield 7, 3) := by decide +kernel
theorem d_Cur_init_11 : decode b_Cur_init 11 = .ok (.aload_n 0, 1) := by decide +kernel
theorem d_Cur_init_12 : decode b_Cur_init 12 = .ok (.iconst 3, 1) := by decide +kernel
theorem d_Cur_init_13 : decode b_Cur_init 13 = .ok (.newarray .int, 2) := by decide +kernel
theorem d_Cur_init_15 : decode b_Cur_init 15 = .ok (.putfield 13, 3) := by decide +kernel
theorem d_Cur_init_18 : decode b_Cur_init 18 = .ok (.return_, 1) := by decide +kernel
