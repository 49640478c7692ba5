/-! decode rows (printed by wip/gen/links.py) -/
theorem d_LP_nearest_0 : decode prog_1_method_1_code 0 = .ok (.iload_n 1, 1) := by decide +kernel
theorem d_LP_nearest_1 : decode prog_1_method_1_code 1 = .ok (.iload_n 2, 1) := by decide +kernel
theorem d_LP_nearest_2 : decode prog_1_method_1_code 2 = .ok (.iload_n 0, 1) := by decide +kernel
theorem d_LP_nearest_3 : decode prog_1_method_1_code 3 = .ok (.invokestatic 1, 3) := by decide +kernel
theorem d_LP_nearest_6 : decode prog_1_method_1_code 6 = .ok (.invokestatic 7, 3) := by decide +kernel
theorem d_LP_nearest_9 : decode prog_1_method_1_code 9 = .ok (.ireturn, 1) := by decide +kernel
theorem d_LP_between_0 : decode prog_1_method_2_code 0 = .ok (.iconst 0, 1) := by decide +kernel
theorem d_LP_between_1 : decode prog_1_method_2_code 1 = .ok (.istore 4, 2) := by decide +kernel
theorem d_LP_between_3 : decode prog_1_method_2_code 3 = .ok (.iload 4, 2) := by decide +kernel
theorem d_LP_between_5 : decode prog_1_method_2_code 5 = .ok (.aload_n 0, 1) := by decide +kernel
theorem d_LP_between_6 : decode prog_1_method_2_code 6 = .ok (.getfield 10, 3) := by decide +kernel
theorem d_LP_between_9 : decode prog_1_method_2_code 9 = .ok (.if_icmp .ge 33, 3) := by decide +kernel
theorem d_LP_between_12 : decode prog_1_method_2_code 12 = .ok (.iload 4, 2) := by decide +kernel
theorem d_LP_between_14 : decode prog_1_method_2_code 14 = .ok (.iload_n 3, 1) := by decide +kernel
theorem d_LP_between_15 : decode prog_1_method_2_code 15 = .ok (.if_icmp .eq 21, 3) := by decide +kernel
theorem d_LP_between_18 : decode prog_1_method_2_code 18 = .ok (.aload_n 0, 1) := by decide +kernel
theorem d_LP_between_19 : decode prog_1_method_2_code 19 = .ok (.getfield 16, 3) := by decide +kernel
theorem d_LP_between_22 : decode prog_1_method_2_code 22 = .ok (.iload 4, 2) := by decide +kernel
theorem d_LP_between_24 : decode prog_1_method_2_code 24 = .ok (.aaload, 1) := by decide +kernel
theorem d_LP_between_25 : decode prog_1_method_2_code 25 = .ok (.iload_n 1, 1) := by decide +kernel
theorem d_LP_between_26 : decode prog_1_method_2_code 26 = .ok (.iload_n 2, 1) := by decide +kernel
theorem d_LP_between_27 : decode prog_1_method_2_code 27 = .ok (.invokevirtual 20, 3) := by decide +kernel
theorem d_LP_between_30 : decode prog_1_method_2_code 30 = .ok (.ifCond .eq 6, 3) := by decide +kernel
theorem d_LP_between_33 : decode prog_1_method_2_code 33 = .ok (.iload 4, 2) := by decide +kernel
theorem d_LP_between_35 : decode prog_1_method_2_code 35 = .ok (.ireturn, 1) := by decide +kernel
theorem d_LP_between_36 : decode prog_1_method_2_code 36 = .ok (.iinc 4 1, 3) := by decide +kernel
theorem d_LP_between_39 : decode prog_1_method_2_code 39 = .ok (.goto (-36), 3) := by decide +kernel
theorem d_LP_between_42 : decode prog_1_method_2_code 42 = .ok (.iconst (-1), 1) := by decide +kernel
theorem d_LP_between_43 : decode prog_1_method_2_code 43 = .ok (.ireturn, 1) := by decide +kernel
theorem d_LP_measure_0 : decode prog_1_method_3_code 0 = .ok (.iconst 0, 1) := by decide +kernel
theorem d_LP_measure_1 : decode prog_1_method_3_code 1 = .ok (.istore_n 3, 1) := by decide +kernel
theorem d_LP_measure_2 : decode prog_1_method_3_code 2 = .ok (.iload_n 3, 1) := by decide +kernel
theorem d_LP_measure_3 : decode prog_1_method_3_code 3 = .ok (.aload_n 0, 1) := by decide +kernel
theorem d_LP_measure_4 : decode prog_1_method_3_code 4 = .ok (.getfield 26, 3) := by decide +kernel
theorem d_LP_measure_7 : decode prog_1_method_3_code 7 = .ok (.if_icmp .ge 25, 3) := by decide +kernel
theorem d_LP_measure_10 : decode prog_1_method_3_code 10 = .ok (.aload_n 0, 1) := by decide +kernel
theorem d_LP_measure_11 : decode prog_1_method_3_code 11 = .ok (.getfield 29, 3) := by decide +kernel
theorem d_LP_measure_14 : decode prog_1_method_3_code 14 = .ok (.iload_n 3, 1) := by decide +kernel
theorem d_LP_measure_15 : decode prog_1_method_3_code 15 = .ok (.iload_n 3, 1) := by decide +kernel
theorem d_LP_measure_16 : decode prog_1_method_3_code 16 = .ok (.iload_n 1, 1) := by decide +kernel
theorem d_LP_measure_17 : decode prog_1_method_3_code 17 = .ok (.if_icmp .ne 7, 3) := by decide +kernel
theorem d_LP_measure_20 : decode prog_1_method_3_code 20 = .ok (.iconst 0, 1) := by decide +kernel
theorem d_LP_measure_21 : decode prog_1_method_3_code 21 = .ok (.goto 4, 3) := by decide +kernel
theorem d_LP_measure_24 : decode prog_1_method_3_code 24 = .ok (.iconst (-1), 1) := by decide +kernel
theorem d_LP_measure_25 : decode prog_1_method_3_code 25 = .ok (.iastore, 1) := by decide +kernel
theorem d_LP_measure_26 : decode prog_1_method_3_code 26 = .ok (.iinc 3 1, 3) := by decide +kernel
theorem d_LP_measure_29 : decode prog_1_method_3_code 29 = .ok (.goto (-27), 3) := by decide +kernel
theorem d_LP_measure_32 : decode prog_1_method_3_code 32 = .ok (.iconst 1, 1) := by decide +kernel
theorem d_LP_measure_33 : decode prog_1_method_3_code 33 = .ok (.istore_n 3, 1) := by decide +kernel
theorem d_LP_measure_34 : decode prog_1_method_3_code 34 = .ok (.iload_n 3, 1) := by decide +kernel
theorem d_LP_measure_35 : decode prog_1_method_3_code 35 = .ok (.aload_n 0, 1) := by decide +kernel
theorem d_LP_measure_36 : decode prog_1_method_3_code 36 = .ok (.getfield 26, 3) := by decide +kernel
theorem d_LP_measure_39 : decode prog_1_method_3_code 39 = .ok (.if_icmp .ge 59, 3) := by decide +kernel
theorem d_LP_measure_42 : decode prog_1_method_3_code 42 = .ok (.iconst 0, 1) := by decide +kernel
theorem d_LP_measure_43 : decode prog_1_method_3_code 43 = .ok (.istore 4, 2) := by decide +kernel
theorem d_LP_measure_45 : decode prog_1_method_3_code 45 = .ok (.iload 4, 2) := by decide +kernel
theorem d_LP_measure_47 : decode prog_1_method_3_code 47 = .ok (.aload_n 0, 1) := by decide +kernel
theorem d_LP_measure_48 : decode prog_1_method_3_code 48 = .ok (.getfield 26, 3) := by decide +kernel
theorem d_LP_measure_51 : decode prog_1_method_3_code 51 = .ok (.if_icmp .ge 41, 3) := by decide +kernel
theorem d_LP_measure_54 : decode prog_1_method_3_code 54 = .ok (.aload_n 0, 1) := by decide +kernel
theorem d_LP_measure_55 : decode prog_1_method_3_code 55 = .ok (.getfield 29, 3) := by decide +kernel
theorem d_LP_measure_58 : decode prog_1_method_3_code 58 = .ok (.iload 4, 2) := by decide +kernel
theorem d_LP_measure_60 : decode prog_1_method_3_code 60 = .ok (.iaload, 1) := by decide +kernel
theorem d_LP_measure_61 : decode prog_1_method_3_code 61 = .ok (.iconst (-1), 1) := by decide +kernel
theorem d_LP_measure_62 : decode prog_1_method_3_code 62 = .ok (.if_icmp .ne 24, 3) := by decide +kernel
theorem d_LP_measure_65 : decode prog_1_method_3_code 65 = .ok (.aload_n 0, 1) := by decide +kernel
theorem d_LP_measure_66 : decode prog_1_method_3_code 66 = .ok (.iload 4, 2) := by decide +kernel
theorem d_LP_measure_68 : decode prog_1_method_3_code 68 = .ok (.iload_n 3, 1) := by decide +kernel
theorem d_LP_measure_69 : decode prog_1_method_3_code 69 = .ok (.iconst 1, 1) := by decide +kernel
theorem d_LP_measure_70 : decode prog_1_method_3_code 70 = .ok (.isub, 1) := by decide +kernel
theorem d_LP_measure_71 : decode prog_1_method_3_code 71 = .ok (.iload_n 2, 1) := by decide +kernel
theorem d_LP_measure_72 : decode prog_1_method_3_code 72 = .ok (.invokevirtual 33, 3) := by decide +kernel
theorem d_LP_measure_75 : decode prog_1_method_3_code 75 = .ok (.ifCond .eq 11, 3) := by decide +kernel
theorem d_LP_measure_78 : decode prog_1_method_3_code 78 = .ok (.aload_n 0, 1) := by decide +kernel
theorem d_LP_measure_79 : decode prog_1_method_3_code 79 = .ok (.getfield 29, 3) := by decide +kernel
theorem d_LP_measure_82 : decode prog_1_method_3_code 82 = .ok (.iload 4, 2) := by decide +kernel
theorem d_LP_measure_84 : decode prog_1_method_3_code 84 = .ok (.iload_n 3, 1) := by decide +kernel
theorem d_LP_measure_85 : decode prog_1_method_3_code 85 = .ok (.iastore, 1) := by decide +kernel
theorem d_LP_measure_86 : decode prog_1_method_3_code 86 = .ok (.iinc 4 1, 3) := by decide +kernel
theorem d_LP_measure_89 : decode prog_1_method_3_code 89 = .ok (.goto (-44), 3) := by decide +kernel
theorem d_LP_measure_92 : decode prog_1_method_3_code 92 = .ok (.iinc 3 1, 3) := by decide +kernel
theorem d_LP_measure_95 : decode prog_1_method_3_code 95 = .ok (.goto (-61), 3) := by decide +kernel
theorem d_LP_measure_98 : decode prog_1_method_3_code 98 = .ok (.return_, 1) := by decide +kernel
theorem d_LP_isNextTo_0 : decode prog_1_method_4_code 0 = .ok (.iconst 0, 1) := by decide +kernel
theorem d_LP_isNextTo_1 : decode prog_1_method_4_code 1 = .ok (.istore 4, 2) := by decide +kernel
theorem d_LP_isNextTo_3 : decode prog_1_method_4_code 3 = .ok (.iconst 0, 1) := by decide +kernel
theorem d_LP_isNextTo_4 : decode prog_1_method_4_code 4 = .ok (.istore 5, 2) := by decide +kernel
theorem d_LP_isNextTo_6 : decode prog_1_method_4_code 6 = .ok (.iload 5, 2) := by decide +kernel
theorem d_LP_isNextTo_8 : decode prog_1_method_4_code 8 = .ok (.aload_n 0, 1) := by decide +kernel
theorem d_LP_isNextTo_9 : decode prog_1_method_4_code 9 = .ok (.getfield 26, 3) := by decide +kernel
theorem d_LP_isNextTo_12 : decode prog_1_method_4_code 12 = .ok (.if_icmp .ge 42, 3) := by decide +kernel
theorem d_LP_isNextTo_15 : decode prog_1_method_4_code 15 = .ok (.iload 4, 2) := by decide +kernel
theorem d_LP_isNextTo_17 : decode prog_1_method_4_code 17 = .ok (.aload_n 0, 1) := by decide +kernel
theorem d_LP_isNextTo_18 : decode prog_1_method_4_code 18 = .ok (.getfield 29, 3) := by decide +kernel
theorem d_LP_isNextTo_21 : decode prog_1_method_4_code 21 = .ok (.iload 5, 2) := by decide +kernel
theorem d_LP_isNextTo_23 : decode prog_1_method_4_code 23 = .ok (.iaload, 1) := by decide +kernel
theorem d_LP_isNextTo_24 : decode prog_1_method_4_code 24 = .ok (.iload_n 2, 1) := by decide +kernel
theorem d_LP_isNextTo_25 : decode prog_1_method_4_code 25 = .ok (.if_icmp .ne 19, 3) := by decide +kernel
theorem d_LP_isNextTo_28 : decode prog_1_method_4_code 28 = .ok (.aload_n 0, 1) := by decide +kernel
theorem d_LP_isNextTo_29 : decode prog_1_method_4_code 29 = .ok (.iload_n 1, 1) := by decide +kernel
theorem d_LP_isNextTo_30 : decode prog_1_method_4_code 30 = .ok (.iload 5, 2) := by decide +kernel
theorem d_LP_isNextTo_32 : decode prog_1_method_4_code 32 = .ok (.iload_n 3, 1) := by decide +kernel
theorem d_LP_isNextTo_33 : decode prog_1_method_4_code 33 = .ok (.invokevirtual 37, 3) := by decide +kernel
theorem d_LP_isNextTo_36 : decode prog_1_method_4_code 36 = .ok (.iconst (-1), 1) := by decide +kernel
theorem d_LP_isNextTo_37 : decode prog_1_method_4_code 37 = .ok (.if_icmp .eq 7, 3) := by decide +kernel
theorem d_LP_isNextTo_40 : decode prog_1_method_4_code 40 = .ok (.iconst 1, 1) := by decide +kernel
theorem d_LP_isNextTo_41 : decode prog_1_method_4_code 41 = .ok (.goto 4, 3) := by decide +kernel
theorem d_LP_isNextTo_44 : decode prog_1_method_4_code 44 = .ok (.iconst 0, 1) := by decide +kernel
theorem d_LP_isNextTo_45 : decode prog_1_method_4_code 45 = .ok (.ior, 1) := by decide +kernel
theorem d_LP_isNextTo_46 : decode prog_1_method_4_code 46 = .ok (.istore 4, 2) := by decide +kernel
theorem d_LP_isNextTo_48 : decode prog_1_method_4_code 48 = .ok (.iinc 5 1, 3) := by decide +kernel
theorem d_LP_isNextTo_51 : decode prog_1_method_4_code 51 = .ok (.goto (-45), 3) := by decide +kernel
theorem d_LP_isNextTo_54 : decode prog_1_method_4_code 54 = .ok (.iload 4, 2) := by decide +kernel
theorem d_LP_isNextTo_56 : decode prog_1_method_4_code 56 = .ok (.ireturn, 1) := by decide +kernel
theorem d_LP_find_0 : decode prog_1_method_5_code 0 = .ok (.iload_n 1, 1) := by decide +kernel
theorem d_LP_find_1 : decode prog_1_method_5_code 1 = .ok (.iload_n 2, 1) := by decide +kernel
theorem d_LP_find_2 : decode prog_1_method_5_code 2 = .ok (.invokestatic 1, 3) := by decide +kernel
theorem d_LP_find_5 : decode prog_1_method_5_code 5 = .ok (.istore 4, 2) := by decide +kernel
theorem d_LP_find_7 : decode prog_1_method_5_code 7 = .ok (.iload_n 1, 1) := by decide +kernel
theorem d_LP_find_8 : decode prog_1_method_5_code 8 = .ok (.iload_n 2, 1) := by decide +kernel
theorem d_LP_find_9 : decode prog_1_method_5_code 9 = .ok (.invokestatic 7, 3) := by decide +kernel
theorem d_LP_find_12 : decode prog_1_method_5_code 12 = .ok (.istore 5, 2) := by decide +kernel
theorem d_LP_find_14 : decode prog_1_method_5_code 14 = .ok (.aload_n 0, 1) := by decide +kernel
theorem d_LP_find_15 : decode prog_1_method_5_code 15 = .ok (.iload 5, 2) := by decide +kernel
theorem d_LP_find_17 : decode prog_1_method_5_code 17 = .ok (.iload_n 3, 1) := by decide +kernel
theorem d_LP_find_18 : decode prog_1_method_5_code 18 = .ok (.invokevirtual 41, 3) := by decide +kernel
theorem d_LP_find_21 : decode prog_1_method_5_code 21 = .ok (.aload_n 0, 1) := by decide +kernel
theorem d_LP_find_22 : decode prog_1_method_5_code 22 = .ok (.getfield 29, 3) := by decide +kernel
theorem d_LP_find_25 : decode prog_1_method_5_code 25 = .ok (.iload 4, 2) := by decide +kernel
theorem d_LP_find_27 : decode prog_1_method_5_code 27 = .ok (.iaload, 1) := by decide +kernel
theorem d_LP_find_28 : decode prog_1_method_5_code 28 = .ok (.istore 6, 2) := by decide +kernel
theorem d_LP_find_30 : decode prog_1_method_5_code 30 = .ok (.iload 6, 2) := by decide +kernel
theorem d_LP_find_32 : decode prog_1_method_5_code 32 = .ok (.iconst (-1), 1) := by decide +kernel
theorem d_LP_find_33 : decode prog_1_method_5_code 33 = .ok (.if_icmp .ne 5, 3) := by decide +kernel
theorem d_LP_find_36 : decode prog_1_method_5_code 36 = .ok (.iconst (-1), 1) := by decide +kernel
theorem d_LP_find_37 : decode prog_1_method_5_code 37 = .ok (.ireturn, 1) := by decide +kernel
theorem d_LP_find_38 : decode prog_1_method_5_code 38 = .ok (.iload 4, 2) := by decide +kernel
theorem d_LP_find_40 : decode prog_1_method_5_code 40 = .ok (.istore 7, 2) := by decide +kernel
theorem d_LP_find_42 : decode prog_1_method_5_code 42 = .ok (.iconst 0, 1) := by decide +kernel
theorem d_LP_find_43 : decode prog_1_method_5_code 43 = .ok (.istore 8, 2) := by decide +kernel
theorem d_LP_find_45 : decode prog_1_method_5_code 45 = .ok (.iload 8, 2) := by decide +kernel
theorem d_LP_find_47 : decode prog_1_method_5_code 47 = .ok (.iload 6, 2) := by decide +kernel
theorem d_LP_find_49 : decode prog_1_method_5_code 49 = .ok (.if_icmp .gt 81, 3) := by decide +kernel
theorem d_LP_find_52 : decode prog_1_method_5_code 52 = .ok (.aload_n 0, 1) := by decide +kernel
theorem d_LP_find_53 : decode prog_1_method_5_code 53 = .ok (.getfield 45, 3) := by decide +kernel
theorem d_LP_find_56 : decode prog_1_method_5_code 56 = .ok (.iload_n 1, 1) := by decide +kernel
theorem d_LP_find_57 : decode prog_1_method_5_code 57 = .ok (.iload_n 2, 1) := by decide +kernel
theorem d_LP_find_58 : decode prog_1_method_5_code 58 = .ok (.if_icmp .gt 8, 3) := by decide +kernel
theorem d_LP_find_61 : decode prog_1_method_5_code 61 = .ok (.iload 8, 2) := by decide +kernel
theorem d_LP_find_63 : decode prog_1_method_5_code 63 = .ok (.goto 8, 3) := by decide +kernel
theorem d_LP_find_66 : decode prog_1_method_5_code 66 = .ok (.iload 6, 2) := by decide +kernel
theorem d_LP_find_68 : decode prog_1_method_5_code 68 = .ok (.iload 8, 2) := by decide +kernel
theorem d_LP_find_70 : decode prog_1_method_5_code 70 = .ok (.isub, 1) := by decide +kernel
theorem d_LP_find_71 : decode prog_1_method_5_code 71 = .ok (.iload 7, 2) := by decide +kernel
theorem d_LP_find_73 : decode prog_1_method_5_code 73 = .ok (.iastore, 1) := by decide +kernel
theorem d_LP_find_74 : decode prog_1_method_5_code 74 = .ok (.iconst 0, 1) := by decide +kernel
theorem d_LP_find_75 : decode prog_1_method_5_code 75 = .ok (.istore 9, 2) := by decide +kernel
theorem d_LP_find_77 : decode prog_1_method_5_code 77 = .ok (.iload 8, 2) := by decide +kernel
theorem d_LP_find_79 : decode prog_1_method_5_code 79 = .ok (.iload 6, 2) := by decide +kernel
theorem d_LP_find_81 : decode prog_1_method_5_code 81 = .ok (.if_icmp .ge 39, 3) := by decide +kernel
theorem d_LP_find_84 : decode prog_1_method_5_code 84 = .ok (.aload_n 0, 1) := by decide +kernel
theorem d_LP_find_85 : decode prog_1_method_5_code 85 = .ok (.getfield 29, 3) := by decide +kernel
theorem d_LP_find_88 : decode prog_1_method_5_code 88 = .ok (.iload 9, 2) := by decide +kernel
theorem d_LP_find_90 : decode prog_1_method_5_code 90 = .ok (.iaload, 1) := by decide +kernel
theorem d_LP_find_91 : decode prog_1_method_5_code 91 = .ok (.iload 6, 2) := by decide +kernel
theorem d_LP_find_93 : decode prog_1_method_5_code 93 = .ok (.iload 8, 2) := by decide +kernel
theorem d_LP_find_95 : decode prog_1_method_5_code 95 = .ok (.isub, 1) := by decide +kernel
theorem d_LP_find_96 : decode prog_1_method_5_code 96 = .ok (.iconst 1, 1) := by decide +kernel
theorem d_LP_find_97 : decode prog_1_method_5_code 97 = .ok (.isub, 1) := by decide +kernel
theorem d_LP_find_98 : decode prog_1_method_5_code 98 = .ok (.if_icmp .ne 16, 3) := by decide +kernel
theorem d_LP_find_101 : decode prog_1_method_5_code 101 = .ok (.aload_n 0, 1) := by decide +kernel
theorem d_LP_find_102 : decode prog_1_method_5_code 102 = .ok (.iload 7, 2) := by decide +kernel
theorem d_LP_find_104 : decode prog_1_method_5_code 104 = .ok (.iload 9, 2) := by decide +kernel
theorem d_LP_find_106 : decode prog_1_method_5_code 106 = .ok (.iload_n 3, 1) := by decide +kernel
theorem d_LP_find_107 : decode prog_1_method_5_code 107 = .ok (.invokevirtual 37, 3) := by decide +kernel
theorem d_LP_find_110 : decode prog_1_method_5_code 110 = .ok (.iconst (-1), 1) := by decide +kernel
theorem d_LP_find_111 : decode prog_1_method_5_code 111 = .ok (.if_icmp .ne 9, 3) := by decide +kernel
theorem d_LP_find_114 : decode prog_1_method_5_code 114 = .ok (.iinc 9 1, 3) := by decide +kernel
theorem d_LP_find_117 : decode prog_1_method_5_code 117 = .ok (.goto (-40), 3) := by decide +kernel
theorem d_LP_find_120 : decode prog_1_method_5_code 120 = .ok (.iload 9, 2) := by decide +kernel
theorem d_LP_find_122 : decode prog_1_method_5_code 122 = .ok (.istore 7, 2) := by decide +kernel
theorem d_LP_find_124 : decode prog_1_method_5_code 124 = .ok (.iinc 8 1, 3) := by decide +kernel
theorem d_LP_find_127 : decode prog_1_method_5_code 127 = .ok (.goto (-82), 3) := by decide +kernel
theorem d_LP_find_130 : decode prog_1_method_5_code 130 = .ok (.iload 6, 2) := by decide +kernel
theorem d_LP_find_132 : decode prog_1_method_5_code 132 = .ok (.ireturn, 1) := by decide +kernel
theorem d_LP_walk_0 : decode prog_1_method_6_code 0 = .ok (.iconst 0, 1) := by decide +kernel
theorem d_LP_walk_1 : decode prog_1_method_6_code 1 = .ok (.istore 6, 2) := by decide +kernel
theorem d_LP_walk_3 : decode prog_1_method_6_code 3 = .ok (.iload 6, 2) := by decide +kernel
theorem d_LP_walk_5 : decode prog_1_method_6_code 5 = .ok (.iload 4, 2) := by decide +kernel
theorem d_LP_walk_7 : decode prog_1_method_6_code 7 = .ok (.if_icmp .ge 73, 3) := by decide +kernel
theorem d_LP_walk_10 : decode prog_1_method_6_code 10 = .ok (.aload_n 0, 1) := by decide +kernel
theorem d_LP_walk_11 : decode prog_1_method_6_code 11 = .ok (.aload_n 0, 1) := by decide +kernel
theorem d_LP_walk_12 : decode prog_1_method_6_code 12 = .ok (.getfield 45, 3) := by decide +kernel
theorem d_LP_walk_15 : decode prog_1_method_6_code 15 = .ok (.iload 6, 2) := by decide +kernel
theorem d_LP_walk_17 : decode prog_1_method_6_code 17 = .ok (.iaload, 1) := by decide +kernel
theorem d_LP_walk_18 : decode prog_1_method_6_code 18 = .ok (.aload_n 0, 1) := by decide +kernel
theorem d_LP_walk_19 : decode prog_1_method_6_code 19 = .ok (.getfield 45, 3) := by decide +kernel
theorem d_LP_walk_22 : decode prog_1_method_6_code 22 = .ok (.iload 6, 2) := by decide +kernel
theorem d_LP_walk_24 : decode prog_1_method_6_code 24 = .ok (.iconst 1, 1) := by decide +kernel
theorem d_LP_walk_25 : decode prog_1_method_6_code 25 = .ok (.iadd, 1) := by decide +kernel
theorem d_LP_walk_26 : decode prog_1_method_6_code 26 = .ok (.iaload, 1) := by decide +kernel
theorem d_LP_walk_27 : decode prog_1_method_6_code 27 = .ok (.iload 5, 2) := by decide +kernel
theorem d_LP_walk_29 : decode prog_1_method_6_code 29 = .ok (.invokevirtual 37, 3) := by decide +kernel
theorem d_LP_walk_32 : decode prog_1_method_6_code 32 = .ok (.istore 7, 2) := by decide +kernel
theorem d_LP_walk_34 : decode prog_1_method_6_code 34 = .ok (.aload_n 1, 1) := by decide +kernel
theorem d_LP_walk_35 : decode prog_1_method_6_code 35 = .ok (.aload_n 2, 1) := by decide +kernel
theorem d_LP_walk_36 : decode prog_1_method_6_code 36 = .ok (.aload_n 3, 1) := by decide +kernel
theorem d_LP_walk_37 : decode prog_1_method_6_code 37 = .ok (.aload_n 0, 1) := by decide +kernel
theorem d_LP_walk_38 : decode prog_1_method_6_code 38 = .ok (.getfield 16, 3) := by decide +kernel
theorem d_LP_walk_41 : decode prog_1_method_6_code 41 = .ok (.iload 7, 2) := by decide +kernel
theorem d_LP_walk_43 : decode prog_1_method_6_code 43 = .ok (.aaload, 1) := by decide +kernel
theorem d_LP_walk_44 : decode prog_1_method_6_code 44 = .ok (.iload 7, 2) := by decide +kernel
theorem d_LP_walk_46 : decode prog_1_method_6_code 46 = .ok (.aload_n 0, 1) := by decide +kernel
theorem d_LP_walk_47 : decode prog_1_method_6_code 47 = .ok (.getfield 16, 3) := by decide +kernel
theorem d_LP_walk_50 : decode prog_1_method_6_code 50 = .ok (.iload 7, 2) := by decide +kernel
theorem d_LP_walk_52 : decode prog_1_method_6_code 52 = .ok (.aaload, 1) := by decide +kernel
theorem d_LP_walk_53 : decode prog_1_method_6_code 53 = .ok (.getfield 48, 3) := by decide +kernel
theorem d_LP_walk_56 : decode prog_1_method_6_code 56 = .ok (.aload_n 0, 1) := by decide +kernel
theorem d_LP_walk_57 : decode prog_1_method_6_code 57 = .ok (.getfield 45, 3) := by decide +kernel
theorem d_LP_walk_60 : decode prog_1_method_6_code 60 = .ok (.iload 6, 2) := by decide +kernel
theorem d_LP_walk_62 : decode prog_1_method_6_code 62 = .ok (.iaload, 1) := by decide +kernel
theorem d_LP_walk_63 : decode prog_1_method_6_code 63 = .ok (.if_icmp .eq 7, 3) := by decide +kernel
theorem d_LP_walk_66 : decode prog_1_method_6_code 66 = .ok (.iconst 1, 1) := by decide +kernel
theorem d_LP_walk_67 : decode prog_1_method_6_code 67 = .ok (.goto 4, 3) := by decide +kernel
theorem d_LP_walk_70 : decode prog_1_method_6_code 70 = .ok (.iconst 0, 1) := by decide +kernel
theorem d_LP_walk_71 : decode prog_1_method_6_code 71 = .ok (.invokevirtual 51, 3) := by decide +kernel
theorem d_LP_walk_74 : decode prog_1_method_6_code 74 = .ok (.iinc 6 1, 3) := by decide +kernel
theorem d_LP_walk_77 : decode prog_1_method_6_code 77 = .ok (.goto (-74), 3) := by decide +kernel
theorem d_LP_walk_80 : decode prog_1_method_6_code 80 = .ok (.return_, 1) := by decide +kernel
theorem d_LP_init_0 : decode prog_1_method_7_code 0 = .ok (.aload_n 0, 1) := by decide +kernel
theorem d_LP_init_1 : decode prog_1_method_7_code 1 = .ok (.invokespecial 57, 3) := by decide +kernel
theorem d_LP_init_4 : decode prog_1_method_7_code 4 = .ok (.aload_n 0, 1) := by decide +kernel
theorem d_LP_init_5 : decode prog_1_method_7_code 5 = .ok (.bipush 8, 2) := by decide +kernel
theorem d_LP_init_7 : decode prog_1_method_7_code 7 = .ok (.anewarray 63, 3) := by decide +kernel
theorem d_LP_init_10 : decode prog_1_method_7_code 10 = .ok (.putfield 65, 3) := by decide +kernel
theorem d_LP_init_13 : decode prog_1_method_7_code 13 = .ok (.aload_n 0, 1) := by decide +kernel
theorem d_LP_init_14 : decode prog_1_method_7_code 14 = .ok (.bipush 16, 2) := by decide +kernel
theorem d_LP_init_16 : decode prog_1_method_7_code 16 = .ok (.anewarray 21, 3) := by decide +kernel
theorem d_LP_init_19 : decode prog_1_method_7_code 19 = .ok (.putfield 16, 3) := by decide +kernel
theorem d_LP_init_22 : decode prog_1_method_7_code 22 = .ok (.aload_n 0, 1) := by decide +kernel
theorem d_LP_init_23 : decode prog_1_method_7_code 23 = .ok (.new 63, 3) := by decide +kernel
theorem d_LP_init_26 : decode prog_1_method_7_code 26 = .ok (.dup, 1) := by decide +kernel
theorem d_LP_init_27 : decode prog_1_method_7_code 27 = .ok (.invokespecial 69, 3) := by decide +kernel
theorem d_LP_init_30 : decode prog_1_method_7_code 30 = .ok (.putfield 70, 3) := by decide +kernel
theorem d_LP_init_33 : decode prog_1_method_7_code 33 = .ok (.aload_n 0, 1) := by decide +kernel
theorem d_LP_init_34 : decode prog_1_method_7_code 34 = .ok (.bipush 8, 2) := by decide +kernel
theorem d_LP_init_36 : decode prog_1_method_7_code 36 = .ok (.newarray .int, 2) := by decide +kernel
theorem d_LP_init_38 : decode prog_1_method_7_code 38 = .ok (.putfield 29, 3) := by decide +kernel
theorem d_LP_init_41 : decode prog_1_method_7_code 41 = .ok (.aload_n 0, 1) := by decide +kernel
theorem d_LP_init_42 : decode prog_1_method_7_code 42 = .ok (.bipush 8, 2) := by decide +kernel
theorem d_LP_init_44 : decode prog_1_method_7_code 44 = .ok (.newarray .int, 2) := by decide +kernel
theorem d_LP_init_46 : decode prog_1_method_7_code 46 = .ok (.putfield 45, 3) := by decide +kernel
theorem d_LP_init_49 : decode prog_1_method_7_code 49 = .ok (.aload_n 0, 1) := by decide +kernel
theorem d_LP_init_50 : decode prog_1_method_7_code 50 = .ok (.bipush 16, 2) := by decide +kernel
theorem d_LP_init_52 : decode prog_1_method_7_code 52 = .ok (.anewarray 74, 3) := by decide +kernel
theorem d_LP_init_55 : decode prog_1_method_7_code 55 = .ok (.putfield 76, 3) := by decide +kernel
theorem d_LP_init_58 : decode prog_1_method_7_code 58 = .ok (.aload_n 0, 1) := by decide +kernel
theorem d_LP_init_59 : decode prog_1_method_7_code 59 = .ok (.new 74, 3) := by decide +kernel
theorem d_LP_init_62 : decode prog_1_method_7_code 62 = .ok (.dup, 1) := by decide +kernel
theorem d_LP_init_63 : decode prog_1_method_7_code 63 = .ok (.invokespecial 80, 3) := by decide +kernel
theorem d_LP_init_66 : decode prog_1_method_7_code 66 = .ok (.putfield 81, 3) := by decide +kernel
theorem d_LP_init_69 : decode prog_1_method_7_code 69 = .ok (.aload_n 0, 1) := by decide +kernel
theorem d_LP_init_70 : decode prog_1_method_7_code 70 = .ok (.new 52, 3) := by decide +kernel
theorem d_LP_init_73 : decode prog_1_method_7_code 73 = .ok (.dup, 1) := by decide +kernel
theorem d_LP_init_74 : decode prog_1_method_7_code 74 = .ok (.invokespecial 85, 3) := by decide +kernel
theorem d_LP_init_77 : decode prog_1_method_7_code 77 = .ok (.putfield 86, 3) := by decide +kernel
theorem d_LP_init_80 : decode prog_1_method_7_code 80 = .ok (.aload_n 0, 1) := by decide +kernel
theorem d_LP_init_81 : decode prog_1_method_7_code 81 = .ok (.new 52, 3) := by decide +kernel
theorem d_LP_init_84 : decode prog_1_method_7_code 84 = .ok (.dup, 1) := by decide +kernel
theorem d_LP_init_85 : decode prog_1_method_7_code 85 = .ok (.invokespecial 85, 3) := by decide +kernel
theorem d_LP_init_88 : decode prog_1_method_7_code 88 = .ok (.putfield 90, 3) := by decide +kernel
theorem d_LP_init_91 : decode prog_1_method_7_code 91 = .ok (.aload_n 0, 1) := by decide +kernel
theorem d_LP_init_92 : decode prog_1_method_7_code 92 = .ok (.new 93, 3) := by decide +kernel
theorem d_LP_init_95 : decode prog_1_method_7_code 95 = .ok (.dup, 1) := by decide +kernel
theorem d_LP_init_96 : decode prog_1_method_7_code 96 = .ok (.invokespecial 95, 3) := by decide +kernel
theorem d_LP_init_99 : decode prog_1_method_7_code 99 = .ok (.putfield 96, 3) := by decide +kernel
theorem d_LP_init_102 : decode prog_1_method_7_code 102 = .ok (.aload_n 0, 1) := by decide +kernel
theorem d_LP_init_103 : decode prog_1_method_7_code 103 = .ok (.new 100, 3) := by decide +kernel
theorem d_LP_init_106 : decode prog_1_method_7_code 106 = .ok (.dup, 1) := by decide +kernel
theorem d_LP_init_107 : decode prog_1_method_7_code 107 = .ok (.invokespecial 102, 3) := by decide +kernel
theorem d_LP_init_110 : decode prog_1_method_7_code 110 = .ok (.putfield 103, 3) := by decide +kernel
theorem d_LP_init_113 : decode prog_1_method_7_code 113 = .ok (.aload_n 0, 1) := by decide +kernel
theorem d_LP_init_114 : decode prog_1_method_7_code 114 = .ok (.new 100, 3) := by decide +kernel
theorem d_LP_init_117 : decode prog_1_method_7_code 117 = .ok (.dup, 1) := by decide +kernel
theorem d_LP_init_118 : decode prog_1_method_7_code 118 = .ok (.invokespecial 102, 3) := by decide +kernel
theorem d_LP_init_121 : decode prog_1_method_7_code 121 = .ok (.putfield 107, 3) := by decide +kernel
theorem d_LP_init_124 : decode prog_1_method_7_code 124 = .ok (.aload_n 0, 1) := by decide +kernel
theorem d_LP_init_125 : decode prog_1_method_7_code 125 = .ok (.getfield 65, 3) := by decide +kernel
theorem d_LP_init_128 : decode prog_1_method_7_code 128 = .ok (.iconst 0, 1) := by decide +kernel
theorem d_LP_init_129 : decode prog_1_method_7_code 129 = .ok (.new 63, 3) := by decide +kernel
theorem d_LP_init_132 : decode prog_1_method_7_code 132 = .ok (.dup, 1) := by decide +kernel
theorem d_LP_init_133 : decode prog_1_method_7_code 133 = .ok (.invokespecial 69, 3) := by decide +kernel
theorem d_LP_init_136 : decode prog_1_method_7_code 136 = .ok (.aastore, 1) := by decide +kernel
theorem d_LP_init_137 : decode prog_1_method_7_code 137 = .ok (.aload_n 0, 1) := by decide +kernel
theorem d_LP_init_138 : decode prog_1_method_7_code 138 = .ok (.iconst 1, 1) := by decide +kernel
theorem d_LP_init_139 : decode prog_1_method_7_code 139 = .ok (.putfield 26, 3) := by decide +kernel
theorem d_LP_init_142 : decode prog_1_method_7_code 142 = .ok (.return_, 1) := by decide +kernel
theorem d_LP_need_0 : decode prog_1_method_8_code 0 = .ok (.iload_n 0, 1) := by decide +kernel
theorem d_LP_need_1 : decode prog_1_method_8_code 1 = .ok (.ifCond .ne 13, 3) := by decide +kernel
theorem d_LP_need_4 : decode prog_1_method_8_code 4 = .ok (.new 110, 3) := by decide +kernel
theorem d_LP_need_7 : decode prog_1_method_8_code 7 = .ok (.dup, 1) := by decide +kernel
theorem d_LP_need_8 : decode prog_1_method_8_code 8 = .ok (.ldc 112, 2) := by decide +kernel
theorem d_LP_need_10 : decode prog_1_method_8_code 10 = .ok (.invokespecial 114, 3) := by decide +kernel
theorem d_LP_need_13 : decode prog_1_method_8_code 13 = .ok (.athrow, 1) := by decide +kernel
theorem d_LP_need_14 : decode prog_1_method_8_code 14 = .ok (.return_, 1) := by decide +kernel
theorem d_LP_state_0 : decode prog_1_method_9_code 0 = .ok (.iload_n 0, 1) := by decide +kernel
theorem d_LP_state_1 : decode prog_1_method_9_code 1 = .ok (.ifCond .ne 13, 3) := by decide +kernel
theorem d_LP_state_4 : decode prog_1_method_9_code 4 = .ok (.new 117, 3) := by decide +kernel
theorem d_LP_state_7 : decode prog_1_method_9_code 7 = .ok (.dup, 1) := by decide +kernel
theorem d_LP_state_8 : decode prog_1_method_9_code 8 = .ok (.ldc 119, 2) := by decide +kernel
theorem d_LP_state_10 : decode prog_1_method_9_code 10 = .ok (.invokespecial 121, 3) := by decide +kernel
theorem d_LP_state_13 : decode prog_1_method_9_code 13 = .ok (.athrow, 1) := by decide +kernel
theorem d_LP_state_14 : decode prog_1_method_9_code 14 = .ok (.return_, 1) := by decide +kernel
theorem d_LP_room_0 : decode prog_1_method_10_code 0 = .ok (.iload_n 0, 1) := by decide +kernel
theorem d_LP_room_1 : decode prog_1_method_10_code 1 = .ok (.ifCond .ne 13, 3) := by decide +kernel
theorem d_LP_room_4 : decode prog_1_method_10_code 4 = .ok (.new 122, 3) := by decide +kernel
theorem d_LP_room_7 : decode prog_1_method_10_code 7 = .ok (.dup, 1) := by decide +kernel
theorem d_LP_room_8 : decode prog_1_method_10_code 8 = .ok (.ldc 124, 2) := by decide +kernel
theorem d_LP_room_10 : decode prog_1_method_10_code 10 = .ok (.invokespecial 126, 3) := by decide +kernel
theorem d_LP_room_13 : decode prog_1_method_10_code 13 = .ok (.athrow, 1) := by decide +kernel
theorem d_LP_room_14 : decode prog_1_method_10_code 14 = .ok (.return_, 1) := by decide +kernel
theorem d_LP_there_0 : decode prog_1_method_11_code 0 = .ok (.iload_n 0, 1) := by decide +kernel
theorem d_LP_there_1 : decode prog_1_method_11_code 1 = .ok (.ifCond .ne 13, 3) := by decide +kernel
theorem d_LP_there_4 : decode prog_1_method_11_code 4 = .ok (.new 127, 3) := by decide +kernel
theorem d_LP_there_7 : decode prog_1_method_11_code 7 = .ok (.dup, 1) := by decide +kernel
theorem d_LP_there_8 : decode prog_1_method_11_code 8 = .ok (.ldc 129, 2) := by decide +kernel
theorem d_LP_there_10 : decode prog_1_method_11_code 10 = .ok (.invokespecial 131, 3) := by decide +kernel
theorem d_LP_there_13 : decode prog_1_method_11_code 13 = .ok (.athrow, 1) := by decide +kernel
theorem d_LP_there_14 : decode prog_1_method_11_code 14 = .ok (.return_, 1) := by decide +kernel
theorem d_LP_isVersion_0 : decode prog_1_method_12_code 0 = .ok (.iload_n 1, 1) := by decide +kernel
theorem d_LP_isVersion_1 : decode prog_1_method_12_code 1 = .ok (.ifCond .lt 15, 3) := by decide +kernel
theorem d_LP_isVersion_4 : decode prog_1_method_12_code 4 = .ok (.iload_n 1, 1) := by decide +kernel
theorem d_LP_isVersion_5 : decode prog_1_method_12_code 5 = .ok (.aload_n 0, 1) := by decide +kernel
theorem d_LP_isVersion_6 : decode prog_1_method_12_code 6 = .ok (.getfield 26, 3) := by decide +kernel
theorem d_LP_isVersion_9 : decode prog_1_method_12_code 9 = .ok (.if_icmp .ge 7, 3) := by decide +kernel
theorem d_LP_isVersion_12 : decode prog_1_method_12_code 12 = .ok (.iconst 1, 1) := by decide +kernel
theorem d_LP_isVersion_13 : decode prog_1_method_12_code 13 = .ok (.goto 4, 3) := by decide +kernel
theorem d_LP_isVersion_16 : decode prog_1_method_12_code 16 = .ok (.iconst 0, 1) := by decide +kernel
theorem d_LP_isVersion_17 : decode prog_1_method_12_code 17 = .ok (.ireturn, 1) := by decide +kernel
theorem d_LP_field_0 : decode prog_1_method_13_code 0 = .ok (.aload_n 0, 1) := by decide +kernel
theorem d_LP_field_1 : decode prog_1_method_13_code 1 = .ok (.getfield 65, 3) := by decide +kernel
theorem d_LP_field_4 : decode prog_1_method_13_code 4 = .ok (.iconst 0, 1) := by decide +kernel
theorem d_LP_field_5 : decode prog_1_method_13_code 5 = .ok (.aaload, 1) := by decide +kernel
theorem d_LP_field_6 : decode prog_1_method_13_code 6 = .ok (.astore 5, 2) := by decide +kernel
theorem d_LP_field_8 : decode prog_1_method_13_code 8 = .ok (.aload_n 0, 1) := by decide +kernel
theorem d_LP_field_9 : decode prog_1_method_13_code 9 = .ok (.getfield 132, 3) := by decide +kernel
theorem d_LP_field_12 : decode prog_1_method_13_code 12 = .ok (.ifCond .ne 17, 3) := by decide +kernel
theorem d_LP_field_15 : decode prog_1_method_13_code 15 = .ok (.aload 5, 2) := by decide +kernel
theorem d_LP_field_17 : decode prog_1_method_13_code 17 = .ok (.getfield 136, 3) := by decide +kernel
theorem d_LP_field_20 : decode prog_1_method_13_code 20 = .ok (.bipush 24, 2) := by decide +kernel
theorem d_LP_field_22 : decode prog_1_method_13_code 22 = .ok (.if_icmp .ge 7, 3) := by decide +kernel
theorem d_LP_field_25 : decode prog_1_method_13_code 25 = .ok (.iconst 1, 1) := by decide +kernel
theorem d_LP_field_26 : decode prog_1_method_13_code 26 = .ok (.goto 4, 3) := by decide +kernel
theorem d_LP_field_29 : decode prog_1_method_13_code 29 = .ok (.iconst 0, 1) := by decide +kernel
theorem d_LP_field_30 : decode prog_1_method_13_code 30 = .ok (.invokestatic 137, 3) := by decide +kernel
theorem d_LP_field_33 : decode prog_1_method_13_code 33 = .ok (.aload 5, 2) := by decide +kernel
theorem d_LP_field_35 : decode prog_1_method_13_code 35 = .ok (.iload_n 1, 1) := by decide +kernel
theorem d_LP_field_36 : decode prog_1_method_13_code 36 = .ok (.invokevirtual 141, 3) := by decide +kernel
theorem d_LP_field_39 : decode prog_1_method_13_code 39 = .ok (.ifCond .eq 27, 3) := by decide +kernel
theorem d_LP_field_42 : decode prog_1_method_13_code 42 = .ok (.iload_n 2, 1) := by decide +kernel
theorem d_LP_field_43 : decode prog_1_method_13_code 43 = .ok (.ifCond .lt 23, 3) := by decide +kernel
theorem d_LP_field_46 : decode prog_1_method_13_code 46 = .ok (.iload_n 2, 1) := by decide +kernel
theorem d_LP_field_47 : decode prog_1_method_13_code 47 = .ok (.iconst 2, 1) := by decide +kernel
theorem d_LP_field_48 : decode prog_1_method_13_code 48 = .ok (.if_icmp .gt 18, 3) := by decide +kernel
theorem d_LP_field_51 : decode prog_1_method_13_code 51 = .ok (.iload_n 2, 1) := by decide +kernel
theorem d_LP_field_52 : decode prog_1_method_13_code 52 = .ok (.iconst 2, 1) := by decide +kernel
theorem d_LP_field_53 : decode prog_1_method_13_code 53 = .ok (.if_icmp .eq 9, 3) := by decide +kernel
theorem d_LP_field_56 : decode prog_1_method_13_code 56 = .ok (.iload_n 3, 1) := by decide +kernel
theorem d_LP_field_57 : decode prog_1_method_13_code 57 = .ok (.iload 4, 2) := by decide +kernel
theorem d_LP_field_59 : decode prog_1_method_13_code 59 = .ok (.if_icmp .gt 7, 3) := by decide +kernel
theorem d_LP_field_62 : decode prog_1_method_13_code 62 = .ok (.iconst 1, 1) := by decide +kernel
theorem d_LP_field_63 : decode prog_1_method_13_code 63 = .ok (.goto 4, 3) := by decide +kernel
theorem d_LP_field_66 : decode prog_1_method_13_code 66 = .ok (.iconst 0, 1) := by decide +kernel
theorem d_LP_field_67 : decode prog_1_method_13_code 67 = .ok (.invokestatic 145, 3) := by decide +kernel
theorem d_LP_field_70 : decode prog_1_method_13_code 70 = .ok (.aload 5, 2) := by decide +kernel
theorem d_LP_field_72 : decode prog_1_method_13_code 72 = .ok (.iload_n 1, 1) := by decide +kernel
theorem d_LP_field_73 : decode prog_1_method_13_code 73 = .ok (.iload_n 2, 1) := by decide +kernel
theorem d_LP_field_74 : decode prog_1_method_13_code 74 = .ok (.iload_n 3, 1) := by decide +kernel
theorem d_LP_field_75 : decode prog_1_method_13_code 75 = .ok (.iload 4, 2) := by decide +kernel
theorem d_LP_field_77 : decode prog_1_method_13_code 77 = .ok (.invokevirtual 148, 3) := by decide +kernel
theorem d_LP_field_80 : decode prog_1_method_13_code 80 = .ok (.aload 5, 2) := by decide +kernel
theorem d_LP_field_82 : decode prog_1_method_13_code 82 = .ok (.getfield 136, 3) := by decide +kernel
theorem d_LP_field_85 : decode prog_1_method_13_code 85 = .ok (.ireturn, 1) := by decide +kernel
theorem d_LP_begin_0 : decode prog_1_method_14_code 0 = .ok (.aload_n 0, 1) := by decide +kernel
theorem d_LP_begin_1 : decode prog_1_method_14_code 1 = .ok (.iload_n 1, 1) := by decide +kernel
theorem d_LP_begin_2 : decode prog_1_method_14_code 2 = .ok (.invokevirtual 152, 3) := by decide +kernel
theorem d_LP_begin_5 : decode prog_1_method_14_code 5 = .ok (.invokestatic 155, 3) := by decide +kernel
theorem d_LP_begin_8 : decode prog_1_method_14_code 8 = .ok (.aload_n 0, 1) := by decide +kernel
theorem d_LP_begin_9 : decode prog_1_method_14_code 9 = .ok (.getfield 158, 3) := by decide +kernel
theorem d_LP_begin_12 : decode prog_1_method_14_code 12 = .ok (.ifnonnull 7, 3) := by decide +kernel
theorem d_LP_begin_15 : decode prog_1_method_14_code 15 = .ok (.iconst 1, 1) := by decide +kernel
theorem d_LP_begin_16 : decode prog_1_method_14_code 16 = .ok (.goto 4, 3) := by decide +kernel
theorem d_LP_begin_19 : decode prog_1_method_14_code 19 = .ok (.iconst 0, 1) := by decide +kernel
theorem d_LP_begin_20 : decode prog_1_method_14_code 20 = .ok (.invokestatic 137, 3) := by decide +kernel
theorem d_LP_begin_23 : decode prog_1_method_14_code 23 = .ok (.aload_n 0, 1) := by decide +kernel
theorem d_LP_begin_24 : decode prog_1_method_14_code 24 = .ok (.iconst 1, 1) := by decide +kernel
theorem d_LP_begin_25 : decode prog_1_method_14_code 25 = .ok (.putfield 132, 3) := by decide +kernel
theorem d_LP_begin_28 : decode prog_1_method_14_code 28 = .ok (.aload_n 0, 1) := by decide +kernel
theorem d_LP_begin_29 : decode prog_1_method_14_code 29 = .ok (.new 21, 3) := by decide +kernel
theorem d_LP_begin_32 : decode prog_1_method_14_code 32 = .ok (.dup, 1) := by decide +kernel
theorem d_LP_begin_33 : decode prog_1_method_14_code 33 = .ok (.invokespecial 162, 3) := by decide +kernel
theorem d_LP_begin_36 : decode prog_1_method_14_code 36 = .ok (.putfield 158, 3) := by decide +kernel
theorem d_LP_begin_39 : decode prog_1_method_14_code 39 = .ok (.aload_n 0, 1) := by decide +kernel
theorem d_LP_begin_40 : decode prog_1_method_14_code 40 = .ok (.getfield 158, 3) := by decide +kernel
theorem d_LP_begin_43 : decode prog_1_method_14_code 43 = .ok (.iload_n 1, 1) := by decide +kernel
theorem d_LP_begin_44 : decode prog_1_method_14_code 44 = .ok (.putfield 48, 3) := by decide +kernel
theorem d_LP_begin_47 : decode prog_1_method_14_code 47 = .ok (.aload_n 0, 1) := by decide +kernel
theorem d_LP_begin_48 : decode prog_1_method_14_code 48 = .ok (.getfield 70, 3) := by decide +kernel
theorem d_LP_begin_51 : decode prog_1_method_14_code 51 = .ok (.aload_n 0, 1) := by decide +kernel
theorem d_LP_begin_52 : decode prog_1_method_14_code 52 = .ok (.getfield 65, 3) := by decide +kernel
theorem d_LP_begin_55 : decode prog_1_method_14_code 55 = .ok (.iload_n 1, 1) := by decide +kernel
theorem d_LP_begin_56 : decode prog_1_method_14_code 56 = .ok (.aaload, 1) := by decide +kernel
theorem d_LP_begin_57 : decode prog_1_method_14_code 57 = .ok (.invokevirtual 163, 3) := by decide +kernel
theorem d_LP_begin_60 : decode prog_1_method_14_code 60 = .ok (.return_, 1) := by decide +kernel
theorem d_LP_primitive_0 : decode prog_1_method_15_code 0 = .ok (.aload_n 0, 1) := by decide +kernel
theorem d_LP_primitive_1 : decode prog_1_method_15_code 1 = .ok (.getfield 158, 3) := by decide +kernel
theorem d_LP_primitive_4 : decode prog_1_method_15_code 4 = .ok (.ifnull 19, 3) := by decide +kernel
theorem d_LP_primitive_7 : decode prog_1_method_15_code 7 = .ok (.aload_n 0, 1) := by decide +kernel
theorem d_LP_primitive_8 : decode prog_1_method_15_code 8 = .ok (.getfield 158, 3) := by decide +kernel
theorem d_LP_primitive_11 : decode prog_1_method_15_code 11 = .ok (.getfield 167, 3) := by decide +kernel
theorem d_LP_primitive_14 : decode prog_1_method_15_code 14 = .ok (.bipush 8, 2) := by decide +kernel
theorem d_LP_primitive_16 : decode prog_1_method_15_code 16 = .ok (.if_icmp .ge 7, 3) := by decide +kernel
theorem d_LP_primitive_19 : decode prog_1_method_15_code 19 = .ok (.iconst 1, 1) := by decide +kernel
theorem d_LP_primitive_20 : decode prog_1_method_15_code 20 = .ok (.goto 4, 3) := by decide +kernel
theorem d_LP_primitive_23 : decode prog_1_method_15_code 23 = .ok (.iconst 0, 1) := by decide +kernel
theorem d_LP_primitive_24 : decode prog_1_method_15_code 24 = .ok (.invokestatic 137, 3) := by decide +kernel
theorem d_LP_primitive_27 : decode prog_1_method_15_code 27 = .ok (.iload_n 1, 1) := by decide +kernel
theorem d_LP_primitive_28 : decode prog_1_method_15_code 28 = .ok (.ifCond .lt 13, 3) := by decide +kernel
theorem d_LP_primitive_31 : decode prog_1_method_15_code 31 = .ok (.iload_n 1, 1) := by decide +kernel
theorem d_LP_primitive_32 : decode prog_1_method_15_code 32 = .ok (.bipush 8, 2) := by decide +kernel
theorem d_LP_primitive_34 : decode prog_1_method_15_code 34 = .ok (.if_icmp .gt 7, 3) := by decide +kernel
theorem d_LP_primitive_37 : decode prog_1_method_15_code 37 = .ok (.iconst 1, 1) := by decide +kernel
theorem d_LP_primitive_38 : decode prog_1_method_15_code 38 = .ok (.goto 4, 3) := by decide +kernel
theorem d_LP_primitive_41 : decode prog_1_method_15_code 41 = .ok (.iconst 0, 1) := by decide +kernel
theorem d_LP_primitive_42 : decode prog_1_method_15_code 42 = .ok (.invokestatic 145, 3) := by decide +kernel
theorem d_LP_primitive_45 : decode prog_1_method_15_code 45 = .ok (.new 168, 3) := by decide +kernel
theorem d_LP_primitive_48 : decode prog_1_method_15_code 48 = .ok (.dup, 1) := by decide +kernel
theorem d_LP_primitive_49 : decode prog_1_method_15_code 49 = .ok (.invokespecial 170, 3) := by decide +kernel
theorem d_LP_primitive_52 : decode prog_1_method_15_code 52 = .ok (.astore 6, 2) := by decide +kernel
theorem d_LP_primitive_54 : decode prog_1_method_15_code 54 = .ok (.aload 6, 2) := by decide +kernel
theorem d_LP_primitive_56 : decode prog_1_method_15_code 56 = .ok (.iload_n 1, 1) := by decide +kernel
theorem d_LP_primitive_57 : decode prog_1_method_15_code 57 = .ok (.putfield 171, 3) := by decide +kernel
theorem d_LP_primitive_60 : decode prog_1_method_15_code 60 = .ok (.aload 6, 2) := by decide +kernel
theorem d_LP_primitive_62 : decode prog_1_method_15_code 62 = .ok (.iload_n 2, 1) := by decide +kernel
theorem d_LP_primitive_63 : decode prog_1_method_15_code 63 = .ok (.putfield 174, 3) := by decide +kernel
theorem d_LP_primitive_66 : decode prog_1_method_15_code 66 = .ok (.aload 6, 2) := by decide +kernel
theorem d_LP_primitive_68 : decode prog_1_method_15_code 68 = .ok (.iload_n 3, 1) := by decide +kernel
theorem d_LP_primitive_69 : decode prog_1_method_15_code 69 = .ok (.putfield 177, 3) := by decide +kernel
theorem d_LP_primitive_72 : decode prog_1_method_15_code 72 = .ok (.aload 6, 2) := by decide +kernel
theorem d_LP_primitive_74 : decode prog_1_method_15_code 74 = .ok (.iload 4, 2) := by decide +kernel
theorem d_LP_primitive_76 : decode prog_1_method_15_code 76 = .ok (.putfield 180, 3) := by decide +kernel
theorem d_LP_primitive_79 : decode prog_1_method_15_code 79 = .ok (.aload 6, 2) := by decide +kernel
theorem d_LP_primitive_81 : decode prog_1_method_15_code 81 = .ok (.aload_n 0, 1) := by decide +kernel
theorem d_LP_primitive_82 : decode prog_1_method_15_code 82 = .ok (.getfield 70, 3) := by decide +kernel
theorem d_LP_primitive_85 : decode prog_1_method_15_code 85 = .ok (.iload 5, 2) := by decide +kernel
theorem d_LP_primitive_87 : decode prog_1_method_15_code 87 = .ok (.invokevirtual 183, 3) := by decide +kernel
theorem d_LP_primitive_90 : decode prog_1_method_15_code 90 = .ok (.invokestatic 145, 3) := by decide +kernel
theorem d_LP_primitive_93 : decode prog_1_method_15_code 93 = .ok (.aload_n 0, 1) := by decide +kernel
theorem d_LP_primitive_94 : decode prog_1_method_15_code 94 = .ok (.getfield 158, 3) := by decide +kernel
theorem d_LP_primitive_97 : decode prog_1_method_15_code 97 = .ok (.getfield 187, 3) := by decide +kernel
theorem d_LP_primitive_100 : decode prog_1_method_15_code 100 = .ok (.aload_n 0, 1) := by decide +kernel
theorem d_LP_primitive_101 : decode prog_1_method_15_code 101 = .ok (.getfield 158, 3) := by decide +kernel
theorem d_LP_primitive_104 : decode prog_1_method_15_code 104 = .ok (.dup, 1) := by decide +kernel
theorem d_LP_primitive_105 : decode prog_1_method_15_code 105 = .ok (.getfield 167, 3) := by decide +kernel
theorem d_LP_primitive_108 : decode prog_1_method_15_code 108 = .ok (.dup_x1, 1) := by decide +kernel
theorem d_LP_primitive_109 : decode prog_1_method_15_code 109 = .ok (.iconst 1, 1) := by decide +kernel
theorem d_LP_primitive_110 : decode prog_1_method_15_code 110 = .ok (.iadd, 1) := by decide +kernel
theorem d_LP_primitive_111 : decode prog_1_method_15_code 111 = .ok (.putfield 167, 3) := by decide +kernel
theorem d_LP_primitive_114 : decode prog_1_method_15_code 114 = .ok (.aload 6, 2) := by decide +kernel
theorem d_LP_primitive_116 : decode prog_1_method_15_code 116 = .ok (.aastore, 1) := by decide +kernel
theorem d_LP_primitive_117 : decode prog_1_method_15_code 117 = .ok (.aload_n 0, 1) := by decide +kernel
theorem d_LP_primitive_118 : decode prog_1_method_15_code 118 = .ok (.getfield 158, 3) := by decide +kernel
theorem d_LP_primitive_121 : decode prog_1_method_15_code 121 = .ok (.getfield 167, 3) := by decide +kernel
theorem d_LP_primitive_124 : decode prog_1_method_15_code 124 = .ok (.ireturn, 1) := by decide +kernel
theorem d_LP_end_0 : decode prog_1_method_16_code 0 = .ok (.aload_n 0, 1) := by decide +kernel
theorem d_LP_end_1 : decode prog_1_method_16_code 1 = .ok (.getfield 158, 3) := by decide +kernel
theorem d_LP_end_4 : decode prog_1_method_16_code 4 = .ok (.ifnull 7, 3) := by decide +kernel
theorem d_LP_end_7 : decode prog_1_method_16_code 7 = .ok (.iconst 1, 1) := by decide +kernel
theorem d_LP_end_8 : decode prog_1_method_16_code 8 = .ok (.goto 4, 3) := by decide +kernel
theorem d_LP_end_11 : decode prog_1_method_16_code 11 = .ok (.iconst 0, 1) := by decide +kernel
theorem d_LP_end_12 : decode prog_1_method_16_code 12 = .ok (.invokestatic 137, 3) := by decide +kernel
theorem d_LP_end_15 : decode prog_1_method_16_code 15 = .ok (.iload_n 1, 1) := by decide +kernel
theorem d_LP_end_16 : decode prog_1_method_16_code 16 = .ok (.iconst (-1), 1) := by decide +kernel
theorem d_LP_end_17 : decode prog_1_method_16_code 17 = .ok (.if_icmp .eq 11, 3) := by decide +kernel
theorem d_LP_end_20 : decode prog_1_method_16_code 20 = .ok (.aload_n 0, 1) := by decide +kernel
theorem d_LP_end_21 : decode prog_1_method_16_code 21 = .ok (.iload_n 1, 1) := by decide +kernel
theorem d_LP_end_22 : decode prog_1_method_16_code 22 = .ok (.invokevirtual 152, 3) := by decide +kernel
theorem d_LP_end_25 : decode prog_1_method_16_code 25 = .ok (.ifCond .eq 7, 3) := by decide +kernel
theorem d_LP_end_28 : decode prog_1_method_16_code 28 = .ok (.iconst 1, 1) := by decide +kernel
theorem d_LP_end_29 : decode prog_1_method_16_code 29 = .ok (.goto 4, 3) := by decide +kernel
theorem d_LP_end_32 : decode prog_1_method_16_code 32 = .ok (.iconst 0, 1) := by decide +kernel
theorem d_LP_end_33 : decode prog_1_method_16_code 33 = .ok (.invokestatic 155, 3) := by decide +kernel
theorem d_LP_end_36 : decode prog_1_method_16_code 36 = .ok (.iload_n 1, 1) := by decide +kernel
theorem d_LP_end_37 : decode prog_1_method_16_code 37 = .ok (.iconst (-1), 1) := by decide +kernel
theorem d_LP_end_38 : decode prog_1_method_16_code 38 = .ok (.if_icmp .eq 30, 3) := by decide +kernel
theorem d_LP_end_41 : decode prog_1_method_16_code 41 = .ok (.iload_n 1, 1) := by decide +kernel
theorem d_LP_end_42 : decode prog_1_method_16_code 42 = .ok (.aload_n 0, 1) := by decide +kernel
theorem d_LP_end_43 : decode prog_1_method_16_code 43 = .ok (.getfield 158, 3) := by decide +kernel
theorem d_LP_end_46 : decode prog_1_method_16_code 46 = .ok (.getfield 48, 3) := by decide +kernel
theorem d_LP_end_49 : decode prog_1_method_16_code 49 = .ok (.if_icmp .eq 23, 3) := by decide +kernel
theorem d_LP_end_52 : decode prog_1_method_16_code 52 = .ok (.aload_n 0, 1) := by decide +kernel
theorem d_LP_end_53 : decode prog_1_method_16_code 53 = .ok (.getfield 65, 3) := by decide +kernel
theorem d_LP_end_56 : decode prog_1_method_16_code 56 = .ok (.iload_n 1, 1) := by decide +kernel
theorem d_LP_end_57 : decode prog_1_method_16_code 57 = .ok (.aaload, 1) := by decide +kernel
theorem d_LP_end_58 : decode prog_1_method_16_code 58 = .ok (.aload_n 0, 1) := by decide +kernel
theorem d_LP_end_59 : decode prog_1_method_16_code 59 = .ok (.getfield 70, 3) := by decide +kernel
theorem d_LP_end_62 : decode prog_1_method_16_code 62 = .ok (.invokevirtual 191, 3) := by decide +kernel
theorem d_LP_end_65 : decode prog_1_method_16_code 65 = .ok (.ifCond .eq 7, 3) := by decide +kernel
theorem d_LP_end_68 : decode prog_1_method_16_code 68 = .ok (.iconst 1, 1) := by decide +kernel
theorem d_LP_end_69 : decode prog_1_method_16_code 69 = .ok (.goto 4, 3) := by decide +kernel
theorem d_LP_end_72 : decode prog_1_method_16_code 72 = .ok (.iconst 0, 1) := by decide +kernel
theorem d_LP_end_73 : decode prog_1_method_16_code 73 = .ok (.invokestatic 145, 3) := by decide +kernel
theorem d_LP_end_76 : decode prog_1_method_16_code 76 = .ok (.aload_n 0, 1) := by decide +kernel
theorem d_LP_end_77 : decode prog_1_method_16_code 77 = .ok (.getfield 10, 3) := by decide +kernel
theorem d_LP_end_80 : decode prog_1_method_16_code 80 = .ok (.bipush 16, 2) := by decide +kernel
theorem d_LP_end_82 : decode prog_1_method_16_code 82 = .ok (.if_icmp .ge 21, 3) := by decide +kernel
theorem d_LP_end_85 : decode prog_1_method_16_code 85 = .ok (.iload_n 1, 1) := by decide +kernel
theorem d_LP_end_86 : decode prog_1_method_16_code 86 = .ok (.iconst (-1), 1) := by decide +kernel
theorem d_LP_end_87 : decode prog_1_method_16_code 87 = .ok (.if_icmp .ne 12, 3) := by decide +kernel
theorem d_LP_end_90 : decode prog_1_method_16_code 90 = .ok (.aload_n 0, 1) := by decide +kernel
theorem d_LP_end_91 : decode prog_1_method_16_code 91 = .ok (.getfield 26, 3) := by decide +kernel
theorem d_LP_end_94 : decode prog_1_method_16_code 94 = .ok (.bipush 8, 2) := by decide +kernel
theorem d_LP_end_96 : decode prog_1_method_16_code 96 = .ok (.if_icmp .ge 7, 3) := by decide +kernel
theorem d_LP_end_99 : decode prog_1_method_16_code 99 = .ok (.iconst 1, 1) := by decide +kernel
theorem d_LP_end_100 : decode prog_1_method_16_code 100 = .ok (.goto 4, 3) := by decide +kernel
theorem d_LP_end_103 : decode prog_1_method_16_code 103 = .ok (.iconst 0, 1) := by decide +kernel
theorem d_LP_end_104 : decode prog_1_method_16_code 104 = .ok (.invokestatic 195, 3) := by decide +kernel
theorem d_LP_end_107 : decode prog_1_method_16_code 107 = .ok (.iload_n 1, 1) := by decide +kernel
theorem d_LP_end_108 : decode prog_1_method_16_code 108 = .ok (.iconst (-1), 1) := by decide +kernel
theorem d_LP_end_109 : decode prog_1_method_16_code 109 = .ok (.if_icmp .ne 10, 3) := by decide +kernel
theorem d_LP_end_112 : decode prog_1_method_16_code 112 = .ok (.aload_n 0, 1) := by decide +kernel
theorem d_LP_end_113 : decode prog_1_method_16_code 113 = .ok (.getfield 26, 3) := by decide +kernel
theorem d_LP_end_116 : decode prog_1_method_16_code 116 = .ok (.goto 4, 3) := by decide +kernel
theorem d_LP_end_119 : decode prog_1_method_16_code 119 = .ok (.iload_n 1, 1) := by decide +kernel
theorem d_LP_end_120 : decode prog_1_method_16_code 120 = .ok (.istore_n 2, 1) := by decide +kernel
theorem d_LP_end_121 : decode prog_1_method_16_code 121 = .ok (.iload_n 1, 1) := by decide +kernel
theorem d_LP_end_122 : decode prog_1_method_16_code 122 = .ok (.iconst (-1), 1) := by decide +kernel
theorem d_LP_end_123 : decode prog_1_method_16_code 123 = .ok (.if_icmp .ne 45, 3) := by decide +kernel
theorem d_LP_end_126 : decode prog_1_method_16_code 126 = .ok (.aload_n 0, 1) := by decide +kernel
theorem d_LP_end_127 : decode prog_1_method_16_code 127 = .ok (.getfield 65, 3) := by decide +kernel
theorem d_LP_end_130 : decode prog_1_method_16_code 130 = .ok (.aload_n 0, 1) := by decide +kernel
theorem d_LP_end_131 : decode prog_1_method_16_code 131 = .ok (.getfield 26, 3) := by decide +kernel
theorem d_LP_end_134 : decode prog_1_method_16_code 134 = .ok (.new 63, 3) := by decide +kernel
theorem d_LP_end_137 : decode prog_1_method_16_code 137 = .ok (.dup, 1) := by decide +kernel
theorem d_LP_end_138 : decode prog_1_method_16_code 138 = .ok (.invokespecial 69, 3) := by decide +kernel
theorem d_LP_end_141 : decode prog_1_method_16_code 141 = .ok (.aastore, 1) := by decide +kernel
theorem d_LP_end_142 : decode prog_1_method_16_code 142 = .ok (.aload_n 0, 1) := by decide +kernel
theorem d_LP_end_143 : decode prog_1_method_16_code 143 = .ok (.getfield 65, 3) := by decide +kernel
theorem d_LP_end_146 : decode prog_1_method_16_code 146 = .ok (.aload_n 0, 1) := by decide +kernel
theorem d_LP_end_147 : decode prog_1_method_16_code 147 = .ok (.getfield 26, 3) := by decide +kernel
theorem d_LP_end_150 : decode prog_1_method_16_code 150 = .ok (.aaload, 1) := by decide +kernel
theorem d_LP_end_151 : decode prog_1_method_16_code 151 = .ok (.aload_n 0, 1) := by decide +kernel
theorem d_LP_end_152 : decode prog_1_method_16_code 152 = .ok (.getfield 70, 3) := by decide +kernel
theorem d_LP_end_155 : decode prog_1_method_16_code 155 = .ok (.invokevirtual 163, 3) := by decide +kernel
theorem d_LP_end_158 : decode prog_1_method_16_code 158 = .ok (.aload_n 0, 1) := by decide +kernel
theorem d_LP_end_159 : decode prog_1_method_16_code 159 = .ok (.dup, 1) := by decide +kernel
theorem d_LP_end_160 : decode prog_1_method_16_code 160 = .ok (.getfield 26, 3) := by decide +kernel
theorem d_LP_end_163 : decode prog_1_method_16_code 163 = .ok (.iconst 1, 1) := by decide +kernel
theorem d_LP_end_164 : decode prog_1_method_16_code 164 = .ok (.iadd, 1) := by decide +kernel
theorem d_LP_end_165 : decode prog_1_method_16_code 165 = .ok (.putfield 26, 3) := by decide +kernel
theorem d_LP_end_168 : decode prog_1_method_16_code 168 = .ok (.aload_n 0, 1) := by decide +kernel
theorem d_LP_end_169 : decode prog_1_method_16_code 169 = .ok (.getfield 158, 3) := by decide +kernel
theorem d_LP_end_172 : decode prog_1_method_16_code 172 = .ok (.iload_n 2, 1) := by decide +kernel
theorem d_LP_end_173 : decode prog_1_method_16_code 173 = .ok (.putfield 198, 3) := by decide +kernel
theorem d_LP_end_176 : decode prog_1_method_16_code 176 = .ok (.aload_n 0, 1) := by decide +kernel
theorem d_LP_end_177 : decode prog_1_method_16_code 177 = .ok (.getfield 16, 3) := by decide +kernel
theorem d_LP_end_180 : decode prog_1_method_16_code 180 = .ok (.aload_n 0, 1) := by decide +kernel
theorem d_LP_end_181 : decode prog_1_method_16_code 181 = .ok (.dup, 1) := by decide +kernel
theorem d_LP_end_182 : decode prog_1_method_16_code 182 = .ok (.getfield 10, 3) := by decide +kernel
theorem d_LP_end_185 : decode prog_1_method_16_code 185 = .ok (.dup_x1, 1) := by decide +kernel
theorem d_LP_end_186 : decode prog_1_method_16_code 186 = .ok (.iconst 1, 1) := by decide +kernel
theorem d_LP_end_187 : decode prog_1_method_16_code 187 = .ok (.iadd, 1) := by decide +kernel
theorem d_LP_end_188 : decode prog_1_method_16_code 188 = .ok (.putfield 10, 3) := by decide +kernel
theorem d_LP_end_191 : decode prog_1_method_16_code 191 = .ok (.aload_n 0, 1) := by decide +kernel
theorem d_LP_end_192 : decode prog_1_method_16_code 192 = .ok (.getfield 158, 3) := by decide +kernel
theorem d_LP_end_195 : decode prog_1_method_16_code 195 = .ok (.aastore, 1) := by decide +kernel
theorem d_LP_end_196 : decode prog_1_method_16_code 196 = .ok (.aload_n 0, 1) := by decide +kernel
theorem d_LP_end_197 : decode prog_1_method_16_code 197 = .ok (.aconst_null, 1) := by decide +kernel
theorem d_LP_end_198 : decode prog_1_method_16_code 198 = .ok (.putfield 158, 3) := by decide +kernel
theorem d_LP_end_201 : decode prog_1_method_16_code 201 = .ok (.iload_n 2, 1) := by decide +kernel
theorem d_LP_end_202 : decode prog_1_method_16_code 202 = .ok (.ireturn, 1) := by decide +kernel
theorem d_LP_leave_0 : decode prog_1_method_17_code 0 = .ok (.aload_n 0, 1) := by decide +kernel
theorem d_LP_leave_1 : decode prog_1_method_17_code 1 = .ok (.getfield 158, 3) := by decide +kernel
theorem d_LP_leave_4 : decode prog_1_method_17_code 4 = .ok (.ifnull 7, 3) := by decide +kernel
theorem d_LP_leave_7 : decode prog_1_method_17_code 7 = .ok (.iconst 1, 1) := by decide +kernel
theorem d_LP_leave_8 : decode prog_1_method_17_code 8 = .ok (.goto 4, 3) := by decide +kernel
theorem d_LP_leave_11 : decode prog_1_method_17_code 11 = .ok (.iconst 0, 1) := by decide +kernel
theorem d_LP_leave_12 : decode prog_1_method_17_code 12 = .ok (.istore_n 1, 1) := by decide +kernel
theorem d_LP_leave_13 : decode prog_1_method_17_code 13 = .ok (.aload_n 0, 1) := by decide +kernel
theorem d_LP_leave_14 : decode prog_1_method_17_code 14 = .ok (.aconst_null, 1) := by decide +kernel
theorem d_LP_leave_15 : decode prog_1_method_17_code 15 = .ok (.putfield 158, 3) := by decide +kernel
theorem d_LP_leave_18 : decode prog_1_method_17_code 18 = .ok (.iload_n 1, 1) := by decide +kernel
theorem d_LP_leave_19 : decode prog_1_method_17_code 19 = .ok (.ireturn, 1) := by decide +kernel
theorem d_LP_about_0 : decode prog_1_method_18_code 0 = .ok (.aload_n 0, 1) := by decide +kernel
theorem d_LP_about_1 : decode prog_1_method_18_code 1 = .ok (.iload_n 1, 1) := by decide +kernel
theorem d_LP_about_2 : decode prog_1_method_18_code 2 = .ok (.invokevirtual 152, 3) := by decide +kernel
theorem d_LP_about_5 : decode prog_1_method_18_code 5 = .ok (.invokestatic 155, 3) := by decide +kernel
theorem d_LP_about_8 : decode prog_1_method_18_code 8 = .ok (.iload_n 3, 1) := by decide +kernel
theorem d_LP_about_9 : decode prog_1_method_18_code 9 = .ok (.ifCond .lt 12, 3) := by decide +kernel
theorem d_LP_about_12 : decode prog_1_method_18_code 12 = .ok (.iload_n 3, 1) := by decide +kernel
theorem d_LP_about_13 : decode prog_1_method_18_code 13 = .ok (.iconst 3, 1) := by decide +kernel
theorem d_LP_about_14 : decode prog_1_method_18_code 14 = .ok (.if_icmp .gt 7, 3) := by decide +kernel
theorem d_LP_about_17 : decode prog_1_method_18_code 17 = .ok (.iconst 1, 1) := by decide +kernel
theorem d_LP_about_18 : decode prog_1_method_18_code 18 = .ok (.goto 4, 3) := by decide +kernel
theorem d_LP_about_21 : decode prog_1_method_18_code 21 = .ok (.iconst 0, 1) := by decide +kernel
theorem d_LP_about_22 : decode prog_1_method_18_code 22 = .ok (.invokestatic 145, 3) := by decide +kernel
theorem d_LP_about_25 : decode prog_1_method_18_code 25 = .ok (.aload_n 0, 1) := by decide +kernel
theorem d_LP_about_26 : decode prog_1_method_18_code 26 = .ok (.getfield 65, 3) := by decide +kernel
theorem d_LP_about_29 : decode prog_1_method_18_code 29 = .ok (.iload_n 1, 1) := by decide +kernel
theorem d_LP_about_30 : decode prog_1_method_18_code 30 = .ok (.aaload, 1) := by decide +kernel
theorem d_LP_about_31 : decode prog_1_method_18_code 31 = .ok (.astore 4, 2) := by decide +kernel
theorem d_LP_about_33 : decode prog_1_method_18_code 33 = .ok (.iload_n 2, 1) := by decide +kernel
theorem d_LP_about_34 : decode prog_1_method_18_code 34 = .ok (.ifCond .ne 26, 3) := by decide +kernel
theorem d_LP_about_37 : decode prog_1_method_18_code 37 = .ok (.iload_n 3, 1) := by decide +kernel
theorem d_LP_about_38 : decode prog_1_method_18_code 38 = .ok (.ifCond .ne 7, 3) := by decide +kernel
theorem d_LP_about_41 : decode prog_1_method_18_code 41 = .ok (.iconst 2, 1) := by decide +kernel
theorem d_LP_about_42 : decode prog_1_method_18_code 42 = .ok (.goto 17, 3) := by decide +kernel
theorem d_LP_about_45 : decode prog_1_method_18_code 45 = .ok (.iload_n 3, 1) := by decide +kernel
theorem d_LP_about_46 : decode prog_1_method_18_code 46 = .ok (.iconst 3, 1) := by decide +kernel
theorem d_LP_about_47 : decode prog_1_method_18_code 47 = .ok (.if_icmp .ne 11, 3) := by decide +kernel
theorem d_LP_about_50 : decode prog_1_method_18_code 50 = .ok (.aload 4, 2) := by decide +kernel
theorem d_LP_about_52 : decode prog_1_method_18_code 52 = .ok (.getfield 136, 3) := by decide +kernel
theorem d_LP_about_55 : decode prog_1_method_18_code 55 = .ok (.goto 4, 3) := by decide +kernel
theorem d_LP_about_58 : decode prog_1_method_18_code 58 = .ok (.iconst 0, 1) := by decide +kernel
theorem d_LP_about_59 : decode prog_1_method_18_code 59 = .ok (.ireturn, 1) := by decide +kernel
theorem d_LP_about_60 : decode prog_1_method_18_code 60 = .ok (.aload 4, 2) := by decide +kernel
theorem d_LP_about_62 : decode prog_1_method_18_code 62 = .ok (.iload_n 2, 1) := by decide +kernel
theorem d_LP_about_63 : decode prog_1_method_18_code 63 = .ok (.invokevirtual 201, 3) := by decide +kernel
theorem d_LP_about_66 : decode prog_1_method_18_code 66 = .ok (.checkcast 205, 3) := by decide +kernel
theorem d_LP_about_69 : decode prog_1_method_18_code 69 = .ok (.astore 5, 2) := by decide +kernel
theorem d_LP_about_71 : decode prog_1_method_18_code 71 = .ok (.aload 5, 2) := by decide +kernel
theorem d_LP_about_73 : decode prog_1_method_18_code 73 = .ok (.ifnonnull 13, 3) := by decide +kernel
theorem d_LP_about_76 : decode prog_1_method_18_code 76 = .ok (.iload_n 3, 1) := by decide +kernel
theorem d_LP_about_77 : decode prog_1_method_18_code 77 = .ok (.ifCond .ne 7, 3) := by decide +kernel
theorem d_LP_about_80 : decode prog_1_method_18_code 80 = .ok (.iconst (-1), 1) := by decide +kernel
theorem d_LP_about_81 : decode prog_1_method_18_code 81 = .ok (.goto 4, 3) := by decide +kernel
theorem d_LP_about_84 : decode prog_1_method_18_code 84 = .ok (.iconst 0, 1) := by decide +kernel
theorem d_LP_about_85 : decode prog_1_method_18_code 85 = .ok (.ireturn, 1) := by decide +kernel
theorem d_LP_about_86 : decode prog_1_method_18_code 86 = .ok (.iload_n 3, 1) := by decide +kernel
theorem d_LP_about_87 : decode prog_1_method_18_code 87 = .ok (.ifCond .ne 11, 3) := by decide +kernel
theorem d_LP_about_90 : decode prog_1_method_18_code 90 = .ok (.aload 5, 2) := by decide +kernel
theorem d_LP_about_92 : decode prog_1_method_18_code 92 = .ok (.getfield 207, 3) := by decide +kernel
theorem d_LP_about_95 : decode prog_1_method_18_code 95 = .ok (.goto 35, 3) := by decide +kernel
theorem d_LP_about_98 : decode prog_1_method_18_code 98 = .ok (.iload_n 3, 1) := by decide +kernel
theorem d_LP_about_99 : decode prog_1_method_18_code 99 = .ok (.iconst 1, 1) := by decide +kernel
theorem d_LP_about_100 : decode prog_1_method_18_code 100 = .ok (.if_icmp .ne 11, 3) := by decide +kernel
theorem d_LP_about_103 : decode prog_1_method_18_code 103 = .ok (.aload 5, 2) := by decide +kernel
theorem d_LP_about_105 : decode prog_1_method_18_code 105 = .ok (.getfield 210, 3) := by decide +kernel
theorem d_LP_about_108 : decode prog_1_method_18_code 108 = .ok (.goto 22, 3) := by decide +kernel
theorem d_LP_about_111 : decode prog_1_method_18_code 111 = .ok (.iload_n 3, 1) := by decide +kernel
theorem d_LP_about_112 : decode prog_1_method_18_code 112 = .ok (.iconst 2, 1) := by decide +kernel
theorem d_LP_about_113 : decode prog_1_method_18_code 113 = .ok (.if_icmp .ne 11, 3) := by decide +kernel
theorem d_LP_about_116 : decode prog_1_method_18_code 116 = .ok (.aload 5, 2) := by decide +kernel
theorem d_LP_about_118 : decode prog_1_method_18_code 118 = .ok (.getfield 213, 3) := by decide +kernel
theorem d_LP_about_121 : decode prog_1_method_18_code 121 = .ok (.goto 9, 3) := by decide +kernel
theorem d_LP_about_124 : decode prog_1_method_18_code 124 = .ok (.aload 4, 2) := by decide +kernel
theorem d_LP_about_126 : decode prog_1_method_18_code 126 = .ok (.iload_n 2, 1) := by decide +kernel
theorem d_LP_about_127 : decode prog_1_method_18_code 127 = .ok (.invokevirtual 216, 3) := by decide +kernel
theorem d_LP_about_130 : decode prog_1_method_18_code 130 = .ok (.ireturn, 1) := by decide +kernel
theorem d_LP_count_0 : decode prog_1_method_19_code 0 = .ok (.iload_n 1, 1) := by decide +kernel
theorem d_LP_count_1 : decode prog_1_method_19_code 1 = .ok (.ifCond .lt 12, 3) := by decide +kernel
theorem d_LP_count_4 : decode prog_1_method_19_code 4 = .ok (.iload_n 1, 1) := by decide +kernel
theorem d_LP_count_5 : decode prog_1_method_19_code 5 = .ok (.iconst 3, 1) := by decide +kernel
theorem d_LP_count_6 : decode prog_1_method_19_code 6 = .ok (.if_icmp .gt 7, 3) := by decide +kernel
theorem d_LP_count_9 : decode prog_1_method_19_code 9 = .ok (.iconst 1, 1) := by decide +kernel
theorem d_LP_count_10 : decode prog_1_method_19_code 10 = .ok (.goto 4, 3) := by decide +kernel
theorem d_LP_count_13 : decode prog_1_method_19_code 13 = .ok (.iconst 0, 1) := by decide +kernel
theorem d_LP_count_14 : decode prog_1_method_19_code 14 = .ok (.invokestatic 145, 3) := by decide +kernel
theorem d_LP_count_17 : decode prog_1_method_19_code 17 = .ok (.iload_n 1, 1) := by decide +kernel
theorem d_LP_count_18 : decode prog_1_method_19_code 18 = .ok (.iconst 2, 1) := by decide +kernel
theorem d_LP_count_19 : decode prog_1_method_19_code 19 = .ok (.if_icmp .ge 19, 3) := by decide +kernel
theorem d_LP_count_22 : decode prog_1_method_19_code 22 = .ok (.iload_n 1, 1) := by decide +kernel
theorem d_LP_count_23 : decode prog_1_method_19_code 23 = .ok (.ifCond .ne 10, 3) := by decide +kernel
theorem d_LP_count_26 : decode prog_1_method_19_code 26 = .ok (.aload_n 0, 1) := by decide +kernel
theorem d_LP_count_27 : decode prog_1_method_19_code 27 = .ok (.getfield 26, 3) := by decide +kernel
theorem d_LP_count_30 : decode prog_1_method_19_code 30 = .ok (.goto 7, 3) := by decide +kernel
theorem d_LP_count_33 : decode prog_1_method_19_code 33 = .ok (.aload_n 0, 1) := by decide +kernel
theorem d_LP_count_34 : decode prog_1_method_19_code 34 = .ok (.getfield 10, 3) := by decide +kernel
theorem d_LP_count_37 : decode prog_1_method_19_code 37 = .ok (.ireturn, 1) := by decide +kernel
theorem d_LP_count_38 : decode prog_1_method_19_code 38 = .ok (.iload_n 1, 1) := by decide +kernel
theorem d_LP_count_39 : decode prog_1_method_19_code 39 = .ok (.iconst 3, 1) := by decide +kernel
theorem d_LP_count_40 : decode prog_1_method_19_code 40 = .ok (.if_icmp .ne 22, 3) := by decide +kernel
theorem d_LP_count_43 : decode prog_1_method_19_code 43 = .ok (.aload_n 0, 1) := by decide +kernel
theorem d_LP_count_44 : decode prog_1_method_19_code 44 = .ok (.getfield 158, 3) := by decide +kernel
theorem d_LP_count_47 : decode prog_1_method_19_code 47 = .ok (.ifnonnull 7, 3) := by decide +kernel
theorem d_LP_count_50 : decode prog_1_method_19_code 50 = .ok (.iconst (-1), 1) := by decide +kernel
theorem d_LP_count_51 : decode prog_1_method_19_code 51 = .ok (.goto 10, 3) := by decide +kernel
theorem d_LP_count_54 : decode prog_1_method_19_code 54 = .ok (.aload_n 0, 1) := by decide +kernel
theorem d_LP_count_55 : decode prog_1_method_19_code 55 = .ok (.getfield 158, 3) := by decide +kernel
theorem d_LP_count_58 : decode prog_1_method_19_code 58 = .ok (.getfield 167, 3) := by decide +kernel
theorem d_LP_count_61 : decode prog_1_method_19_code 61 = .ok (.ireturn, 1) := by decide +kernel
theorem d_LP_count_62 : decode prog_1_method_19_code 62 = .ok (.iconst 0, 1) := by decide +kernel
theorem d_LP_count_63 : decode prog_1_method_19_code 63 = .ok (.istore_n 2, 1) := by decide +kernel
theorem d_LP_count_64 : decode prog_1_method_19_code 64 = .ok (.aload_n 0, 1) := by decide +kernel
theorem d_LP_count_65 : decode prog_1_method_19_code 65 = .ok (.getfield 76, 3) := by decide +kernel
theorem d_LP_count_68 : decode prog_1_method_19_code 68 = .ok (.astore_n 3, 1) := by decide +kernel
theorem d_LP_count_69 : decode prog_1_method_19_code 69 = .ok (.aload_n 3, 1) := by decide +kernel
theorem d_LP_count_70 : decode prog_1_method_19_code 70 = .ok (.arraylength, 1) := by decide +kernel
theorem d_LP_count_71 : decode prog_1_method_19_code 71 = .ok (.istore 4, 2) := by decide +kernel
theorem d_LP_count_73 : decode prog_1_method_19_code 73 = .ok (.iconst 0, 1) := by decide +kernel
theorem d_LP_count_74 : decode prog_1_method_19_code 74 = .ok (.istore 5, 2) := by decide +kernel
theorem d_LP_count_76 : decode prog_1_method_19_code 76 = .ok (.iload 5, 2) := by decide +kernel
theorem d_LP_count_78 : decode prog_1_method_19_code 78 = .ok (.iload 4, 2) := by decide +kernel
theorem d_LP_count_80 : decode prog_1_method_19_code 80 = .ok (.if_icmp .ge 37, 3) := by decide +kernel
theorem d_LP_count_83 : decode prog_1_method_19_code 83 = .ok (.aload_n 3, 1) := by decide +kernel
theorem d_LP_count_84 : decode prog_1_method_19_code 84 = .ok (.iload 5, 2) := by decide +kernel
theorem d_LP_count_86 : decode prog_1_method_19_code 86 = .ok (.aaload, 1) := by decide +kernel
theorem d_LP_count_87 : decode prog_1_method_19_code 87 = .ok (.astore 6, 2) := by decide +kernel
theorem d_LP_count_89 : decode prog_1_method_19_code 89 = .ok (.iload_n 2, 1) := by decide +kernel
theorem d_LP_count_90 : decode prog_1_method_19_code 90 = .ok (.aload 6, 2) := by decide +kernel
theorem d_LP_count_92 : decode prog_1_method_19_code 92 = .ok (.ifnull 16, 3) := by decide +kernel
theorem d_LP_count_95 : decode prog_1_method_19_code 95 = .ok (.aload 6, 2) := by decide +kernel
theorem d_LP_count_97 : decode prog_1_method_19_code 97 = .ok (.getfield 220, 3) := by decide +kernel
theorem d_LP_count_100 : decode prog_1_method_19_code 100 = .ok (.iconst (-1), 1) := by decide +kernel
theorem d_LP_count_101 : decode prog_1_method_19_code 101 = .ok (.if_icmp .eq 7, 3) := by decide +kernel
theorem d_LP_count_104 : decode prog_1_method_19_code 104 = .ok (.iconst 1, 1) := by decide +kernel
theorem d_LP_count_105 : decode prog_1_method_19_code 105 = .ok (.goto 4, 3) := by decide +kernel
theorem d_LP_count_108 : decode prog_1_method_19_code 108 = .ok (.iconst 0, 1) := by decide +kernel
theorem d_LP_count_109 : decode prog_1_method_19_code 109 = .ok (.iadd, 1) := by decide +kernel
theorem d_LP_count_110 : decode prog_1_method_19_code 110 = .ok (.istore_n 2, 1) := by decide +kernel
theorem d_LP_count_111 : decode prog_1_method_19_code 111 = .ok (.iinc 5 1, 3) := by decide +kernel
theorem d_LP_count_114 : decode prog_1_method_19_code 114 = .ok (.goto (-38), 3) := by decide +kernel
theorem d_LP_count_117 : decode prog_1_method_19_code 117 = .ok (.iload_n 2, 1) := by decide +kernel
theorem d_LP_count_118 : decode prog_1_method_19_code 118 = .ok (.ireturn, 1) := by decide +kernel
theorem d_LP_card_0 : decode prog_1_method_20_code 0 = .ok (.iload_n 1, 1) := by decide +kernel
theorem d_LP_card_1 : decode prog_1_method_20_code 1 = .ok (.ifCond .lt 35, 3) := by decide +kernel
theorem d_LP_card_4 : decode prog_1_method_20_code 4 = .ok (.iload_n 1, 1) := by decide +kernel
theorem d_LP_card_5 : decode prog_1_method_20_code 5 = .ok (.bipush 16, 2) := by decide +kernel
theorem d_LP_card_7 : decode prog_1_method_20_code 7 = .ok (.if_icmp .ge 29, 3) := by decide +kernel
theorem d_LP_card_10 : decode prog_1_method_20_code 10 = .ok (.aload_n 0, 1) := by decide +kernel
theorem d_LP_card_11 : decode prog_1_method_20_code 11 = .ok (.getfield 76, 3) := by decide +kernel
theorem d_LP_card_14 : decode prog_1_method_20_code 14 = .ok (.iload_n 1, 1) := by decide +kernel
theorem d_LP_card_15 : decode prog_1_method_20_code 15 = .ok (.aaload, 1) := by decide +kernel
theorem d_LP_card_16 : decode prog_1_method_20_code 16 = .ok (.ifnull 20, 3) := by decide +kernel
theorem d_LP_card_19 : decode prog_1_method_20_code 19 = .ok (.aload_n 0, 1) := by decide +kernel
theorem d_LP_card_20 : decode prog_1_method_20_code 20 = .ok (.getfield 76, 3) := by decide +kernel
theorem d_LP_card_23 : decode prog_1_method_20_code 23 = .ok (.iload_n 1, 1) := by decide +kernel
theorem d_LP_card_24 : decode prog_1_method_20_code 24 = .ok (.aaload, 1) := by decide +kernel
theorem d_LP_card_25 : decode prog_1_method_20_code 25 = .ok (.getfield 220, 3) := by decide +kernel
theorem d_LP_card_28 : decode prog_1_method_20_code 28 = .ok (.iconst (-1), 1) := by decide +kernel
theorem d_LP_card_29 : decode prog_1_method_20_code 29 = .ok (.if_icmp .eq 7, 3) := by decide +kernel
theorem d_LP_card_32 : decode prog_1_method_20_code 32 = .ok (.iconst 1, 1) := by decide +kernel
theorem d_LP_card_33 : decode prog_1_method_20_code 33 = .ok (.goto 4, 3) := by decide +kernel
theorem d_LP_card_36 : decode prog_1_method_20_code 36 = .ok (.iconst 0, 1) := by decide +kernel
theorem d_LP_card_37 : decode prog_1_method_20_code 37 = .ok (.invokestatic 155, 3) := by decide +kernel
theorem d_LP_card_40 : decode prog_1_method_20_code 40 = .ok (.aload_n 0, 1) := by decide +kernel
theorem d_LP_card_41 : decode prog_1_method_20_code 41 = .ok (.getfield 76, 3) := by decide +kernel
theorem d_LP_card_44 : decode prog_1_method_20_code 44 = .ok (.iload_n 1, 1) := by decide +kernel
theorem d_LP_card_45 : decode prog_1_method_20_code 45 = .ok (.aaload, 1) := by decide +kernel
theorem d_LP_card_46 : decode prog_1_method_20_code 46 = .ok (.areturn, 1) := by decide +kernel
theorem d_LP_free_0 : decode prog_1_method_21_code 0 = .ok (.iconst 0, 1) := by decide +kernel
theorem d_LP_free_1 : decode prog_1_method_21_code 1 = .ok (.istore_n 1, 1) := by decide +kernel
theorem d_LP_free_2 : decode prog_1_method_21_code 2 = .ok (.iload_n 1, 1) := by decide +kernel
theorem d_LP_free_3 : decode prog_1_method_21_code 3 = .ok (.bipush 16, 2) := by decide +kernel
theorem d_LP_free_5 : decode prog_1_method_21_code 5 = .ok (.if_icmp .ge 31, 3) := by decide +kernel
theorem d_LP_free_8 : decode prog_1_method_21_code 8 = .ok (.aload_n 0, 1) := by decide +kernel
theorem d_LP_free_9 : decode prog_1_method_21_code 9 = .ok (.getfield 76, 3) := by decide +kernel
theorem d_LP_free_12 : decode prog_1_method_21_code 12 = .ok (.iload_n 1, 1) := by decide +kernel
theorem d_LP_free_13 : decode prog_1_method_21_code 13 = .ok (.aaload, 1) := by decide +kernel
theorem d_LP_free_14 : decode prog_1_method_21_code 14 = .ok (.ifnull 22, 3) := by decide +kernel
theorem d_LP_free_17 : decode prog_1_method_21_code 17 = .ok (.aload_n 0, 1) := by decide +kernel
theorem d_LP_free_18 : decode prog_1_method_21_code 18 = .ok (.getfield 76, 3) := by decide +kernel
theorem d_LP_free_21 : decode prog_1_method_21_code 21 = .ok (.iload_n 1, 1) := by decide +kernel
theorem d_LP_free_22 : decode prog_1_method_21_code 22 = .ok (.aaload, 1) := by decide +kernel
theorem d_LP_free_23 : decode prog_1_method_21_code 23 = .ok (.getfield 220, 3) := by decide +kernel
theorem d_LP_free_26 : decode prog_1_method_21_code 26 = .ok (.iconst (-1), 1) := by decide +kernel
theorem d_LP_free_27 : decode prog_1_method_21_code 27 = .ok (.if_icmp .eq 9, 3) := by decide +kernel
theorem d_LP_free_30 : decode prog_1_method_21_code 30 = .ok (.iinc 1 1, 3) := by decide +kernel
theorem d_LP_free_33 : decode prog_1_method_21_code 33 = .ok (.goto (-31), 3) := by decide +kernel
theorem d_LP_free_36 : decode prog_1_method_21_code 36 = .ok (.iload_n 1, 1) := by decide +kernel
theorem d_LP_free_37 : decode prog_1_method_21_code 37 = .ok (.ireturn, 1) := by decide +kernel
theorem d_LP_fresh_0 : decode prog_1_method_22_code 0 = .ok (.iload_n 1, 1) := by decide +kernel
theorem d_LP_fresh_1 : decode prog_1_method_22_code 1 = .ok (.bipush 16, 2) := by decide +kernel
theorem d_LP_fresh_3 : decode prog_1_method_22_code 3 = .ok (.if_icmp .ge 7, 3) := by decide +kernel
theorem d_LP_fresh_6 : decode prog_1_method_22_code 6 = .ok (.iconst 1, 1) := by decide +kernel
theorem d_LP_fresh_7 : decode prog_1_method_22_code 7 = .ok (.goto 4, 3) := by decide +kernel
theorem d_LP_fresh_10 : decode prog_1_method_22_code 10 = .ok (.iconst 0, 1) := by decide +kernel
theorem d_LP_fresh_11 : decode prog_1_method_22_code 11 = .ok (.invokestatic 195, 3) := by decide +kernel
theorem d_LP_fresh_14 : decode prog_1_method_22_code 14 = .ok (.aload_n 0, 1) := by decide +kernel
theorem d_LP_fresh_15 : decode prog_1_method_22_code 15 = .ok (.getfield 76, 3) := by decide +kernel
theorem d_LP_fresh_18 : decode prog_1_method_22_code 18 = .ok (.iload_n 1, 1) := by decide +kernel
theorem d_LP_fresh_19 : decode prog_1_method_22_code 19 = .ok (.aaload, 1) := by decide +kernel
theorem d_LP_fresh_20 : decode prog_1_method_22_code 20 = .ok (.ifnonnull 16, 3) := by decide +kernel
theorem d_LP_fresh_23 : decode prog_1_method_22_code 23 = .ok (.aload_n 0, 1) := by decide +kernel
theorem d_LP_fresh_24 : decode prog_1_method_22_code 24 = .ok (.getfield 76, 3) := by decide +kernel
theorem d_LP_fresh_27 : decode prog_1_method_22_code 27 = .ok (.iload_n 1, 1) := by decide +kernel
theorem d_LP_fresh_28 : decode prog_1_method_22_code 28 = .ok (.new 74, 3) := by decide +kernel
theorem d_LP_fresh_31 : decode prog_1_method_22_code 31 = .ok (.dup, 1) := by decide +kernel
theorem d_LP_fresh_32 : decode prog_1_method_22_code 32 = .ok (.invokespecial 80, 3) := by decide +kernel
theorem d_LP_fresh_35 : decode prog_1_method_22_code 35 = .ok (.aastore, 1) := by decide +kernel
theorem d_LP_fresh_36 : decode prog_1_method_22_code 36 = .ok (.aload_n 0, 1) := by decide +kernel
theorem d_LP_fresh_37 : decode prog_1_method_22_code 37 = .ok (.getfield 76, 3) := by decide +kernel
theorem d_LP_fresh_40 : decode prog_1_method_22_code 40 = .ok (.iload_n 1, 1) := by decide +kernel
theorem d_LP_fresh_41 : decode prog_1_method_22_code 41 = .ok (.aaload, 1) := by decide +kernel
theorem d_LP_fresh_42 : decode prog_1_method_22_code 42 = .ok (.areturn, 1) := by decide +kernel
theorem d_LP_record_0 : decode prog_1_method_23_code 0 = .ok (.aload_n 0, 1) := by decide +kernel
theorem d_LP_record_1 : decode prog_1_method_23_code 1 = .ok (.iload_n 1, 1) := by decide +kernel
theorem d_LP_record_2 : decode prog_1_method_23_code 2 = .ok (.invokevirtual 152, 3) := by decide +kernel
theorem d_LP_record_5 : decode prog_1_method_23_code 5 = .ok (.invokestatic 155, 3) := by decide +kernel
theorem d_LP_record_8 : decode prog_1_method_23_code 8 = .ok (.aload_n 0, 1) := by decide +kernel
theorem d_LP_record_9 : decode prog_1_method_23_code 9 = .ok (.invokevirtual 223, 3) := by decide +kernel
theorem d_LP_record_12 : decode prog_1_method_23_code 12 = .ok (.istore_n 2, 1) := by decide +kernel
theorem d_LP_record_13 : decode prog_1_method_23_code 13 = .ok (.aload_n 0, 1) := by decide +kernel
theorem d_LP_record_14 : decode prog_1_method_23_code 14 = .ok (.iload_n 2, 1) := by decide +kernel
theorem d_LP_record_15 : decode prog_1_method_23_code 15 = .ok (.invokevirtual 227, 3) := by decide +kernel
theorem d_LP_record_18 : decode prog_1_method_23_code 18 = .ok (.iload_n 1, 1) := by decide +kernel
theorem d_LP_record_19 : decode prog_1_method_23_code 19 = .ok (.aload_n 0, 1) := by decide +kernel
theorem d_LP_record_20 : decode prog_1_method_23_code 20 = .ok (.getfield 65, 3) := by decide +kernel
theorem d_LP_record_23 : decode prog_1_method_23_code 23 = .ok (.iload_n 1, 1) := by decide +kernel
theorem d_LP_record_24 : decode prog_1_method_23_code 24 = .ok (.aaload, 1) := by decide +kernel
theorem d_LP_record_25 : decode prog_1_method_23_code 25 = .ok (.invokevirtual 231, 3) := by decide +kernel
theorem d_LP_record_28 : decode prog_1_method_23_code 28 = .ok (.aload_n 0, 1) := by decide +kernel
theorem d_LP_record_29 : decode prog_1_method_23_code 29 = .ok (.iconst 1, 1) := by decide +kernel
theorem d_LP_record_30 : decode prog_1_method_23_code 30 = .ok (.putfield 132, 3) := by decide +kernel
theorem d_LP_record_33 : decode prog_1_method_23_code 33 = .ok (.iload_n 2, 1) := by decide +kernel
theorem d_LP_record_34 : decode prog_1_method_23_code 34 = .ok (.ireturn, 1) := by decide +kernel
theorem d_LP_copy_0 : decode prog_1_method_24_code 0 = .ok (.aload_n 0, 1) := by decide +kernel
theorem d_LP_copy_1 : decode prog_1_method_24_code 1 = .ok (.iload_n 1, 1) := by decide +kernel
theorem d_LP_copy_2 : decode prog_1_method_24_code 2 = .ok (.invokevirtual 235, 3) := by decide +kernel
theorem d_LP_copy_5 : decode prog_1_method_24_code 5 = .ok (.astore_n 2, 1) := by decide +kernel
theorem d_LP_copy_6 : decode prog_1_method_24_code 6 = .ok (.aload_n 0, 1) := by decide +kernel
theorem d_LP_copy_7 : decode prog_1_method_24_code 7 = .ok (.invokevirtual 223, 3) := by decide +kernel
theorem d_LP_copy_10 : decode prog_1_method_24_code 10 = .ok (.istore_n 3, 1) := by decide +kernel
theorem d_LP_copy_11 : decode prog_1_method_24_code 11 = .ok (.aload_n 0, 1) := by decide +kernel
theorem d_LP_copy_12 : decode prog_1_method_24_code 12 = .ok (.iload_n 3, 1) := by decide +kernel
theorem d_LP_copy_13 : decode prog_1_method_24_code 13 = .ok (.invokevirtual 227, 3) := by decide +kernel
theorem d_LP_copy_16 : decode prog_1_method_24_code 16 = .ok (.aload_n 2, 1) := by decide +kernel
theorem d_LP_copy_17 : decode prog_1_method_24_code 17 = .ok (.invokevirtual 238, 3) := by decide +kernel
theorem d_LP_copy_20 : decode prog_1_method_24_code 20 = .ok (.iload_n 3, 1) := by decide +kernel
theorem d_LP_copy_21 : decode prog_1_method_24_code 21 = .ok (.ireturn, 1) := by decide +kernel
theorem d_LP_drop_0 : decode prog_1_method_25_code 0 = .ok (.aload_n 0, 1) := by decide +kernel
theorem d_LP_drop_1 : decode prog_1_method_25_code 1 = .ok (.iload_n 1, 1) := by decide +kernel
theorem d_LP_drop_2 : decode prog_1_method_25_code 2 = .ok (.invokevirtual 235, 3) := by decide +kernel
theorem d_LP_drop_5 : decode prog_1_method_25_code 5 = .ok (.iconst (-1), 1) := by decide +kernel
theorem d_LP_drop_6 : decode prog_1_method_25_code 6 = .ok (.putfield 220, 3) := by decide +kernel
theorem d_LP_drop_9 : decode prog_1_method_25_code 9 = .ok (.return_, 1) := by decide +kernel
theorem d_LP_place_0 : decode prog_1_method_26_code 0 = .ok (.aload_n 0, 1) := by decide +kernel
theorem d_LP_place_1 : decode prog_1_method_26_code 1 = .ok (.iload_n 1, 1) := by decide +kernel
theorem d_LP_place_2 : decode prog_1_method_26_code 2 = .ok (.invokevirtual 235, 3) := by decide +kernel
theorem d_LP_place_5 : decode prog_1_method_26_code 5 = .ok (.getfield 241, 3) := by decide +kernel
theorem d_LP_place_8 : decode prog_1_method_26_code 8 = .ok (.iload_n 2, 1) := by decide +kernel
theorem d_LP_place_9 : decode prog_1_method_26_code 9 = .ok (.invokevirtual 244, 3) := by decide +kernel
theorem d_LP_place_12 : decode prog_1_method_26_code 12 = .ok (.checkcast 247, 3) := by decide +kernel
theorem d_LP_place_15 : decode prog_1_method_26_code 15 = .ok (.astore 4, 2) := by decide +kernel
theorem d_LP_place_17 : decode prog_1_method_26_code 17 = .ok (.aload 4, 2) := by decide +kernel
theorem d_LP_place_19 : decode prog_1_method_26_code 19 = .ok (.ifnull 16, 3) := by decide +kernel
theorem d_LP_place_22 : decode prog_1_method_26_code 22 = .ok (.aload 4, 2) := by decide +kernel
theorem d_LP_place_24 : decode prog_1_method_26_code 24 = .ok (.getfield 249, 3) := by decide +kernel
theorem d_LP_place_27 : decode prog_1_method_26_code 27 = .ok (.iload_n 3, 1) := by decide +kernel
theorem d_LP_place_28 : decode prog_1_method_26_code 28 = .ok (.if_icmp .ne 7, 3) := by decide +kernel
theorem d_LP_place_31 : decode prog_1_method_26_code 31 = .ok (.iconst 1, 1) := by decide +kernel
theorem d_LP_place_32 : decode prog_1_method_26_code 32 = .ok (.goto 4, 3) := by decide +kernel
theorem d_LP_place_35 : decode prog_1_method_26_code 35 = .ok (.iconst 0, 1) := by decide +kernel
theorem d_LP_place_36 : decode prog_1_method_26_code 36 = .ok (.invokestatic 145, 3) := by decide +kernel
theorem d_LP_place_39 : decode prog_1_method_26_code 39 = .ok (.aload 4, 2) := by decide +kernel
theorem d_LP_place_41 : decode prog_1_method_26_code 41 = .ok (.areturn, 1) := by decide +kernel
theorem d_LP_isIn_0 : decode prog_1_method_27_code 0 = .ok (.aload_n 0, 1) := by decide +kernel
theorem d_LP_isIn_1 : decode prog_1_method_27_code 1 = .ok (.getfield 65, 3) := by decide +kernel
theorem d_LP_isIn_4 : decode prog_1_method_27_code 4 = .ok (.aload_n 0, 1) := by decide +kernel
theorem d_LP_isIn_5 : decode prog_1_method_27_code 5 = .ok (.getfield 76, 3) := by decide +kernel
theorem d_LP_isIn_8 : decode prog_1_method_27_code 8 = .ok (.iload_n 1, 1) := by decide +kernel
theorem d_LP_isIn_9 : decode prog_1_method_27_code 9 = .ok (.aaload, 1) := by decide +kernel
theorem d_LP_isIn_10 : decode prog_1_method_27_code 10 = .ok (.getfield 220, 3) := by decide +kernel
theorem d_LP_isIn_13 : decode prog_1_method_27_code 13 = .ok (.aaload, 1) := by decide +kernel
theorem d_LP_isIn_14 : decode prog_1_method_27_code 14 = .ok (.iload_n 2, 1) := by decide +kernel
theorem d_LP_isIn_15 : decode prog_1_method_27_code 15 = .ok (.invokevirtual 201, 3) := by decide +kernel
theorem d_LP_isIn_18 : decode prog_1_method_27_code 18 = .ok (.checkcast 205, 3) := by decide +kernel
theorem d_LP_isIn_21 : decode prog_1_method_27_code 21 = .ok (.astore 4, 2) := by decide +kernel
theorem d_LP_isIn_23 : decode prog_1_method_27_code 23 = .ok (.iload_n 3, 1) := by decide +kernel
theorem d_LP_isIn_24 : decode prog_1_method_27_code 24 = .ok (.aload 4, 2) := by decide +kernel
theorem d_LP_isIn_26 : decode prog_1_method_27_code 26 = .ok (.getfield 210, 3) := by decide +kernel
theorem d_LP_isIn_29 : decode prog_1_method_27_code 29 = .ok (.if_icmp .lt 16, 3) := by decide +kernel
theorem d_LP_isIn_32 : decode prog_1_method_27_code 32 = .ok (.iload_n 3, 1) := by decide +kernel
theorem d_LP_isIn_33 : decode prog_1_method_27_code 33 = .ok (.aload 4, 2) := by decide +kernel
theorem d_LP_isIn_35 : decode prog_1_method_27_code 35 = .ok (.getfield 213, 3) := by decide +kernel
theorem d_LP_isIn_38 : decode prog_1_method_27_code 38 = .ok (.if_icmp .gt 7, 3) := by decide +kernel
theorem d_LP_isIn_41 : decode prog_1_method_27_code 41 = .ok (.iconst 1, 1) := by decide +kernel
theorem d_LP_isIn_42 : decode prog_1_method_27_code 42 = .ok (.goto 4, 3) := by decide +kernel
theorem d_LP_isIn_45 : decode prog_1_method_27_code 45 = .ok (.iconst 0, 1) := by decide +kernel
theorem d_LP_isIn_46 : decode prog_1_method_27_code 46 = .ok (.ireturn, 1) := by decide +kernel
theorem d_LP_set_0 : decode prog_1_method_28_code 0 = .ok (.aload_n 0, 1) := by decide +kernel
theorem d_LP_set_1 : decode prog_1_method_28_code 1 = .ok (.iload_n 1, 1) := by decide +kernel
theorem d_LP_set_2 : decode prog_1_method_28_code 2 = .ok (.iload_n 2, 1) := by decide +kernel
theorem d_LP_set_3 : decode prog_1_method_28_code 3 = .ok (.iconst 0, 1) := by decide +kernel
theorem d_LP_set_4 : decode prog_1_method_28_code 4 = .ok (.invokevirtual 252, 3) := by decide +kernel
theorem d_LP_set_7 : decode prog_1_method_28_code 7 = .ok (.astore 4, 2) := by decide +kernel
theorem d_LP_set_9 : decode prog_1_method_28_code 9 = .ok (.aload_n 0, 1) := by decide +kernel
theorem d_LP_set_10 : decode prog_1_method_28_code 10 = .ok (.iload_n 1, 1) := by decide +kernel
theorem d_LP_set_11 : decode prog_1_method_28_code 11 = .ok (.iload_n 2, 1) := by decide +kernel
theorem d_LP_set_12 : decode prog_1_method_28_code 12 = .ok (.iload_n 3, 1) := by decide +kernel
theorem d_LP_set_13 : decode prog_1_method_28_code 13 = .ok (.invokevirtual 256, 3) := by decide +kernel
theorem d_LP_set_16 : decode prog_1_method_28_code 16 = .ok (.invokestatic 145, 3) := by decide +kernel
theorem d_LP_set_19 : decode prog_1_method_28_code 19 = .ok (.aload 4, 2) := by decide +kernel
theorem d_LP_set_21 : decode prog_1_method_28_code 21 = .ok (.getfield 259, 3) := by decide +kernel
theorem d_LP_set_24 : decode prog_1_method_28_code 24 = .ok (.iconst 0, 1) := by decide +kernel
theorem d_LP_set_25 : decode prog_1_method_28_code 25 = .ok (.iload_n 3, 1) := by decide +kernel
theorem d_LP_set_26 : decode prog_1_method_28_code 26 = .ok (.iastore, 1) := by decide +kernel
theorem d_LP_set_27 : decode prog_1_method_28_code 27 = .ok (.return_, 1) := by decide +kernel
theorem d_LP_put_0 : decode prog_1_method_29_code 0 = .ok (.aload_n 0, 1) := by decide +kernel
theorem d_LP_put_1 : decode prog_1_method_29_code 1 = .ok (.iload_n 1, 1) := by decide +kernel
theorem d_LP_put_2 : decode prog_1_method_29_code 2 = .ok (.iload_n 2, 1) := by decide +kernel
theorem d_LP_put_3 : decode prog_1_method_29_code 3 = .ok (.iconst 1, 1) := by decide +kernel
theorem d_LP_put_4 : decode prog_1_method_29_code 4 = .ok (.invokevirtual 252, 3) := by decide +kernel
theorem d_LP_put_7 : decode prog_1_method_29_code 7 = .ok (.astore 5, 2) := by decide +kernel
theorem d_LP_put_9 : decode prog_1_method_29_code 9 = .ok (.iload_n 3, 1) := by decide +kernel
theorem d_LP_put_10 : decode prog_1_method_29_code 10 = .ok (.ifCond .lt 33, 3) := by decide +kernel
theorem d_LP_put_13 : decode prog_1_method_29_code 13 = .ok (.iload_n 3, 1) := by decide +kernel
theorem d_LP_put_14 : decode prog_1_method_29_code 14 = .ok (.aload 5, 2) := by decide +kernel
theorem d_LP_put_16 : decode prog_1_method_29_code 16 = .ok (.getfield 262, 3) := by decide +kernel
theorem d_LP_put_19 : decode prog_1_method_29_code 19 = .ok (.if_icmp .gt 24, 3) := by decide +kernel
theorem d_LP_put_22 : decode prog_1_method_29_code 22 = .ok (.iload_n 3, 1) := by decide +kernel
theorem d_LP_put_23 : decode prog_1_method_29_code 23 = .ok (.bipush 6, 2) := by decide +kernel
theorem d_LP_put_25 : decode prog_1_method_29_code 25 = .ok (.if_icmp .ge 18, 3) := by decide +kernel
theorem d_LP_put_28 : decode prog_1_method_29_code 28 = .ok (.aload_n 0, 1) := by decide +kernel
theorem d_LP_put_29 : decode prog_1_method_29_code 29 = .ok (.iload_n 1, 1) := by decide +kernel
theorem d_LP_put_30 : decode prog_1_method_29_code 30 = .ok (.iload_n 2, 1) := by decide +kernel
theorem d_LP_put_31 : decode prog_1_method_29_code 31 = .ok (.iload 4, 2) := by decide +kernel
theorem d_LP_put_33 : decode prog_1_method_29_code 33 = .ok (.invokevirtual 256, 3) := by decide +kernel
theorem d_LP_put_36 : decode prog_1_method_29_code 36 = .ok (.ifCond .eq 7, 3) := by decide +kernel
theorem d_LP_put_39 : decode prog_1_method_29_code 39 = .ok (.iconst 1, 1) := by decide +kernel
theorem d_LP_put_40 : decode prog_1_method_29_code 40 = .ok (.goto 4, 3) := by decide +kernel
theorem d_LP_put_43 : decode prog_1_method_29_code 43 = .ok (.iconst 0, 1) := by decide +kernel
theorem d_LP_put_44 : decode prog_1_method_29_code 44 = .ok (.invokestatic 145, 3) := by decide +kernel
theorem d_LP_put_47 : decode prog_1_method_29_code 47 = .ok (.aload 5, 2) := by decide +kernel
theorem d_LP_put_49 : decode prog_1_method_29_code 49 = .ok (.getfield 259, 3) := by decide +kernel
theorem d_LP_put_52 : decode prog_1_method_29_code 52 = .ok (.iload_n 3, 1) := by decide +kernel
theorem d_LP_put_53 : decode prog_1_method_29_code 53 = .ok (.iload 4, 2) := by decide +kernel
theorem d_LP_put_55 : decode prog_1_method_29_code 55 = .ok (.iastore, 1) := by decide +kernel
theorem d_LP_put_56 : decode prog_1_method_29_code 56 = .ok (.aload 5, 2) := by decide +kernel
theorem d_LP_put_58 : decode prog_1_method_29_code 58 = .ok (.dup, 1) := by decide +kernel
theorem d_LP_put_59 : decode prog_1_method_29_code 59 = .ok (.getfield 262, 3) := by decide +kernel
theorem d_LP_put_62 : decode prog_1_method_29_code 62 = .ok (.iload_n 3, 1) := by decide +kernel
theorem d_LP_put_63 : decode prog_1_method_29_code 63 = .ok (.aload 5, 2) := by decide +kernel
theorem d_LP_put_65 : decode prog_1_method_29_code 65 = .ok (.getfield 262, 3) := by decide +kernel
theorem d_LP_put_68 : decode prog_1_method_29_code 68 = .ok (.if_icmp .ne 7, 3) := by decide +kernel
theorem d_LP_put_71 : decode prog_1_method_29_code 71 = .ok (.iconst 1, 1) := by decide +kernel
theorem d_LP_put_72 : decode prog_1_method_29_code 72 = .ok (.goto 4, 3) := by decide +kernel
theorem d_LP_put_75 : decode prog_1_method_29_code 75 = .ok (.iconst 0, 1) := by decide +kernel
theorem d_LP_put_76 : decode prog_1_method_29_code 76 = .ok (.iadd, 1) := by decide +kernel
theorem d_LP_put_77 : decode prog_1_method_29_code 77 = .ok (.putfield 262, 3) := by decide +kernel
theorem d_LP_put_80 : decode prog_1_method_29_code 80 = .ok (.aload 5, 2) := by decide +kernel
theorem d_LP_put_82 : decode prog_1_method_29_code 82 = .ok (.getfield 262, 3) := by decide +kernel
theorem d_LP_put_85 : decode prog_1_method_29_code 85 = .ok (.ireturn, 1) := by decide +kernel
theorem d_LP_cut_0 : decode prog_1_method_30_code 0 = .ok (.aload_n 0, 1) := by decide +kernel
theorem d_LP_cut_1 : decode prog_1_method_30_code 1 = .ok (.iload_n 1, 1) := by decide +kernel
theorem d_LP_cut_2 : decode prog_1_method_30_code 2 = .ok (.iload_n 2, 1) := by decide +kernel
theorem d_LP_cut_3 : decode prog_1_method_30_code 3 = .ok (.iconst 1, 1) := by decide +kernel
theorem d_LP_cut_4 : decode prog_1_method_30_code 4 = .ok (.invokevirtual 252, 3) := by decide +kernel
theorem d_LP_cut_7 : decode prog_1_method_30_code 7 = .ok (.astore 4, 2) := by decide +kernel
theorem d_LP_cut_9 : decode prog_1_method_30_code 9 = .ok (.iload_n 3, 1) := by decide +kernel
theorem d_LP_cut_10 : decode prog_1_method_30_code 10 = .ok (.ifCond .lt 16, 3) := by decide +kernel
theorem d_LP_cut_13 : decode prog_1_method_30_code 13 = .ok (.iload_n 3, 1) := by decide +kernel
theorem d_LP_cut_14 : decode prog_1_method_30_code 14 = .ok (.aload 4, 2) := by decide +kernel
theorem d_LP_cut_16 : decode prog_1_method_30_code 16 = .ok (.getfield 262, 3) := by decide +kernel
theorem d_LP_cut_19 : decode prog_1_method_30_code 19 = .ok (.if_icmp .gt 7, 3) := by decide +kernel
theorem d_LP_cut_22 : decode prog_1_method_30_code 22 = .ok (.iconst 1, 1) := by decide +kernel
theorem d_LP_cut_23 : decode prog_1_method_30_code 23 = .ok (.goto 4, 3) := by decide +kernel
theorem d_LP_cut_26 : decode prog_1_method_30_code 26 = .ok (.iconst 0, 1) := by decide +kernel
theorem d_LP_cut_27 : decode prog_1_method_30_code 27 = .ok (.invokestatic 145, 3) := by decide +kernel
theorem d_LP_cut_30 : decode prog_1_method_30_code 30 = .ok (.aload 4, 2) := by decide +kernel
theorem d_LP_cut_32 : decode prog_1_method_30_code 32 = .ok (.iload_n 3, 1) := by decide +kernel
theorem d_LP_cut_33 : decode prog_1_method_30_code 33 = .ok (.putfield 262, 3) := by decide +kernel
theorem d_LP_cut_36 : decode prog_1_method_30_code 36 = .ok (.return_, 1) := by decide +kernel
theorem d_LP_get_0 : decode prog_1_method_31_code 0 = .ok (.aload_n 0, 1) := by decide +kernel
theorem d_LP_get_1 : decode prog_1_method_31_code 1 = .ok (.iload_n 1, 1) := by decide +kernel
theorem d_LP_get_2 : decode prog_1_method_31_code 2 = .ok (.iload_n 2, 1) := by decide +kernel
theorem d_LP_get_3 : decode prog_1_method_31_code 3 = .ok (.iconst 0, 1) := by decide +kernel
theorem d_LP_get_4 : decode prog_1_method_31_code 4 = .ok (.invokevirtual 252, 3) := by decide +kernel
theorem d_LP_get_7 : decode prog_1_method_31_code 7 = .ok (.getfield 259, 3) := by decide +kernel
theorem d_LP_get_10 : decode prog_1_method_31_code 10 = .ok (.iconst 0, 1) := by decide +kernel
theorem d_LP_get_11 : decode prog_1_method_31_code 11 = .ok (.iaload, 1) := by decide +kernel
theorem d_LP_get_12 : decode prog_1_method_31_code 12 = .ok (.ireturn, 1) := by decide +kernel
theorem d_LP_size_0 : decode prog_1_method_32_code 0 = .ok (.aload_n 0, 1) := by decide +kernel
theorem d_LP_size_1 : decode prog_1_method_32_code 1 = .ok (.iload_n 1, 1) := by decide +kernel
theorem d_LP_size_2 : decode prog_1_method_32_code 2 = .ok (.iload_n 2, 1) := by decide +kernel
theorem d_LP_size_3 : decode prog_1_method_32_code 3 = .ok (.iconst 1, 1) := by decide +kernel
theorem d_LP_size_4 : decode prog_1_method_32_code 4 = .ok (.invokevirtual 252, 3) := by decide +kernel
theorem d_LP_size_7 : decode prog_1_method_32_code 7 = .ok (.getfield 262, 3) := by decide +kernel
theorem d_LP_size_10 : decode prog_1_method_32_code 10 = .ok (.ireturn, 1) := by decide +kernel
theorem d_LP_item_0 : decode prog_1_method_33_code 0 = .ok (.aload_n 0, 1) := by decide +kernel
theorem d_LP_item_1 : decode prog_1_method_33_code 1 = .ok (.iload_n 1, 1) := by decide +kernel
theorem d_LP_item_2 : decode prog_1_method_33_code 2 = .ok (.iload_n 2, 1) := by decide +kernel
theorem d_LP_item_3 : decode prog_1_method_33_code 3 = .ok (.iconst 1, 1) := by decide +kernel
theorem d_LP_item_4 : decode prog_1_method_33_code 4 = .ok (.invokevirtual 252, 3) := by decide +kernel
theorem d_LP_item_7 : decode prog_1_method_33_code 7 = .ok (.astore 4, 2) := by decide +kernel
theorem d_LP_item_9 : decode prog_1_method_33_code 9 = .ok (.iload_n 3, 1) := by decide +kernel
theorem d_LP_item_10 : decode prog_1_method_33_code 10 = .ok (.ifCond .lt 16, 3) := by decide +kernel
theorem d_LP_item_13 : decode prog_1_method_33_code 13 = .ok (.iload_n 3, 1) := by decide +kernel
theorem d_LP_item_14 : decode prog_1_method_33_code 14 = .ok (.aload 4, 2) := by decide +kernel
theorem d_LP_item_16 : decode prog_1_method_33_code 16 = .ok (.getfield 262, 3) := by decide +kernel
theorem d_LP_item_19 : decode prog_1_method_33_code 19 = .ok (.if_icmp .ge 7, 3) := by decide +kernel
theorem d_LP_item_22 : decode prog_1_method_33_code 22 = .ok (.iconst 1, 1) := by decide +kernel
theorem d_LP_item_23 : decode prog_1_method_33_code 23 = .ok (.goto 4, 3) := by decide +kernel
theorem d_LP_item_26 : decode prog_1_method_33_code 26 = .ok (.iconst 0, 1) := by decide +kernel
theorem d_LP_item_27 : decode prog_1_method_33_code 27 = .ok (.invokestatic 145, 3) := by decide +kernel
theorem d_LP_item_30 : decode prog_1_method_33_code 30 = .ok (.aload 4, 2) := by decide +kernel
theorem d_LP_item_32 : decode prog_1_method_33_code 32 = .ok (.getfield 259, 3) := by decide +kernel
theorem d_LP_item_35 : decode prog_1_method_33_code 35 = .ok (.iload_n 3, 1) := by decide +kernel
theorem d_LP_item_36 : decode prog_1_method_33_code 36 = .ok (.iaload, 1) := by decide +kernel
theorem d_LP_item_37 : decode prog_1_method_33_code 37 = .ok (.ireturn, 1) := by decide +kernel
theorem d_LP_version_0 : decode prog_1_method_34_code 0 = .ok (.aload_n 0, 1) := by decide +kernel
theorem d_LP_version_1 : decode prog_1_method_34_code 1 = .ok (.iload_n 1, 1) := by decide +kernel
theorem d_LP_version_2 : decode prog_1_method_34_code 2 = .ok (.invokevirtual 235, 3) := by decide +kernel
theorem d_LP_version_5 : decode prog_1_method_34_code 5 = .ok (.getfield 220, 3) := by decide +kernel
theorem d_LP_version_8 : decode prog_1_method_34_code 8 = .ok (.ireturn, 1) := by decide +kernel
theorem d_LP_kept_0 : decode prog_1_method_35_code 0 = .ok (.aload_n 0, 1) := by decide +kernel
theorem d_LP_kept_1 : decode prog_1_method_35_code 1 = .ok (.iload_n 1, 1) := by decide +kernel
theorem d_LP_kept_2 : decode prog_1_method_35_code 2 = .ok (.invokevirtual 235, 3) := by decide +kernel
theorem d_LP_kept_5 : decode prog_1_method_35_code 5 = .ok (.getfield 265, 3) := by decide +kernel
theorem d_LP_kept_8 : decode prog_1_method_35_code 8 = .ok (.ireturn, 1) := by decide +kernel
theorem d_LP_same_0 : decode prog_1_method_36_code 0 = .ok (.aload_n 0, 1) := by decide +kernel
theorem d_LP_same_1 : decode prog_1_method_36_code 1 = .ok (.iload_n 1, 1) := by decide +kernel
theorem d_LP_same_2 : decode prog_1_method_36_code 2 = .ok (.invokevirtual 235, 3) := by decide +kernel
theorem d_LP_same_5 : decode prog_1_method_36_code 5 = .ok (.astore_n 3, 1) := by decide +kernel
theorem d_LP_same_6 : decode prog_1_method_36_code 6 = .ok (.aload_n 0, 1) := by decide +kernel
theorem d_LP_same_7 : decode prog_1_method_36_code 7 = .ok (.iload_n 2, 1) := by decide +kernel
theorem d_LP_same_8 : decode prog_1_method_36_code 8 = .ok (.invokevirtual 235, 3) := by decide +kernel
theorem d_LP_same_11 : decode prog_1_method_36_code 11 = .ok (.astore 4, 2) := by decide +kernel
theorem d_LP_same_13 : decode prog_1_method_36_code 13 = .ok (.aload_n 3, 1) := by decide +kernel
theorem d_LP_same_14 : decode prog_1_method_36_code 14 = .ok (.getfield 220, 3) := by decide +kernel
theorem d_LP_same_17 : decode prog_1_method_36_code 17 = .ok (.aload 4, 2) := by decide +kernel
theorem d_LP_same_19 : decode prog_1_method_36_code 19 = .ok (.getfield 220, 3) := by decide +kernel
theorem d_LP_same_22 : decode prog_1_method_36_code 22 = .ok (.if_icmp .ne 22, 3) := by decide +kernel
theorem d_LP_same_25 : decode prog_1_method_36_code 25 = .ok (.aload_n 3, 1) := by decide +kernel
theorem d_LP_same_26 : decode prog_1_method_36_code 26 = .ok (.getfield 241, 3) := by decide +kernel
theorem d_LP_same_29 : decode prog_1_method_36_code 29 = .ok (.aload 4, 2) := by decide +kernel
theorem d_LP_same_31 : decode prog_1_method_36_code 31 = .ok (.getfield 241, 3) := by decide +kernel
theorem d_LP_same_34 : decode prog_1_method_36_code 34 = .ok (.invokevirtual 266, 3) := by decide +kernel
theorem d_LP_same_37 : decode prog_1_method_36_code 37 = .ok (.ifCond .eq 7, 3) := by decide +kernel
theorem d_LP_same_40 : decode prog_1_method_36_code 40 = .ok (.iconst 1, 1) := by decide +kernel
theorem d_LP_same_41 : decode prog_1_method_36_code 41 = .ok (.goto 4, 3) := by decide +kernel
theorem d_LP_same_44 : decode prog_1_method_36_code 44 = .ok (.iconst 0, 1) := by decide +kernel
theorem d_LP_same_45 : decode prog_1_method_36_code 45 = .ok (.ireturn, 1) := by decide +kernel
theorem d_LP_translate_0 : decode prog_1_method_37_code 0 = .ok (.aload_n 0, 1) := by decide +kernel
theorem d_LP_translate_1 : decode prog_1_method_37_code 1 = .ok (.iload_n 1, 1) := by decide +kernel
theorem d_LP_translate_2 : decode prog_1_method_37_code 2 = .ok (.invokevirtual 235, 3) := by decide +kernel
theorem d_LP_translate_5 : decode prog_1_method_37_code 5 = .ok (.astore_n 3, 1) := by decide +kernel
theorem d_LP_translate_6 : decode prog_1_method_37_code 6 = .ok (.aload_n 0, 1) := by decide +kernel
theorem d_LP_translate_7 : decode prog_1_method_37_code 7 = .ok (.iload_n 2, 1) := by decide +kernel
theorem d_LP_translate_8 : decode prog_1_method_37_code 8 = .ok (.invokevirtual 152, 3) := by decide +kernel
theorem d_LP_translate_11 : decode prog_1_method_37_code 11 = .ok (.invokestatic 155, 3) := by decide +kernel
theorem d_LP_translate_14 : decode prog_1_method_37_code 14 = .ok (.aload_n 0, 1) := by decide +kernel
theorem d_LP_translate_15 : decode prog_1_method_37_code 15 = .ok (.aload_n 3, 1) := by decide +kernel
theorem d_LP_translate_16 : decode prog_1_method_37_code 16 = .ok (.getfield 220, 3) := by decide +kernel
theorem d_LP_translate_19 : decode prog_1_method_37_code 19 = .ok (.iload_n 2, 1) := by decide +kernel
theorem d_LP_translate_20 : decode prog_1_method_37_code 20 = .ok (.iconst (-1), 1) := by decide +kernel
theorem d_LP_translate_21 : decode prog_1_method_37_code 21 = .ok (.invokevirtual 269, 3) := by decide +kernel
theorem d_LP_translate_24 : decode prog_1_method_37_code 24 = .ok (.istore 4, 2) := by decide +kernel
theorem d_LP_translate_26 : decode prog_1_method_37_code 26 = .ok (.iload 4, 2) := by decide +kernel
theorem d_LP_translate_28 : decode prog_1_method_37_code 28 = .ok (.iconst (-1), 1) := by decide +kernel
theorem d_LP_translate_29 : decode prog_1_method_37_code 29 = .ok (.if_icmp .eq 7, 3) := by decide +kernel
theorem d_LP_translate_32 : decode prog_1_method_37_code 32 = .ok (.iconst 1, 1) := by decide +kernel
theorem d_LP_translate_33 : decode prog_1_method_37_code 33 = .ok (.goto 4, 3) := by decide +kernel
theorem d_LP_translate_36 : decode prog_1_method_37_code 36 = .ok (.iconst 0, 1) := by decide +kernel
theorem d_LP_translate_37 : decode prog_1_method_37_code 37 = .ok (.invokestatic 137, 3) := by decide +kernel
theorem d_LP_translate_40 : decode prog_1_method_37_code 40 = .ok (.aload_n 0, 1) := by decide +kernel
theorem d_LP_translate_41 : decode prog_1_method_37_code 41 = .ok (.getfield 81, 3) := by decide +kernel
theorem d_LP_translate_44 : decode prog_1_method_37_code 44 = .ok (.aload_n 3, 1) := by decide +kernel
theorem d_LP_translate_45 : decode prog_1_method_37_code 45 = .ok (.invokevirtual 238, 3) := by decide +kernel
theorem d_LP_translate_48 : decode prog_1_method_37_code 48 = .ok (.aload_n 0, 1) := by decide +kernel
theorem d_LP_translate_49 : decode prog_1_method_37_code 49 = .ok (.aload_n 0, 1) := by decide +kernel
theorem d_LP_translate_50 : decode prog_1_method_37_code 50 = .ok (.getfield 86, 3) := by decide +kernel
theorem d_LP_translate_53 : decode prog_1_method_37_code 53 = .ok (.aload_n 0, 1) := by decide +kernel
theorem d_LP_translate_54 : decode prog_1_method_37_code 54 = .ok (.getfield 81, 3) := by decide +kernel
theorem d_LP_translate_57 : decode prog_1_method_37_code 57 = .ok (.aload_n 0, 1) := by decide +kernel
theorem d_LP_translate_58 : decode prog_1_method_37_code 58 = .ok (.getfield 81, 3) := by decide +kernel
theorem d_LP_translate_61 : decode prog_1_method_37_code 61 = .ok (.getfield 241, 3) := by decide +kernel
theorem d_LP_translate_64 : decode prog_1_method_37_code 64 = .ok (.iload 4, 2) := by decide +kernel
theorem d_LP_translate_66 : decode prog_1_method_37_code 66 = .ok (.iconst (-1), 1) := by decide +kernel
theorem d_LP_translate_67 : decode prog_1_method_37_code 67 = .ok (.invokevirtual 272, 3) := by decide +kernel
theorem d_LP_translate_70 : decode prog_1_method_37_code 70 = .ok (.aload_n 0, 1) := by decide +kernel
theorem d_LP_translate_71 : decode prog_1_method_37_code 71 = .ok (.getfield 81, 3) := by decide +kernel
theorem d_LP_translate_74 : decode prog_1_method_37_code 74 = .ok (.iload_n 2, 1) := by decide +kernel
theorem d_LP_translate_75 : decode prog_1_method_37_code 75 = .ok (.putfield 220, 3) := by decide +kernel
theorem d_LP_translate_78 : decode prog_1_method_37_code 78 = .ok (.aload_n 0, 1) := by decide +kernel
theorem d_LP_translate_79 : decode prog_1_method_37_code 79 = .ok (.getfield 76, 3) := by decide +kernel
theorem d_LP_translate_82 : decode prog_1_method_37_code 82 = .ok (.iload_n 1, 1) := by decide +kernel
theorem d_LP_translate_83 : decode prog_1_method_37_code 83 = .ok (.aload_n 0, 1) := by decide +kernel
theorem d_LP_translate_84 : decode prog_1_method_37_code 84 = .ok (.getfield 81, 3) := by decide +kernel
theorem d_LP_translate_87 : decode prog_1_method_37_code 87 = .ok (.aastore, 1) := by decide +kernel
theorem d_LP_translate_88 : decode prog_1_method_37_code 88 = .ok (.aload_n 0, 1) := by decide +kernel
theorem d_LP_translate_89 : decode prog_1_method_37_code 89 = .ok (.aload_n 3, 1) := by decide +kernel
theorem d_LP_translate_90 : decode prog_1_method_37_code 90 = .ok (.putfield 81, 3) := by decide +kernel
theorem d_LP_translate_93 : decode prog_1_method_37_code 93 = .ok (.iload 4, 2) := by decide +kernel
theorem d_LP_translate_95 : decode prog_1_method_37_code 95 = .ok (.ireturn, 1) := by decide +kernel
theorem d_LP_route_0 : decode prog_1_method_38_code 0 = .ok (.aload_n 0, 1) := by decide +kernel
theorem d_LP_route_1 : decode prog_1_method_38_code 1 = .ok (.iload_n 1, 1) := by decide +kernel
theorem d_LP_route_2 : decode prog_1_method_38_code 2 = .ok (.invokevirtual 152, 3) := by decide +kernel
theorem d_LP_route_5 : decode prog_1_method_38_code 5 = .ok (.ifCond .eq 15, 3) := by decide +kernel
theorem d_LP_route_8 : decode prog_1_method_38_code 8 = .ok (.aload_n 0, 1) := by decide +kernel
theorem d_LP_route_9 : decode prog_1_method_38_code 9 = .ok (.iload_n 2, 1) := by decide +kernel
theorem d_LP_route_10 : decode prog_1_method_38_code 10 = .ok (.invokevirtual 152, 3) := by decide +kernel
theorem d_LP_route_13 : decode prog_1_method_38_code 13 = .ok (.ifCond .eq 7, 3) := by decide +kernel
theorem d_LP_route_16 : decode prog_1_method_38_code 16 = .ok (.iconst 1, 1) := by decide +kernel
theorem d_LP_route_17 : decode prog_1_method_38_code 17 = .ok (.goto 4, 3) := by decide +kernel
theorem d_LP_route_20 : decode prog_1_method_38_code 20 = .ok (.iconst 0, 1) := by decide +kernel
theorem d_LP_route_21 : decode prog_1_method_38_code 21 = .ok (.invokestatic 155, 3) := by decide +kernel
theorem d_LP_route_24 : decode prog_1_method_38_code 24 = .ok (.aload_n 0, 1) := by decide +kernel
theorem d_LP_route_25 : decode prog_1_method_38_code 25 = .ok (.iload_n 1, 1) := by decide +kernel
theorem d_LP_route_26 : decode prog_1_method_38_code 26 = .ok (.iload_n 2, 1) := by decide +kernel
theorem d_LP_route_27 : decode prog_1_method_38_code 27 = .ok (.iconst (-1), 1) := by decide +kernel
theorem d_LP_route_28 : decode prog_1_method_38_code 28 = .ok (.invokevirtual 269, 3) := by decide +kernel
theorem d_LP_route_31 : decode prog_1_method_38_code 31 = .ok (.istore 4, 2) := by decide +kernel
theorem d_LP_route_33 : decode prog_1_method_38_code 33 = .ok (.iload 4, 2) := by decide +kernel
theorem d_LP_route_35 : decode prog_1_method_38_code 35 = .ok (.iconst (-1), 1) := by decide +kernel
theorem d_LP_route_36 : decode prog_1_method_38_code 36 = .ok (.if_icmp .eq 13, 3) := by decide +kernel
theorem d_LP_route_39 : decode prog_1_method_38_code 39 = .ok (.iload_n 3, 1) := by decide +kernel
theorem d_LP_route_40 : decode prog_1_method_38_code 40 = .ok (.ifCond .lt 9, 3) := by decide +kernel
theorem d_LP_route_43 : decode prog_1_method_38_code 43 = .ok (.iload_n 3, 1) := by decide +kernel
theorem d_LP_route_44 : decode prog_1_method_38_code 44 = .ok (.iload 4, 2) := by decide +kernel
theorem d_LP_route_46 : decode prog_1_method_38_code 46 = .ok (.if_icmp .le 7, 3) := by decide +kernel
theorem d_LP_route_49 : decode prog_1_method_38_code 49 = .ok (.iconst (-1), 1) := by decide +kernel
theorem d_LP_route_50 : decode prog_1_method_38_code 50 = .ok (.goto 9, 3) := by decide +kernel
theorem d_LP_route_53 : decode prog_1_method_38_code 53 = .ok (.aload_n 0, 1) := by decide +kernel
theorem d_LP_route_54 : decode prog_1_method_38_code 54 = .ok (.getfield 45, 3) := by decide +kernel
theorem d_LP_route_57 : decode prog_1_method_38_code 57 = .ok (.iload_n 3, 1) := by decide +kernel
theorem d_LP_route_58 : decode prog_1_method_38_code 58 = .ok (.iaload, 1) := by decide +kernel
theorem d_LP_route_59 : decode prog_1_method_38_code 59 = .ok (.ireturn, 1) := by decide +kernel
theorem d_LP_isLike_0 : decode prog_1_method_39_code 0 = .ok (.aload_n 0, 1) := by decide +kernel
theorem d_LP_isLike_1 : decode prog_1_method_39_code 1 = .ok (.getfield 103, 3) := by decide +kernel
theorem d_LP_isLike_4 : decode prog_1_method_39_code 4 = .ok (.getfield 276, 3) := by decide +kernel
theorem d_LP_isLike_7 : decode prog_1_method_39_code 7 = .ok (.aload_n 0, 1) := by decide +kernel
theorem d_LP_isLike_8 : decode prog_1_method_39_code 8 = .ok (.getfield 107, 3) := by decide +kernel
theorem d_LP_isLike_11 : decode prog_1_method_39_code 11 = .ok (.getfield 276, 3) := by decide +kernel
theorem d_LP_isLike_14 : decode prog_1_method_39_code 14 = .ok (.if_icmp .ne 7, 3) := by decide +kernel
theorem d_LP_isLike_17 : decode prog_1_method_39_code 17 = .ok (.iconst 1, 1) := by decide +kernel
theorem d_LP_isLike_18 : decode prog_1_method_39_code 18 = .ok (.goto 4, 3) := by decide +kernel
theorem d_LP_isLike_21 : decode prog_1_method_39_code 21 = .ok (.iconst 0, 1) := by decide +kernel
theorem d_LP_isLike_22 : decode prog_1_method_39_code 22 = .ok (.istore_n 1, 1) := by decide +kernel
theorem d_LP_isLike_23 : decode prog_1_method_39_code 23 = .ok (.iconst 0, 1) := by decide +kernel
theorem d_LP_isLike_24 : decode prog_1_method_39_code 24 = .ok (.istore_n 2, 1) := by decide +kernel
theorem d_LP_isLike_25 : decode prog_1_method_39_code 25 = .ok (.iload_n 2, 1) := by decide +kernel
theorem d_LP_isLike_26 : decode prog_1_method_39_code 26 = .ok (.aload_n 0, 1) := by decide +kernel
theorem d_LP_isLike_27 : decode prog_1_method_39_code 27 = .ok (.getfield 103, 3) := by decide +kernel
theorem d_LP_isLike_30 : decode prog_1_method_39_code 30 = .ok (.getfield 276, 3) := by decide +kernel
theorem d_LP_isLike_33 : decode prog_1_method_39_code 33 = .ok (.if_icmp .ge 81, 3) := by decide +kernel
theorem d_LP_isLike_36 : decode prog_1_method_39_code 36 = .ok (.iload_n 1, 1) := by decide +kernel
theorem d_LP_isLike_37 : decode prog_1_method_39_code 37 = .ok (.ifCond .eq 77, 3) := by decide +kernel
theorem d_LP_isLike_40 : decode prog_1_method_39_code 40 = .ok (.aload_n 0, 1) := by decide +kernel
theorem d_LP_isLike_41 : decode prog_1_method_39_code 41 = .ok (.getfield 103, 3) := by decide +kernel
theorem d_LP_isLike_44 : decode prog_1_method_39_code 44 = .ok (.iload_n 2, 1) := by decide +kernel
theorem d_LP_isLike_45 : decode prog_1_method_39_code 45 = .ok (.invokevirtual 277, 3) := by decide +kernel
theorem d_LP_isLike_48 : decode prog_1_method_39_code 48 = .ok (.checkcast 280, 3) := by decide +kernel
theorem d_LP_isLike_51 : decode prog_1_method_39_code 51 = .ok (.getfield 282, 3) := by decide +kernel
theorem d_LP_isLike_54 : decode prog_1_method_39_code 54 = .ok (.aload_n 0, 1) := by decide +kernel
theorem d_LP_isLike_55 : decode prog_1_method_39_code 55 = .ok (.getfield 107, 3) := by decide +kernel
theorem d_LP_isLike_58 : decode prog_1_method_39_code 58 = .ok (.iload_n 2, 1) := by decide +kernel
theorem d_LP_isLike_59 : decode prog_1_method_39_code 59 = .ok (.invokevirtual 277, 3) := by decide +kernel
theorem d_LP_isLike_62 : decode prog_1_method_39_code 62 = .ok (.checkcast 280, 3) := by decide +kernel
theorem d_LP_isLike_65 : decode prog_1_method_39_code 65 = .ok (.getfield 282, 3) := by decide +kernel
theorem d_LP_isLike_68 : decode prog_1_method_39_code 68 = .ok (.if_icmp .ne 38, 3) := by decide +kernel
theorem d_LP_isLike_71 : decode prog_1_method_39_code 71 = .ok (.aload_n 0, 1) := by decide +kernel
theorem d_LP_isLike_72 : decode prog_1_method_39_code 72 = .ok (.getfield 103, 3) := by decide +kernel
theorem d_LP_isLike_75 : decode prog_1_method_39_code 75 = .ok (.iload_n 2, 1) := by decide +kernel
theorem d_LP_isLike_76 : decode prog_1_method_39_code 76 = .ok (.invokevirtual 277, 3) := by decide +kernel
theorem d_LP_isLike_79 : decode prog_1_method_39_code 79 = .ok (.checkcast 280, 3) := by decide +kernel
theorem d_LP_isLike_82 : decode prog_1_method_39_code 82 = .ok (.getfield 283, 3) := by decide +kernel
theorem d_LP_isLike_85 : decode prog_1_method_39_code 85 = .ok (.aload_n 0, 1) := by decide +kernel
theorem d_LP_isLike_86 : decode prog_1_method_39_code 86 = .ok (.getfield 107, 3) := by decide +kernel
theorem d_LP_isLike_89 : decode prog_1_method_39_code 89 = .ok (.iload_n 2, 1) := by decide +kernel
theorem d_LP_isLike_90 : decode prog_1_method_39_code 90 = .ok (.invokevirtual 277, 3) := by decide +kernel
theorem d_LP_isLike_93 : decode prog_1_method_39_code 93 = .ok (.checkcast 280, 3) := by decide +kernel
theorem d_LP_isLike_96 : decode prog_1_method_39_code 96 = .ok (.getfield 283, 3) := by decide +kernel
theorem d_LP_isLike_99 : decode prog_1_method_39_code 99 = .ok (.if_icmp .ne 7, 3) := by decide +kernel
theorem d_LP_isLike_102 : decode prog_1_method_39_code 102 = .ok (.iconst 1, 1) := by decide +kernel
theorem d_LP_isLike_103 : decode prog_1_method_39_code 103 = .ok (.goto 4, 3) := by decide +kernel
theorem d_LP_isLike_106 : decode prog_1_method_39_code 106 = .ok (.iconst 0, 1) := by decide +kernel
theorem d_LP_isLike_107 : decode prog_1_method_39_code 107 = .ok (.istore_n 1, 1) := by decide +kernel
theorem d_LP_isLike_108 : decode prog_1_method_39_code 108 = .ok (.iinc 2 1, 3) := by decide +kernel
theorem d_LP_isLike_111 : decode prog_1_method_39_code 111 = .ok (.goto (-86), 3) := by decide +kernel
theorem d_LP_isLike_114 : decode prog_1_method_39_code 114 = .ok (.iload_n 1, 1) := by decide +kernel
theorem d_LP_isLike_115 : decode prog_1_method_39_code 115 = .ok (.ireturn, 1) := by decide +kernel
theorem d_LP_clash_0 : decode prog_1_method_40_code 0 = .ok (.iload_n 1, 1) := by decide +kernel
theorem d_LP_clash_1 : decode prog_1_method_40_code 1 = .ok (.ifCond .lt 15, 3) := by decide +kernel
theorem d_LP_clash_4 : decode prog_1_method_40_code 4 = .ok (.iload_n 1, 1) := by decide +kernel
theorem d_LP_clash_5 : decode prog_1_method_40_code 5 = .ok (.aload_n 0, 1) := by decide +kernel
theorem d_LP_clash_6 : decode prog_1_method_40_code 6 = .ok (.getfield 10, 3) := by decide +kernel
theorem d_LP_clash_9 : decode prog_1_method_40_code 9 = .ok (.if_icmp .ge 7, 3) := by decide +kernel
theorem d_LP_clash_12 : decode prog_1_method_40_code 12 = .ok (.iconst 1, 1) := by decide +kernel
theorem d_LP_clash_13 : decode prog_1_method_40_code 13 = .ok (.goto 4, 3) := by decide +kernel
theorem d_LP_clash_16 : decode prog_1_method_40_code 16 = .ok (.iconst 0, 1) := by decide +kernel
theorem d_LP_clash_17 : decode prog_1_method_40_code 17 = .ok (.invokestatic 155, 3) := by decide +kernel
theorem d_LP_clash_20 : decode prog_1_method_40_code 20 = .ok (.aload_n 0, 1) := by decide +kernel
theorem d_LP_clash_21 : decode prog_1_method_40_code 21 = .ok (.getfield 16, 3) := by decide +kernel
theorem d_LP_clash_24 : decode prog_1_method_40_code 24 = .ok (.iload_n 1, 1) := by decide +kernel
theorem d_LP_clash_25 : decode prog_1_method_40_code 25 = .ok (.aaload, 1) := by decide +kernel
theorem d_LP_clash_26 : decode prog_1_method_40_code 26 = .ok (.astore_n 2, 1) := by decide +kernel
theorem d_LP_clash_27 : decode prog_1_method_40_code 27 = .ok (.aload_n 0, 1) := by decide +kernel
theorem d_LP_clash_28 : decode prog_1_method_40_code 28 = .ok (.aload_n 2, 1) := by decide +kernel
theorem d_LP_clash_29 : decode prog_1_method_40_code 29 = .ok (.getfield 48, 3) := by decide +kernel
theorem d_LP_clash_32 : decode prog_1_method_40_code 32 = .ok (.aload_n 2, 1) := by decide +kernel
theorem d_LP_clash_33 : decode prog_1_method_40_code 33 = .ok (.getfield 198, 3) := by decide +kernel
theorem d_LP_clash_36 : decode prog_1_method_40_code 36 = .ok (.iload_n 1, 1) := by decide +kernel
theorem d_LP_clash_37 : decode prog_1_method_40_code 37 = .ok (.invokevirtual 269, 3) := by decide +kernel
theorem d_LP_clash_40 : decode prog_1_method_40_code 40 = .ok (.istore_n 3, 1) := by decide +kernel
theorem d_LP_clash_41 : decode prog_1_method_40_code 41 = .ok (.iload_n 3, 1) := by decide +kernel
theorem d_LP_clash_42 : decode prog_1_method_40_code 42 = .ok (.iconst (-1), 1) := by decide +kernel
theorem d_LP_clash_43 : decode prog_1_method_40_code 43 = .ok (.if_icmp .ne 5, 3) := by decide +kernel
theorem d_LP_clash_46 : decode prog_1_method_40_code 46 = .ok (.iconst (-1), 1) := by decide +kernel
theorem d_LP_clash_47 : decode prog_1_method_40_code 47 = .ok (.ireturn, 1) := by decide +kernel
theorem d_LP_clash_48 : decode prog_1_method_40_code 48 = .ok (.aload_n 0, 1) := by decide +kernel
theorem d_LP_clash_49 : decode prog_1_method_40_code 49 = .ok (.getfield 96, 3) := by decide +kernel
theorem d_LP_clash_52 : decode prog_1_method_40_code 52 = .ok (.invokevirtual 286, 3) := by decide +kernel
theorem d_LP_clash_55 : decode prog_1_method_40_code 55 = .ok (.aload_n 0, 1) := by decide +kernel
theorem d_LP_clash_56 : decode prog_1_method_40_code 56 = .ok (.getfield 103, 3) := by decide +kernel
theorem d_LP_clash_59 : decode prog_1_method_40_code 59 = .ok (.aload_n 0, 1) := by decide +kernel
theorem d_LP_clash_60 : decode prog_1_method_40_code 60 = .ok (.getfield 65, 3) := by decide +kernel
theorem d_LP_clash_63 : decode prog_1_method_40_code 63 = .ok (.aload_n 2, 1) := by decide +kernel
theorem d_LP_clash_64 : decode prog_1_method_40_code 64 = .ok (.getfield 48, 3) := by decide +kernel
theorem d_LP_clash_67 : decode prog_1_method_40_code 67 = .ok (.aaload, 1) := by decide +kernel
theorem d_LP_clash_68 : decode prog_1_method_40_code 68 = .ok (.invokevirtual 288, 3) := by decide +kernel
theorem d_LP_clash_71 : decode prog_1_method_40_code 71 = .ok (.aload_n 0, 1) := by decide +kernel
theorem d_LP_clash_72 : decode prog_1_method_40_code 72 = .ok (.getfield 107, 3) := by decide +kernel
theorem d_LP_clash_75 : decode prog_1_method_40_code 75 = .ok (.aload_n 0, 1) := by decide +kernel
theorem d_LP_clash_76 : decode prog_1_method_40_code 76 = .ok (.getfield 65, 3) := by decide +kernel
theorem d_LP_clash_79 : decode prog_1_method_40_code 79 = .ok (.aload_n 2, 1) := by decide +kernel
theorem d_LP_clash_80 : decode prog_1_method_40_code 80 = .ok (.getfield 48, 3) := by decide +kernel
theorem d_LP_clash_83 : decode prog_1_method_40_code 83 = .ok (.aaload, 1) := by decide +kernel
theorem d_LP_clash_84 : decode prog_1_method_40_code 84 = .ok (.invokevirtual 288, 3) := by decide +kernel
theorem d_LP_clash_87 : decode prog_1_method_40_code 87 = .ok (.aload_n 0, 1) := by decide +kernel
theorem d_LP_clash_88 : decode prog_1_method_40_code 88 = .ok (.getfield 90, 3) := by decide +kernel
theorem d_LP_clash_91 : decode prog_1_method_40_code 91 = .ok (.aload_n 0, 1) := by decide +kernel
theorem d_LP_clash_92 : decode prog_1_method_40_code 92 = .ok (.getfield 96, 3) := by decide +kernel
theorem d_LP_clash_95 : decode prog_1_method_40_code 95 = .ok (.aload_n 0, 1) := by decide +kernel
theorem d_LP_clash_96 : decode prog_1_method_40_code 96 = .ok (.getfield 103, 3) := by decide +kernel
theorem d_LP_clash_99 : decode prog_1_method_40_code 99 = .ok (.aload_n 2, 1) := by decide +kernel
theorem d_LP_clash_100 : decode prog_1_method_40_code 100 = .ok (.iload_n 1, 1) := by decide +kernel
theorem d_LP_clash_101 : decode prog_1_method_40_code 101 = .ok (.iconst 0, 1) := by decide +kernel
theorem d_LP_clash_102 : decode prog_1_method_40_code 102 = .ok (.invokevirtual 51, 3) := by decide +kernel
theorem d_LP_clash_105 : decode prog_1_method_40_code 105 = .ok (.aload_n 0, 1) := by decide +kernel
theorem d_LP_clash_106 : decode prog_1_method_40_code 106 = .ok (.aload_n 0, 1) := by decide +kernel
theorem d_LP_clash_107 : decode prog_1_method_40_code 107 = .ok (.getfield 90, 3) := by decide +kernel
theorem d_LP_clash_110 : decode prog_1_method_40_code 110 = .ok (.aload_n 0, 1) := by decide +kernel
theorem d_LP_clash_111 : decode prog_1_method_40_code 111 = .ok (.getfield 96, 3) := by decide +kernel
theorem d_LP_clash_114 : decode prog_1_method_40_code 114 = .ok (.aload_n 0, 1) := by decide +kernel
theorem d_LP_clash_115 : decode prog_1_method_40_code 115 = .ok (.getfield 107, 3) := by decide +kernel
theorem d_LP_clash_118 : decode prog_1_method_40_code 118 = .ok (.iload_n 3, 1) := by decide +kernel
theorem d_LP_clash_119 : decode prog_1_method_40_code 119 = .ok (.iload_n 1, 1) := by decide +kernel
theorem d_LP_clash_120 : decode prog_1_method_40_code 120 = .ok (.invokevirtual 272, 3) := by decide +kernel
theorem d_LP_clash_123 : decode prog_1_method_40_code 123 = .ok (.aload_n 0, 1) := by decide +kernel
theorem d_LP_clash_124 : decode prog_1_method_40_code 124 = .ok (.invokevirtual 290, 3) := by decide +kernel
theorem d_LP_clash_127 : decode prog_1_method_40_code 127 = .ok (.ifCond .eq 7, 3) := by decide +kernel
theorem d_LP_clash_130 : decode prog_1_method_40_code 130 = .ok (.iconst 0, 1) := by decide +kernel
theorem d_LP_clash_131 : decode prog_1_method_40_code 131 = .ok (.goto 4, 3) := by decide +kernel
theorem d_LP_clash_134 : decode prog_1_method_40_code 134 = .ok (.iconst 1, 1) := by decide +kernel
theorem d_LP_clash_135 : decode prog_1_method_40_code 135 = .ok (.ireturn, 1) := by decide +kernel
theorem d_Alg_key_0 : decode prog_2_method_1_code 0 = .ok (.bipush 8, 2) := by decide +kernel
theorem d_Alg_key_2 : decode prog_2_method_1_code 2 = .ok (.iload_n 0, 1) := by decide +kernel
theorem d_Alg_key_3 : decode prog_2_method_1_code 3 = .ok (.imul, 1) := by decide +kernel
theorem d_Alg_key_4 : decode prog_2_method_1_code 4 = .ok (.iload_n 1, 1) := by decide +kernel
theorem d_Alg_key_5 : decode prog_2_method_1_code 5 = .ok (.iadd, 1) := by decide +kernel
theorem d_Alg_key_6 : decode prog_2_method_1_code 6 = .ok (.ireturn, 1) := by decide +kernel
theorem d_Alg_turned_0 : decode prog_2_method_9_code 0 = .ok (.aload_n 0, 1) := by decide +kernel
theorem d_Alg_turned_1 : decode prog_2_method_9_code 1 = .ok (.aload_n 1, 1) := by decide +kernel
theorem d_Alg_turned_2 : decode prog_2_method_9_code 2 = .ok (.aload_n 2, 1) := by decide +kernel
theorem d_Alg_turned_3 : decode prog_2_method_9_code 3 = .ok (.iload 4, 2) := by decide +kernel
theorem d_Alg_turned_5 : decode prog_2_method_9_code 5 = .ok (.invokeinterface 3 4, 5) := by decide +kernel
theorem d_Alg_turned_10 : decode prog_2_method_9_code 10 = .ok (.return_, 1) := by decide +kernel
theorem d_Alg_wrapped_0 : decode prog_2_method_10_code 0 = .ok (.iload 4, 2) := by decide +kernel
theorem d_Alg_wrapped_2 : decode prog_2_method_10_code 2 = .ok (.ifCond .eq 15, 3) := by decide +kernel
theorem d_Alg_wrapped_5 : decode prog_2_method_10_code 5 = .ok (.aload_n 0, 1) := by decide +kernel
theorem d_Alg_wrapped_6 : decode prog_2_method_10_code 6 = .ok (.aload_n 1, 1) := by decide +kernel
theorem d_Alg_wrapped_7 : decode prog_2_method_10_code 7 = .ok (.aload_n 2, 1) := by decide +kernel
theorem d_Alg_wrapped_8 : decode prog_2_method_10_code 8 = .ok (.iload_n 3, 1) := by decide +kernel
theorem d_Alg_wrapped_9 : decode prog_2_method_10_code 9 = .ok (.invokeinterface 9 4, 5) := by decide +kernel
theorem d_Alg_wrapped_14 : decode prog_2_method_10_code 14 = .ok (.goto 12, 3) := by decide +kernel
theorem d_Alg_wrapped_17 : decode prog_2_method_10_code 17 = .ok (.aload_n 0, 1) := by decide +kernel
theorem d_Alg_wrapped_18 : decode prog_2_method_10_code 18 = .ok (.aload_n 1, 1) := by decide +kernel
theorem d_Alg_wrapped_19 : decode prog_2_method_10_code 19 = .ok (.aload_n 2, 1) := by decide +kernel
theorem d_Alg_wrapped_20 : decode prog_2_method_10_code 20 = .ok (.iload_n 3, 1) := by decide +kernel
theorem d_Alg_wrapped_21 : decode prog_2_method_10_code 21 = .ok (.invokeinterface 13 4, 5) := by decide +kernel
theorem d_Alg_wrapped_26 : decode prog_2_method_10_code 26 = .ok (.return_, 1) := by decide +kernel
theorem d_Card_init_0 : decode prog_3_method_1_code 0 = .ok (.aload_n 0, 1) := by decide +kernel
theorem d_Card_init_1 : decode prog_3_method_1_code 1 = .ok (.invokespecial 3, 3) := by decide +kernel
theorem d_Card_init_4 : decode prog_3_method_1_code 4 = .ok (.aload_n 0, 1) := by decide +kernel
theorem d_Card_init_5 : decode prog_3_method_1_code 5 = .ok (.iconst (-1), 1) := by decide +kernel
theorem d_Card_init_6 : decode prog_3_method_1_code 6 = .ok (.putfield 9, 3) := by decide +kernel
theorem d_Card_init_9 : decode prog_3_method_1_code 9 = .ok (.aload_n 0, 1) := by decide +kernel
theorem d_Card_init_10 : decode prog_3_method_1_code 10 = .ok (.new 15, 3) := by decide +kernel
theorem d_Card_init_13 : decode prog_3_method_1_code 13 = .ok (.dup, 1) := by decide +kernel
theorem d_Card_init_14 : decode prog_3_method_1_code 14 = .ok (.invokespecial 17, 3) := by decide +kernel
theorem d_Card_init_17 : decode prog_3_method_1_code 17 = .ok (.putfield 18, 3) := by decide +kernel
theorem d_Card_init_20 : decode prog_3_method_1_code 20 = .ok (.aload_n 0, 1) := by decide +kernel
theorem d_Card_init_21 : decode prog_3_method_1_code 21 = .ok (.sipush 128, 3) := by decide +kernel
theorem d_Card_init_24 : decode prog_3_method_1_code 24 = .ok (.anewarray 22, 3) := by decide +kernel
theorem d_Card_init_27 : decode prog_3_method_1_code 27 = .ok (.putfield 24, 3) := by decide +kernel
theorem d_Card_init_30 : decode prog_3_method_1_code 30 = .ok (.aload_n 0, 1) := by decide +kernel
theorem d_Card_init_31 : decode prog_3_method_1_code 31 = .ok (.new 28, 3) := by decide +kernel
theorem d_Card_init_34 : decode prog_3_method_1_code 34 = .ok (.dup, 1) := by decide +kernel
theorem d_Card_init_35 : decode prog_3_method_1_code 35 = .ok (.invokespecial 30, 3) := by decide +kernel
theorem d_Card_init_38 : decode prog_3_method_1_code 38 = .ok (.putfield 31, 3) := by decide +kernel
theorem d_Card_init_41 : decode prog_3_method_1_code 41 = .ok (.aload_n 0, 1) := by decide +kernel
theorem d_Card_init_42 : decode prog_3_method_1_code 42 = .ok (.new 28, 3) := by decide +kernel
theorem d_Card_init_45 : decode prog_3_method_1_code 45 = .ok (.dup, 1) := by decide +kernel
theorem d_Card_init_46 : decode prog_3_method_1_code 46 = .ok (.invokespecial 30, 3) := by decide +kernel
theorem d_Card_init_49 : decode prog_3_method_1_code 49 = .ok (.putfield 35, 3) := by decide +kernel
theorem d_Card_init_52 : decode prog_3_method_1_code 52 = .ok (.return_, 1) := by decide +kernel
theorem d_Card_begin_0 : decode prog_3_method_2_code 0 = .ok (.aload_n 0, 1) := by decide +kernel
theorem d_Card_begin_1 : decode prog_3_method_2_code 1 = .ok (.iload_n 1, 1) := by decide +kernel
theorem d_Card_begin_2 : decode prog_3_method_2_code 2 = .ok (.putfield 9, 3) := by decide +kernel
theorem d_Card_begin_5 : decode prog_3_method_2_code 5 = .ok (.aload_n 0, 1) := by decide +kernel
theorem d_Card_begin_6 : decode prog_3_method_2_code 6 = .ok (.iconst 0, 1) := by decide +kernel
theorem d_Card_begin_7 : decode prog_3_method_2_code 7 = .ok (.putfield 38, 3) := by decide +kernel
theorem d_Card_begin_10 : decode prog_3_method_2_code 10 = .ok (.aload_n 0, 1) := by decide +kernel
theorem d_Card_begin_11 : decode prog_3_method_2_code 11 = .ok (.getfield 18, 3) := by decide +kernel
theorem d_Card_begin_14 : decode prog_3_method_2_code 14 = .ok (.invokevirtual 41, 3) := by decide +kernel
theorem d_Card_begin_17 : decode prog_3_method_2_code 17 = .ok (.iconst 0, 1) := by decide +kernel
theorem d_Card_begin_18 : decode prog_3_method_2_code 18 = .ok (.istore_n 3, 1) := by decide +kernel
theorem d_Card_begin_19 : decode prog_3_method_2_code 19 = .ok (.iload_n 3, 1) := by decide +kernel
theorem d_Card_begin_20 : decode prog_3_method_2_code 20 = .ok (.aload_n 2, 1) := by decide +kernel
theorem d_Card_begin_21 : decode prog_3_method_2_code 21 = .ok (.getfield 44, 3) := by decide +kernel
theorem d_Card_begin_24 : decode prog_3_method_2_code 24 = .ok (.if_icmp .ge 74, 3) := by decide +kernel
theorem d_Card_begin_27 : decode prog_3_method_2_code 27 = .ok (.aload_n 2, 1) := by decide +kernel
theorem d_Card_begin_28 : decode prog_3_method_2_code 28 = .ok (.iload_n 3, 1) := by decide +kernel
theorem d_Card_begin_29 : decode prog_3_method_2_code 29 = .ok (.invokevirtual 47, 3) := by decide +kernel
theorem d_Card_begin_32 : decode prog_3_method_2_code 32 = .ok (.checkcast 51, 3) := by decide +kernel
theorem d_Card_begin_35 : decode prog_3_method_2_code 35 = .ok (.astore 4, 2) := by decide +kernel
theorem d_Card_begin_37 : decode prog_3_method_2_code 37 = .ok (.aload 4, 2) := by decide +kernel
theorem d_Card_begin_39 : decode prog_3_method_2_code 39 = .ok (.getfield 53, 3) := by decide +kernel
theorem d_Card_begin_42 : decode prog_3_method_2_code 42 = .ok (.iconst 2, 1) := by decide +kernel
theorem d_Card_begin_43 : decode prog_3_method_2_code 43 = .ok (.if_icmp .eq 49, 3) := by decide +kernel
theorem d_Card_begin_46 : decode prog_3_method_2_code 46 = .ok (.aload_n 0, 1) := by decide +kernel
theorem d_Card_begin_47 : decode prog_3_method_2_code 47 = .ok (.getfield 18, 3) := by decide +kernel
theorem d_Card_begin_50 : decode prog_3_method_2_code 50 = .ok (.aload 4, 2) := by decide +kernel
theorem d_Card_begin_52 : decode prog_3_method_2_code 52 = .ok (.getfield 56, 3) := by decide +kernel
theorem d_Card_begin_55 : decode prog_3_method_2_code 55 = .ok (.invokevirtual 59, 3) := by decide +kernel
theorem d_Card_begin_58 : decode prog_3_method_2_code 58 = .ok (.checkcast 28, 3) := by decide +kernel
theorem d_Card_begin_61 : decode prog_3_method_2_code 61 = .ok (.aload 4, 2) := by decide +kernel
theorem d_Card_begin_63 : decode prog_3_method_2_code 63 = .ok (.getfield 53, 3) := by decide +kernel
theorem d_Card_begin_66 : decode prog_3_method_2_code 66 = .ok (.iconst 1, 1) := by decide +kernel
theorem d_Card_begin_67 : decode prog_3_method_2_code 67 = .ok (.if_icmp .ne 7, 3) := by decide +kernel
theorem d_Card_begin_70 : decode prog_3_method_2_code 70 = .ok (.iconst 1, 1) := by decide +kernel
theorem d_Card_begin_71 : decode prog_3_method_2_code 71 = .ok (.goto 4, 3) := by decide +kernel
theorem d_Card_begin_74 : decode prog_3_method_2_code 74 = .ok (.iconst 0, 1) := by decide +kernel
theorem d_Card_begin_75 : decode prog_3_method_2_code 75 = .ok (.iconst 0, 1) := by decide +kernel
theorem d_Card_begin_76 : decode prog_3_method_2_code 76 = .ok (.aload 4, 2) := by decide +kernel
theorem d_Card_begin_78 : decode prog_3_method_2_code 78 = .ok (.getfield 62, 3) := by decide +kernel
theorem d_Card_begin_81 : decode prog_3_method_2_code 81 = .ok (.aload 4, 2) := by decide +kernel
theorem d_Card_begin_83 : decode prog_3_method_2_code 83 = .ok (.getfield 65, 3) := by decide +kernel
theorem d_Card_begin_86 : decode prog_3_method_2_code 86 = .ok (.invokestatic 68, 3) := by decide +kernel
theorem d_Card_begin_89 : decode prog_3_method_2_code 89 = .ok (.invokevirtual 72, 3) := by decide +kernel
theorem d_Card_begin_92 : decode prog_3_method_2_code 92 = .ok (.iinc 3 1, 3) := by decide +kernel
theorem d_Card_begin_95 : decode prog_3_method_2_code 95 = .ok (.goto (-76), 3) := by decide +kernel
theorem d_Card_begin_98 : decode prog_3_method_2_code 98 = .ok (.return_, 1) := by decide +kernel
theorem d_Card_copy_0 : decode prog_3_method_3_code 0 = .ok (.aload_n 0, 1) := by decide +kernel
theorem d_Card_copy_1 : decode prog_3_method_3_code 1 = .ok (.aload_n 1, 1) := by decide +kernel
theorem d_Card_copy_2 : decode prog_3_method_3_code 2 = .ok (.getfield 9, 3) := by decide +kernel
theorem d_Card_copy_5 : decode prog_3_method_3_code 5 = .ok (.putfield 9, 3) := by decide +kernel
theorem d_Card_copy_8 : decode prog_3_method_3_code 8 = .ok (.aload_n 0, 1) := by decide +kernel
theorem d_Card_copy_9 : decode prog_3_method_3_code 9 = .ok (.getfield 18, 3) := by decide +kernel
theorem d_Card_copy_12 : decode prog_3_method_3_code 12 = .ok (.aload_n 1, 1) := by decide +kernel
theorem d_Card_copy_13 : decode prog_3_method_3_code 13 = .ok (.getfield 18, 3) := by decide +kernel
theorem d_Card_copy_16 : decode prog_3_method_3_code 16 = .ok (.invokevirtual 76, 3) := by decide +kernel
theorem d_Card_copy_19 : decode prog_3_method_3_code 19 = .ok (.aload_n 0, 1) := by decide +kernel
theorem d_Card_copy_20 : decode prog_3_method_3_code 20 = .ok (.iconst 0, 1) := by decide +kernel
theorem d_Card_copy_21 : decode prog_3_method_3_code 21 = .ok (.putfield 38, 3) := by decide +kernel
theorem d_Card_copy_24 : decode prog_3_method_3_code 24 = .ok (.iconst 0, 1) := by decide +kernel
theorem d_Card_copy_25 : decode prog_3_method_3_code 25 = .ok (.istore_n 2, 1) := by decide +kernel
theorem d_Card_copy_26 : decode prog_3_method_3_code 26 = .ok (.iload_n 2, 1) := by decide +kernel
theorem d_Card_copy_27 : decode prog_3_method_3_code 27 = .ok (.aload_n 1, 1) := by decide +kernel
theorem d_Card_copy_28 : decode prog_3_method_3_code 28 = .ok (.getfield 38, 3) := by decide +kernel
theorem d_Card_copy_31 : decode prog_3_method_3_code 31 = .ok (.if_icmp .ge 49, 3) := by decide +kernel
theorem d_Card_copy_34 : decode prog_3_method_3_code 34 = .ok (.aload_n 0, 1) := by decide +kernel
theorem d_Card_copy_35 : decode prog_3_method_3_code 35 = .ok (.aload_n 1, 1) := by decide +kernel
theorem d_Card_copy_36 : decode prog_3_method_3_code 36 = .ok (.getfield 24, 3) := by decide +kernel
theorem d_Card_copy_39 : decode prog_3_method_3_code 39 = .ok (.iload_n 2, 1) := by decide +kernel
theorem d_Card_copy_40 : decode prog_3_method_3_code 40 = .ok (.aaload, 1) := by decide +kernel
theorem d_Card_copy_41 : decode prog_3_method_3_code 41 = .ok (.getfield 80, 3) := by decide +kernel
theorem d_Card_copy_44 : decode prog_3_method_3_code 44 = .ok (.aload_n 1, 1) := by decide +kernel
theorem d_Card_copy_45 : decode prog_3_method_3_code 45 = .ok (.getfield 24, 3) := by decide +kernel
theorem d_Card_copy_48 : decode prog_3_method_3_code 48 = .ok (.iload_n 2, 1) := by decide +kernel
theorem d_Card_copy_49 : decode prog_3_method_3_code 49 = .ok (.aaload, 1) := by decide +kernel
theorem d_Card_copy_50 : decode prog_3_method_3_code 50 = .ok (.getfield 83, 3) := by decide +kernel
theorem d_Card_copy_53 : decode prog_3_method_3_code 53 = .ok (.aload_n 1, 1) := by decide +kernel
theorem d_Card_copy_54 : decode prog_3_method_3_code 54 = .ok (.getfield 24, 3) := by decide +kernel
theorem d_Card_copy_57 : decode prog_3_method_3_code 57 = .ok (.iload_n 2, 1) := by decide +kernel
theorem d_Card_copy_58 : decode prog_3_method_3_code 58 = .ok (.aaload, 1) := by decide +kernel
theorem d_Card_copy_59 : decode prog_3_method_3_code 59 = .ok (.getfield 87, 3) := by decide +kernel
theorem d_Card_copy_62 : decode prog_3_method_3_code 62 = .ok (.aload_n 1, 1) := by decide +kernel
theorem d_Card_copy_63 : decode prog_3_method_3_code 63 = .ok (.getfield 24, 3) := by decide +kernel
theorem d_Card_copy_66 : decode prog_3_method_3_code 66 = .ok (.iload_n 2, 1) := by decide +kernel
theorem d_Card_copy_67 : decode prog_3_method_3_code 67 = .ok (.aaload, 1) := by decide +kernel
theorem d_Card_copy_68 : decode prog_3_method_3_code 68 = .ok (.getfield 90, 3) := by decide +kernel
theorem d_Card_copy_71 : decode prog_3_method_3_code 71 = .ok (.invokevirtual 93, 3) := by decide +kernel
theorem d_Card_copy_74 : decode prog_3_method_3_code 74 = .ok (.iinc 2 1, 3) := by decide +kernel
theorem d_Card_copy_77 : decode prog_3_method_3_code 77 = .ok (.goto (-51), 3) := by decide +kernel
theorem d_Card_copy_80 : decode prog_3_method_3_code 80 = .ok (.return_, 1) := by decide +kernel
theorem d_Card_keep_0 : decode prog_3_method_4_code 0 = .ok (.aload_n 0, 1) := by decide +kernel
theorem d_Card_keep_1 : decode prog_3_method_4_code 1 = .ok (.getfield 24, 3) := by decide +kernel
theorem d_Card_keep_4 : decode prog_3_method_4_code 4 = .ok (.aload_n 0, 1) := by decide +kernel
theorem d_Card_keep_5 : decode prog_3_method_4_code 5 = .ok (.getfield 38, 3) := by decide +kernel
theorem d_Card_keep_8 : decode prog_3_method_4_code 8 = .ok (.aaload, 1) := by decide +kernel
theorem d_Card_keep_9 : decode prog_3_method_4_code 9 = .ok (.ifnonnull 19, 3) := by decide +kernel
theorem d_Card_keep_12 : decode prog_3_method_4_code 12 = .ok (.aload_n 0, 1) := by decide +kernel
theorem d_Card_keep_13 : decode prog_3_method_4_code 13 = .ok (.getfield 24, 3) := by decide +kernel
theorem d_Card_keep_16 : decode prog_3_method_4_code 16 = .ok (.aload_n 0, 1) := by decide +kernel
theorem d_Card_keep_17 : decode prog_3_method_4_code 17 = .ok (.getfield 38, 3) := by decide +kernel
theorem d_Card_keep_20 : decode prog_3_method_4_code 20 = .ok (.new 22, 3) := by decide +kernel
theorem d_Card_keep_23 : decode prog_3_method_4_code 23 = .ok (.dup, 1) := by decide +kernel
theorem d_Card_keep_24 : decode prog_3_method_4_code 24 = .ok (.invokespecial 97, 3) := by decide +kernel
theorem d_Card_keep_27 : decode prog_3_method_4_code 27 = .ok (.aastore, 1) := by decide +kernel
theorem d_Card_keep_28 : decode prog_3_method_4_code 28 = .ok (.aload_n 0, 1) := by decide +kernel
theorem d_Card_keep_29 : decode prog_3_method_4_code 29 = .ok (.getfield 24, 3) := by decide +kernel
theorem d_Card_keep_32 : decode prog_3_method_4_code 32 = .ok (.aload_n 0, 1) := by decide +kernel
theorem d_Card_keep_33 : decode prog_3_method_4_code 33 = .ok (.dup, 1) := by decide +kernel
theorem d_Card_keep_34 : decode prog_3_method_4_code 34 = .ok (.getfield 38, 3) := by decide +kernel
theorem d_Card_keep_37 : decode prog_3_method_4_code 37 = .ok (.dup_x1, 1) := by decide +kernel
theorem d_Card_keep_38 : decode prog_3_method_4_code 38 = .ok (.iconst 1, 1) := by decide +kernel
theorem d_Card_keep_39 : decode prog_3_method_4_code 39 = .ok (.iadd, 1) := by decide +kernel
theorem d_Card_keep_40 : decode prog_3_method_4_code 40 = .ok (.putfield 38, 3) := by decide +kernel
theorem d_Card_keep_43 : decode prog_3_method_4_code 43 = .ok (.aaload, 1) := by decide +kernel
theorem d_Card_keep_44 : decode prog_3_method_4_code 44 = .ok (.astore 5, 2) := by decide +kernel
theorem d_Card_keep_46 : decode prog_3_method_4_code 46 = .ok (.aload 5, 2) := by decide +kernel
theorem d_Card_keep_48 : decode prog_3_method_4_code 48 = .ok (.iload_n 1, 1) := by decide +kernel
theorem d_Card_keep_49 : decode prog_3_method_4_code 49 = .ok (.putfield 80, 3) := by decide +kernel
theorem d_Card_keep_52 : decode prog_3_method_4_code 52 = .ok (.aload 5, 2) := by decide +kernel
theorem d_Card_keep_54 : decode prog_3_method_4_code 54 = .ok (.iload_n 2, 1) := by decide +kernel
theorem d_Card_keep_55 : decode prog_3_method_4_code 55 = .ok (.putfield 83, 3) := by decide +kernel
theorem d_Card_keep_58 : decode prog_3_method_4_code 58 = .ok (.aload 5, 2) := by decide +kernel
theorem d_Card_keep_60 : decode prog_3_method_4_code 60 = .ok (.getfield 87, 3) := by decide +kernel
theorem d_Card_keep_63 : decode prog_3_method_4_code 63 = .ok (.aload_n 3, 1) := by decide +kernel
theorem d_Card_keep_64 : decode prog_3_method_4_code 64 = .ok (.invokevirtual 98, 3) := by decide +kernel
theorem d_Card_keep_67 : decode prog_3_method_4_code 67 = .ok (.aload 5, 2) := by decide +kernel
theorem d_Card_keep_69 : decode prog_3_method_4_code 69 = .ok (.getfield 90, 3) := by decide +kernel
theorem d_Card_keep_72 : decode prog_3_method_4_code 72 = .ok (.aload 4, 2) := by decide +kernel
theorem d_Card_keep_74 : decode prog_3_method_4_code 74 = .ok (.invokevirtual 98, 3) := by decide +kernel
theorem d_Card_keep_77 : decode prog_3_method_4_code 77 = .ok (.return_, 1) := by decide +kernel
theorem d_Card_take_0 : decode prog_3_method_5_code 0 = .ok (.iconst 0, 1) := by decide +kernel
theorem d_Card_take_1 : decode prog_3_method_5_code 1 = .ok (.istore_n 2, 1) := by decide +kernel
theorem d_Card_take_2 : decode prog_3_method_5_code 2 = .ok (.iload_n 2, 1) := by decide +kernel
theorem d_Card_take_3 : decode prog_3_method_5_code 3 = .ok (.aload_n 0, 1) := by decide +kernel
theorem d_Card_take_4 : decode prog_3_method_5_code 4 = .ok (.getfield 38, 3) := by decide +kernel
theorem d_Card_take_7 : decode prog_3_method_5_code 7 = .ok (.if_icmp .ge 22, 3) := by decide +kernel
theorem d_Card_take_10 : decode prog_3_method_5_code 10 = .ok (.aload_n 0, 1) := by decide +kernel
theorem d_Card_take_11 : decode prog_3_method_5_code 11 = .ok (.getfield 24, 3) := by decide +kernel
theorem d_Card_take_14 : decode prog_3_method_5_code 14 = .ok (.iload_n 2, 1) := by decide +kernel
theorem d_Card_take_15 : decode prog_3_method_5_code 15 = .ok (.aaload, 1) := by decide +kernel
theorem d_Card_take_16 : decode prog_3_method_5_code 16 = .ok (.getfield 80, 3) := by decide +kernel
theorem d_Card_take_19 : decode prog_3_method_5_code 19 = .ok (.iload_n 1, 1) := by decide +kernel
theorem d_Card_take_20 : decode prog_3_method_5_code 20 = .ok (.if_icmp .eq 9, 3) := by decide +kernel
theorem d_Card_take_23 : decode prog_3_method_5_code 23 = .ok (.iinc 2 1, 3) := by decide +kernel
theorem d_Card_take_26 : decode prog_3_method_5_code 26 = .ok (.goto (-24), 3) := by decide +kernel
theorem d_Card_take_29 : decode prog_3_method_5_code 29 = .ok (.iload_n 2, 1) := by decide +kernel
theorem d_Card_take_30 : decode prog_3_method_5_code 30 = .ok (.aload_n 0, 1) := by decide +kernel
theorem d_Card_take_31 : decode prog_3_method_5_code 31 = .ok (.getfield 38, 3) := by decide +kernel
theorem d_Card_take_34 : decode prog_3_method_5_code 34 = .ok (.if_icmp .ne 5, 3) := by decide +kernel
theorem d_Card_take_37 : decode prog_3_method_5_code 37 = .ok (.aconst_null, 1) := by decide +kernel
theorem d_Card_take_38 : decode prog_3_method_5_code 38 = .ok (.areturn, 1) := by decide +kernel
theorem d_Card_take_39 : decode prog_3_method_5_code 39 = .ok (.aload_n 0, 1) := by decide +kernel
theorem d_Card_take_40 : decode prog_3_method_5_code 40 = .ok (.getfield 24, 3) := by decide +kernel
theorem d_Card_take_43 : decode prog_3_method_5_code 43 = .ok (.iload_n 2, 1) := by decide +kernel
theorem d_Card_take_44 : decode prog_3_method_5_code 44 = .ok (.aaload, 1) := by decide +kernel
theorem d_Card_take_45 : decode prog_3_method_5_code 45 = .ok (.astore_n 3, 1) := by decide +kernel
theorem d_Card_take_46 : decode prog_3_method_5_code 46 = .ok (.aload_n 0, 1) := by decide +kernel
theorem d_Card_take_47 : decode prog_3_method_5_code 47 = .ok (.dup, 1) := by decide +kernel
theorem d_Card_take_48 : decode prog_3_method_5_code 48 = .ok (.getfield 38, 3) := by decide +kernel
theorem d_Card_take_51 : decode prog_3_method_5_code 51 = .ok (.iconst 1, 1) := by decide +kernel
theorem d_Card_take_52 : decode prog_3_method_5_code 52 = .ok (.isub, 1) := by decide +kernel
theorem d_Card_take_53 : decode prog_3_method_5_code 53 = .ok (.putfield 38, 3) := by decide +kernel
theorem d_Card_take_56 : decode prog_3_method_5_code 56 = .ok (.aload_n 0, 1) := by decide +kernel
theorem d_Card_take_57 : decode prog_3_method_5_code 57 = .ok (.getfield 24, 3) := by decide +kernel
theorem d_Card_take_60 : decode prog_3_method_5_code 60 = .ok (.iload_n 2, 1) := by decide +kernel
theorem d_Card_take_61 : decode prog_3_method_5_code 61 = .ok (.aload_n 0, 1) := by decide +kernel
theorem d_Card_take_62 : decode prog_3_method_5_code 62 = .ok (.getfield 24, 3) := by decide +kernel
theorem d_Card_take_65 : decode prog_3_method_5_code 65 = .ok (.aload_n 0, 1) := by decide +kernel
theorem d_Card_take_66 : decode prog_3_method_5_code 66 = .ok (.getfield 38, 3) := by decide +kernel
theorem d_Card_take_69 : decode prog_3_method_5_code 69 = .ok (.aaload, 1) := by decide +kernel
theorem d_Card_take_70 : decode prog_3_method_5_code 70 = .ok (.aastore, 1) := by decide +kernel
theorem d_Card_take_71 : decode prog_3_method_5_code 71 = .ok (.aload_n 0, 1) := by decide +kernel
theorem d_Card_take_72 : decode prog_3_method_5_code 72 = .ok (.getfield 24, 3) := by decide +kernel
theorem d_Card_take_75 : decode prog_3_method_5_code 75 = .ok (.aload_n 0, 1) := by decide +kernel
theorem d_Card_take_76 : decode prog_3_method_5_code 76 = .ok (.getfield 38, 3) := by decide +kernel
theorem d_Card_take_79 : decode prog_3_method_5_code 79 = .ok (.aload_n 3, 1) := by decide +kernel
theorem d_Card_take_80 : decode prog_3_method_5_code 80 = .ok (.aastore, 1) := by decide +kernel
theorem d_Card_take_81 : decode prog_3_method_5_code 81 = .ok (.aload_n 3, 1) := by decide +kernel
theorem d_Card_take_82 : decode prog_3_method_5_code 82 = .ok (.areturn, 1) := by decide +kernel
theorem d_Card_come1_0 : decode prog_3_method_6_code 0 = .ok (.aload_n 0, 1) := by decide +kernel
theorem d_Card_come1_1 : decode prog_3_method_6_code 1 = .ok (.iload_n 3, 1) := by decide +kernel
theorem d_Card_come1_2 : decode prog_3_method_6_code 2 = .ok (.invokevirtual 101, 3) := by decide +kernel
theorem d_Card_come1_5 : decode prog_3_method_6_code 5 = .ok (.astore 4, 2) := by decide +kernel
theorem d_Card_come1_7 : decode prog_3_method_6_code 7 = .ok (.aload 4, 2) := by decide +kernel
theorem d_Card_come1_9 : decode prog_3_method_6_code 9 = .ok (.ifnonnull 27, 3) := by decide +kernel
theorem d_Card_come1_12 : decode prog_3_method_6_code 12 = .ok (.aload_n 1, 1) := by decide +kernel
theorem d_Card_come1_13 : decode prog_3_method_6_code 13 = .ok (.aload_n 2, 1) := by decide +kernel
theorem d_Card_come1_14 : decode prog_3_method_6_code 14 = .ok (.getfield 105, 3) := by decide +kernel
theorem d_Card_come1_17 : decode prog_3_method_6_code 17 = .ok (.iconst 1, 1) := by decide +kernel
theorem d_Card_come1_18 : decode prog_3_method_6_code 18 = .ok (.if_icmp .ne 7, 3) := by decide +kernel
theorem d_Card_come1_21 : decode prog_3_method_6_code 21 = .ok (.iconst 1, 1) := by decide +kernel
theorem d_Card_come1_22 : decode prog_3_method_6_code 22 = .ok (.goto 4, 3) := by decide +kernel
theorem d_Card_come1_25 : decode prog_3_method_6_code 25 = .ok (.iconst 0, 1) := by decide +kernel
theorem d_Card_come1_26 : decode prog_3_method_6_code 26 = .ok (.aload_n 2, 1) := by decide +kernel
theorem d_Card_come1_27 : decode prog_3_method_6_code 27 = .ok (.invokevirtual 108, 3) := by decide +kernel
theorem d_Card_come1_30 : decode prog_3_method_6_code 30 = .ok (.invokevirtual 72, 3) := by decide +kernel
theorem d_Card_come1_33 : decode prog_3_method_6_code 33 = .ok (.goto 12, 3) := by decide +kernel
theorem d_Card_come1_36 : decode prog_3_method_6_code 36 = .ok (.aload_n 1, 1) := by decide +kernel
theorem d_Card_come1_37 : decode prog_3_method_6_code 37 = .ok (.aload 4, 2) := by decide +kernel
theorem d_Card_come1_39 : decode prog_3_method_6_code 39 = .ok (.getfield 87, 3) := by decide +kernel
theorem d_Card_come1_42 : decode prog_3_method_6_code 42 = .ok (.invokevirtual 98, 3) := by decide +kernel
theorem d_Card_come1_45 : decode prog_3_method_6_code 45 = .ok (.return_, 1) := by decide +kernel
theorem d_Card_come2_0 : decode prog_3_method_21_code 0 = .ok (.aload_n 0, 1) := by decide +kernel
theorem d_Card_come2_1 : decode prog_3_method_21_code 1 = .ok (.aload_n 1, 1) := by decide +kernel
theorem d_Card_come2_2 : decode prog_3_method_21_code 2 = .ok (.checkcast 28, 3) := by decide +kernel
theorem d_Card_come2_5 : decode prog_3_method_21_code 5 = .ok (.aload_n 2, 1) := by decide +kernel
theorem d_Card_come2_6 : decode prog_3_method_21_code 6 = .ok (.iload_n 3, 1) := by decide +kernel
theorem d_Card_come2_7 : decode prog_3_method_21_code 7 = .ok (.invokevirtual 191, 3) := by decide +kernel
theorem d_Card_come2_10 : decode prog_3_method_21_code 10 = .ok (.return_, 1) := by decide +kernel
theorem d_Card_go1_0 : decode prog_3_method_7_code 0 = .ok (.aload_n 0, 1) := by decide +kernel
theorem d_Card_go1_1 : decode prog_3_method_7_code 1 = .ok (.iload_n 3, 1) := by decide +kernel
theorem d_Card_go1_2 : decode prog_3_method_7_code 2 = .ok (.invokevirtual 101, 3) := by decide +kernel
theorem d_Card_go1_5 : decode prog_3_method_7_code 5 = .ok (.pop, 1) := by decide +kernel
theorem d_Card_go1_6 : decode prog_3_method_7_code 6 = .ok (.aload_n 1, 1) := by decide +kernel
theorem d_Card_go1_7 : decode prog_3_method_7_code 7 = .ok (.aload_n 2, 1) := by decide +kernel
theorem d_Card_go1_8 : decode prog_3_method_7_code 8 = .ok (.invokevirtual 112, 3) := by decide +kernel
theorem d_Card_go1_11 : decode prog_3_method_7_code 11 = .ok (.ifCond .ne 11, 3) := by decide +kernel
theorem d_Card_go1_14 : decode prog_3_method_7_code 14 = .ok (.aload_n 0, 1) := by decide +kernel
theorem d_Card_go1_15 : decode prog_3_method_7_code 15 = .ok (.iload_n 3, 1) := by decide +kernel
theorem d_Card_go1_16 : decode prog_3_method_7_code 16 = .ok (.iconst 0, 1) := by decide +kernel
theorem d_Card_go1_17 : decode prog_3_method_7_code 17 = .ok (.aload_n 1, 1) := by decide +kernel
theorem d_Card_go1_18 : decode prog_3_method_7_code 18 = .ok (.aload_n 1, 1) := by decide +kernel
theorem d_Card_go1_19 : decode prog_3_method_7_code 19 = .ok (.invokevirtual 93, 3) := by decide +kernel
theorem d_Card_go1_22 : decode prog_3_method_7_code 22 = .ok (.return_, 1) := by decide +kernel
theorem d_Card_go2_0 : decode prog_3_method_20_code 0 = .ok (.aload_n 0, 1) := by decide +kernel
theorem d_Card_go2_1 : decode prog_3_method_20_code 1 = .ok (.aload_n 1, 1) := by decide +kernel
theorem d_Card_go2_2 : decode prog_3_method_20_code 2 = .ok (.checkcast 28, 3) := by decide +kernel
theorem d_Card_go2_5 : decode prog_3_method_20_code 5 = .ok (.aload_n 2, 1) := by decide +kernel
theorem d_Card_go2_6 : decode prog_3_method_20_code 6 = .ok (.iload_n 3, 1) := by decide +kernel
theorem d_Card_go2_7 : decode prog_3_method_20_code 7 = .ok (.invokevirtual 188, 3) := by decide +kernel
theorem d_Card_go2_10 : decode prog_3_method_20_code 10 = .ok (.return_, 1) := by decide +kernel
theorem d_Card_wrap1_0 : decode prog_3_method_8_code 0 = .ok (.aload_n 1, 1) := by decide +kernel
theorem d_Card_wrap1_1 : decode prog_3_method_8_code 1 = .ok (.getfield 116, 3) := by decide +kernel
theorem d_Card_wrap1_4 : decode prog_3_method_8_code 4 = .ok (.iconst 0, 1) := by decide +kernel
theorem d_Card_wrap1_5 : decode prog_3_method_8_code 5 = .ok (.iaload, 1) := by decide +kernel
theorem d_Card_wrap1_6 : decode prog_3_method_8_code 6 = .ok (.istore 4, 2) := by decide +kernel
theorem d_Card_wrap1_8 : decode prog_3_method_8_code 8 = .ok (.aload_n 0, 1) := by decide +kernel
theorem d_Card_wrap1_9 : decode prog_3_method_8_code 9 = .ok (.iload_n 3, 1) := by decide +kernel
theorem d_Card_wrap1_10 : decode prog_3_method_8_code 10 = .ok (.invokevirtual 101, 3) := by decide +kernel
theorem d_Card_wrap1_13 : decode prog_3_method_8_code 13 = .ok (.astore 5, 2) := by decide +kernel
theorem d_Card_wrap1_15 : decode prog_3_method_8_code 15 = .ok (.aload_n 1, 1) := by decide +kernel
theorem d_Card_wrap1_16 : decode prog_3_method_8_code 16 = .ok (.iconst 1, 1) := by decide +kernel
theorem d_Card_wrap1_17 : decode prog_3_method_8_code 17 = .ok (.putfield 120, 3) := by decide +kernel
theorem d_Card_wrap1_20 : decode prog_3_method_8_code 20 = .ok (.aload 5, 2) := by decide +kernel
theorem d_Card_wrap1_22 : decode prog_3_method_8_code 22 = .ok (.ifnull 34, 3) := by decide +kernel
theorem d_Card_wrap1_25 : decode prog_3_method_8_code 25 = .ok (.aload 5, 2) := by decide +kernel
theorem d_Card_wrap1_27 : decode prog_3_method_8_code 27 = .ok (.getfield 87, 3) := by decide +kernel
theorem d_Card_wrap1_30 : decode prog_3_method_8_code 30 = .ok (.getfield 123, 3) := by decide +kernel
theorem d_Card_wrap1_33 : decode prog_3_method_8_code 33 = .ok (.ifCond .le 23, 3) := by decide +kernel
theorem d_Card_wrap1_36 : decode prog_3_method_8_code 36 = .ok (.aload_n 1, 1) := by decide +kernel
theorem d_Card_wrap1_37 : decode prog_3_method_8_code 37 = .ok (.aload 5, 2) := by decide +kernel
theorem d_Card_wrap1_39 : decode prog_3_method_8_code 39 = .ok (.getfield 87, 3) := by decide +kernel
theorem d_Card_wrap1_42 : decode prog_3_method_8_code 42 = .ok (.invokevirtual 98, 3) := by decide +kernel
theorem d_Card_wrap1_45 : decode prog_3_method_8_code 45 = .ok (.aload_n 1, 1) := by decide +kernel
theorem d_Card_wrap1_46 : decode prog_3_method_8_code 46 = .ok (.getfield 116, 3) := by decide +kernel
theorem d_Card_wrap1_49 : decode prog_3_method_8_code 49 = .ok (.iconst 0, 1) := by decide +kernel
theorem d_Card_wrap1_50 : decode prog_3_method_8_code 50 = .ok (.iload 4, 2) := by decide +kernel
theorem d_Card_wrap1_52 : decode prog_3_method_8_code 52 = .ok (.iastore, 1) := by decide +kernel
theorem d_Card_wrap1_53 : decode prog_3_method_8_code 53 = .ok (.goto 22, 3) := by decide +kernel
theorem d_Card_wrap1_56 : decode prog_3_method_8_code 56 = .ok (.aload 5, 2) := by decide +kernel
theorem d_Card_wrap1_58 : decode prog_3_method_8_code 58 = .ok (.ifnull 17, 3) := by decide +kernel
theorem d_Card_wrap1_61 : decode prog_3_method_8_code 61 = .ok (.iload 4, 2) := by decide +kernel
theorem d_Card_wrap1_63 : decode prog_3_method_8_code 63 = .ok (.aload_n 2, 1) := by decide +kernel
theorem d_Card_wrap1_64 : decode prog_3_method_8_code 64 = .ok (.invokevirtual 108, 3) := by decide +kernel
theorem d_Card_wrap1_67 : decode prog_3_method_8_code 67 = .ok (.if_icmp .ne 8, 3) := by decide +kernel
theorem d_Card_wrap1_70 : decode prog_3_method_8_code 70 = .ok (.aload_n 1, 1) := by decide +kernel
theorem d_Card_wrap1_71 : decode prog_3_method_8_code 71 = .ok (.iconst 0, 1) := by decide +kernel
theorem d_Card_wrap1_72 : decode prog_3_method_8_code 72 = .ok (.putfield 123, 3) := by decide +kernel
theorem d_Card_wrap1_75 : decode prog_3_method_8_code 75 = .ok (.return_, 1) := by decide +kernel
theorem d_Card_wrap2_0 : decode prog_3_method_19_code 0 = .ok (.aload_n 0, 1) := by decide +kernel
theorem d_Card_wrap2_1 : decode prog_3_method_19_code 1 = .ok (.aload_n 1, 1) := by decide +kernel
theorem d_Card_wrap2_2 : decode prog_3_method_19_code 2 = .ok (.checkcast 28, 3) := by decide +kernel
theorem d_Card_wrap2_5 : decode prog_3_method_19_code 5 = .ok (.aload_n 2, 1) := by decide +kernel
theorem d_Card_wrap2_6 : decode prog_3_method_19_code 6 = .ok (.iload_n 3, 1) := by decide +kernel
theorem d_Card_wrap2_7 : decode prog_3_method_19_code 7 = .ok (.invokevirtual 185, 3) := by decide +kernel
theorem d_Card_wrap2_10 : decode prog_3_method_19_code 10 = .ok (.return_, 1) := by decide +kernel
theorem d_Card_unwrap1_0 : decode prog_3_method_9_code 0 = .ok (.aload_n 0, 1) := by decide +kernel
theorem d_Card_unwrap1_1 : decode prog_3_method_9_code 1 = .ok (.iload_n 3, 1) := by decide +kernel
theorem d_Card_unwrap1_2 : decode prog_3_method_9_code 2 = .ok (.invokevirtual 101, 3) := by decide +kernel
theorem d_Card_unwrap1_5 : decode prog_3_method_9_code 5 = .ok (.pop, 1) := by decide +kernel
theorem d_Card_unwrap1_6 : decode prog_3_method_9_code 6 = .ok (.aload_n 1, 1) := by decide +kernel
theorem d_Card_unwrap1_7 : decode prog_3_method_9_code 7 = .ok (.getfield 123, 3) := by decide +kernel
theorem d_Card_unwrap1_10 : decode prog_3_method_9_code 10 = .ok (.iconst 1, 1) := by decide +kernel
theorem d_Card_unwrap1_11 : decode prog_3_method_9_code 11 = .ok (.if_icmp .eq 11, 3) := by decide +kernel
theorem d_Card_unwrap1_14 : decode prog_3_method_9_code 14 = .ok (.aload_n 0, 1) := by decide +kernel
theorem d_Card_unwrap1_15 : decode prog_3_method_9_code 15 = .ok (.iload_n 3, 1) := by decide +kernel
theorem d_Card_unwrap1_16 : decode prog_3_method_9_code 16 = .ok (.iconst 1, 1) := by decide +kernel
theorem d_Card_unwrap1_17 : decode prog_3_method_9_code 17 = .ok (.aload_n 1, 1) := by decide +kernel
theorem d_Card_unwrap1_18 : decode prog_3_method_9_code 18 = .ok (.aload_n 1, 1) := by decide +kernel
theorem d_Card_unwrap1_19 : decode prog_3_method_9_code 19 = .ok (.invokevirtual 93, 3) := by decide +kernel
theorem d_Card_unwrap1_22 : decode prog_3_method_9_code 22 = .ok (.aload_n 1, 1) := by decide +kernel
theorem d_Card_unwrap1_23 : decode prog_3_method_9_code 23 = .ok (.iconst 0, 1) := by decide +kernel
theorem d_Card_unwrap1_24 : decode prog_3_method_9_code 24 = .ok (.aload_n 1, 1) := by decide +kernel
theorem d_Card_unwrap1_25 : decode prog_3_method_9_code 25 = .ok (.getfield 123, 3) := by decide +kernel
theorem d_Card_unwrap1_28 : decode prog_3_method_9_code 28 = .ok (.ifCond .ne 10, 3) := by decide +kernel
theorem d_Card_unwrap1_31 : decode prog_3_method_9_code 31 = .ok (.aload_n 2, 1) := by decide +kernel
theorem d_Card_unwrap1_32 : decode prog_3_method_9_code 32 = .ok (.invokevirtual 108, 3) := by decide +kernel
theorem d_Card_unwrap1_35 : decode prog_3_method_9_code 35 = .ok (.goto 9, 3) := by decide +kernel
theorem d_Card_unwrap1_38 : decode prog_3_method_9_code 38 = .ok (.aload_n 1, 1) := by decide +kernel
theorem d_Card_unwrap1_39 : decode prog_3_method_9_code 39 = .ok (.getfield 116, 3) := by decide +kernel
theorem d_Card_unwrap1_42 : decode prog_3_method_9_code 42 = .ok (.iconst 0, 1) := by decide +kernel
theorem d_Card_unwrap1_43 : decode prog_3_method_9_code 43 = .ok (.iaload, 1) := by decide +kernel
theorem d_Card_unwrap1_44 : decode prog_3_method_9_code 44 = .ok (.invokevirtual 72, 3) := by decide +kernel
theorem d_Card_unwrap1_47 : decode prog_3_method_9_code 47 = .ok (.return_, 1) := by decide +kernel
theorem d_Card_unwrap2_0 : decode prog_3_method_18_code 0 = .ok (.aload_n 0, 1) := by decide +kernel
theorem d_Card_unwrap2_1 : decode prog_3_method_18_code 1 = .ok (.aload_n 1, 1) := by decide +kernel
theorem d_Card_unwrap2_2 : decode prog_3_method_18_code 2 = .ok (.checkcast 28, 3) := by decide +kernel
theorem d_Card_unwrap2_5 : decode prog_3_method_18_code 5 = .ok (.aload_n 2, 1) := by decide +kernel
theorem d_Card_unwrap2_6 : decode prog_3_method_18_code 6 = .ok (.iload_n 3, 1) := by decide +kernel
theorem d_Card_unwrap2_7 : decode prog_3_method_18_code 7 = .ok (.invokevirtual 181, 3) := by decide +kernel
theorem d_Card_unwrap2_10 : decode prog_3_method_18_code 10 = .ok (.return_, 1) := by decide +kernel
theorem d_Card_split1_0 : decode prog_3_method_10_code 0 = .ok (.aload_n 1, 1) := by decide +kernel
theorem d_Card_split1_1 : decode prog_3_method_10_code 1 = .ok (.getfield 116, 3) := by decide +kernel
theorem d_Card_split1_4 : decode prog_3_method_10_code 4 = .ok (.iconst 0, 1) := by decide +kernel
theorem d_Card_split1_5 : decode prog_3_method_10_code 5 = .ok (.iaload, 1) := by decide +kernel
theorem d_Card_split1_6 : decode prog_3_method_10_code 6 = .ok (.istore 4, 2) := by decide +kernel
theorem d_Card_split1_8 : decode prog_3_method_10_code 8 = .ok (.aload_n 1, 1) := by decide +kernel
theorem d_Card_split1_9 : decode prog_3_method_10_code 9 = .ok (.iconst 0, 1) := by decide +kernel
theorem d_Card_split1_10 : decode prog_3_method_10_code 10 = .ok (.iload 4, 2) := by decide +kernel
theorem d_Card_split1_12 : decode prog_3_method_10_code 12 = .ok (.aload_n 3, 1) := by decide +kernel
theorem d_Card_split1_13 : decode prog_3_method_10_code 13 = .ok (.getfield 126, 3) := by decide +kernel
theorem d_Card_split1_16 : decode prog_3_method_10_code 16 = .ok (.invokestatic 129, 3) := by decide +kernel
theorem d_Card_split1_19 : decode prog_3_method_10_code 19 = .ok (.invokevirtual 72, 3) := by decide +kernel
theorem d_Card_split1_22 : decode prog_3_method_10_code 22 = .ok (.aload_n 2, 1) := by decide +kernel
theorem d_Card_split1_23 : decode prog_3_method_10_code 23 = .ok (.iconst 0, 1) := by decide +kernel
theorem d_Card_split1_24 : decode prog_3_method_10_code 24 = .ok (.iload 4, 2) := by decide +kernel
theorem d_Card_split1_26 : decode prog_3_method_10_code 26 = .ok (.aload_n 3, 1) := by decide +kernel
theorem d_Card_split1_27 : decode prog_3_method_10_code 27 = .ok (.getfield 126, 3) := by decide +kernel
theorem d_Card_split1_30 : decode prog_3_method_10_code 30 = .ok (.invokestatic 135, 3) := by decide +kernel
theorem d_Card_split1_33 : decode prog_3_method_10_code 33 = .ok (.invokevirtual 72, 3) := by decide +kernel
theorem d_Card_split1_36 : decode prog_3_method_10_code 36 = .ok (.return_, 1) := by decide +kernel
theorem d_Card_split2_0 : decode prog_3_method_17_code 0 = .ok (.aload_n 0, 1) := by decide +kernel
theorem d_Card_split2_1 : decode prog_3_method_17_code 1 = .ok (.aload_n 1, 1) := by decide +kernel
theorem d_Card_split2_2 : decode prog_3_method_17_code 2 = .ok (.checkcast 28, 3) := by decide +kernel
theorem d_Card_split2_5 : decode prog_3_method_17_code 5 = .ok (.aload_n 2, 1) := by decide +kernel
theorem d_Card_split2_6 : decode prog_3_method_17_code 6 = .ok (.checkcast 28, 3) := by decide +kernel
theorem d_Card_split2_9 : decode prog_3_method_17_code 9 = .ok (.aload_n 3, 1) := by decide +kernel
theorem d_Card_split2_10 : decode prog_3_method_17_code 10 = .ok (.invokevirtual 178, 3) := by decide +kernel
theorem d_Card_split2_13 : decode prog_3_method_17_code 13 = .ok (.return_, 1) := by decide +kernel
theorem d_Card_join1_0 : decode prog_3_method_11_code 0 = .ok (.aload_n 1, 1) := by decide +kernel
theorem d_Card_join1_1 : decode prog_3_method_11_code 1 = .ok (.getfield 116, 3) := by decide +kernel
theorem d_Card_join1_4 : decode prog_3_method_11_code 4 = .ok (.iconst 0, 1) := by decide +kernel
theorem d_Card_join1_5 : decode prog_3_method_11_code 5 = .ok (.iaload, 1) := by decide +kernel
theorem d_Card_join1_6 : decode prog_3_method_11_code 6 = .ok (.i2l, 1) := by decide +kernel
theorem d_Card_join1_7 : decode prog_3_method_11_code 7 = .ok (.aload_n 3, 1) := by decide +kernel
theorem d_Card_join1_8 : decode prog_3_method_11_code 8 = .ok (.getfield 126, 3) := by decide +kernel
theorem d_Card_join1_11 : decode prog_3_method_11_code 11 = .ok (.i2l, 1) := by decide +kernel
theorem d_Card_join1_12 : decode prog_3_method_11_code 12 = .ok (.lmul, 1) := by decide +kernel
theorem d_Card_join1_13 : decode prog_3_method_11_code 13 = .ok (.aload_n 2, 1) := by decide +kernel
theorem d_Card_join1_14 : decode prog_3_method_11_code 14 = .ok (.getfield 116, 3) := by decide +kernel
theorem d_Card_join1_17 : decode prog_3_method_11_code 17 = .ok (.iconst 0, 1) := by decide +kernel
theorem d_Card_join1_18 : decode prog_3_method_11_code 18 = .ok (.iaload, 1) := by decide +kernel
theorem d_Card_join1_19 : decode prog_3_method_11_code 19 = .ok (.i2l, 1) := by decide +kernel
theorem d_Card_join1_20 : decode prog_3_method_11_code 20 = .ok (.ladd, 1) := by decide +kernel
theorem d_Card_join1_21 : decode prog_3_method_11_code 21 = .ok (.lstore 4, 2) := by decide +kernel
theorem d_Card_join1_23 : decode prog_3_method_11_code 23 = .ok (.lload 4, 2) := by decide +kernel
theorem d_Card_join1_25 : decode prog_3_method_11_code 25 = .ok (.aload_n 3, 1) := by decide +kernel
theorem d_Card_join1_26 : decode prog_3_method_11_code 26 = .ok (.getfield 138, 3) := by decide +kernel
theorem d_Card_join1_29 : decode prog_3_method_11_code 29 = .ok (.i2l, 1) := by decide +kernel
theorem d_Card_join1_30 : decode prog_3_method_11_code 30 = .ok (.lcmp, 1) := by decide +kernel
theorem d_Card_join1_31 : decode prog_3_method_11_code 31 = .ok (.ifCond .lt 14, 3) := by decide +kernel
theorem d_Card_join1_34 : decode prog_3_method_11_code 34 = .ok (.lload 4, 2) := by decide +kernel
theorem d_Card_join1_36 : decode prog_3_method_11_code 36 = .ok (.aload_n 3, 1) := by decide +kernel
theorem d_Card_join1_37 : decode prog_3_method_11_code 37 = .ok (.getfield 139, 3) := by decide +kernel
theorem d_Card_join1_40 : decode prog_3_method_11_code 40 = .ok (.i2l, 1) := by decide +kernel
theorem d_Card_join1_41 : decode prog_3_method_11_code 41 = .ok (.lcmp, 1) := by decide +kernel
theorem d_Card_join1_42 : decode prog_3_method_11_code 42 = .ok (.ifCond .le 13, 3) := by decide +kernel
theorem d_Card_join1_45 : decode prog_3_method_11_code 45 = .ok (.new 140, 3) := by decide +kernel
theorem d_Card_join1_48 : decode prog_3_method_11_code 48 = .ok (.dup, 1) := by decide +kernel
theorem d_Card_join1_49 : decode prog_3_method_11_code 49 = .ok (.ldc 142, 2) := by decide +kernel
theorem d_Card_join1_51 : decode prog_3_method_11_code 51 = .ok (.invokespecial 144, 3) := by decide +kernel
theorem d_Card_join1_54 : decode prog_3_method_11_code 54 = .ok (.athrow, 1) := by decide +kernel
theorem d_Card_join1_55 : decode prog_3_method_11_code 55 = .ok (.aload_n 1, 1) := by decide +kernel
theorem d_Card_join1_56 : decode prog_3_method_11_code 56 = .ok (.iconst 0, 1) := by decide +kernel
theorem d_Card_join1_57 : decode prog_3_method_11_code 57 = .ok (.lload 4, 2) := by decide +kernel
theorem d_Card_join1_59 : decode prog_3_method_11_code 59 = .ok (.l2i, 1) := by decide +kernel
theorem d_Card_join1_60 : decode prog_3_method_11_code 60 = .ok (.invokevirtual 72, 3) := by decide +kernel
theorem d_Card_join1_63 : decode prog_3_method_11_code 63 = .ok (.return_, 1) := by decide +kernel
theorem d_Card_join2_0 : decode prog_3_method_16_code 0 = .ok (.aload_n 0, 1) := by decide +kernel
theorem d_Card_join2_1 : decode prog_3_method_16_code 1 = .ok (.aload_n 1, 1) := by decide +kernel
theorem d_Card_join2_2 : decode prog_3_method_16_code 2 = .ok (.checkcast 28, 3) := by decide +kernel
theorem d_Card_join2_5 : decode prog_3_method_16_code 5 = .ok (.aload_n 2, 1) := by decide +kernel
theorem d_Card_join2_6 : decode prog_3_method_16_code 6 = .ok (.checkcast 28, 3) := by decide +kernel
theorem d_Card_join2_9 : decode prog_3_method_16_code 9 = .ok (.aload_n 3, 1) := by decide +kernel
theorem d_Card_join2_10 : decode prog_3_method_16_code 10 = .ok (.invokevirtual 174, 3) := by decide +kernel
theorem d_Card_join2_13 : decode prog_3_method_16_code 13 = .ok (.return_, 1) := by decide +kernel
