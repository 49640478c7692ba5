/-! decode rows (printed by wip/gen/links.py) -/
theorem d_Card_turn1_0 : decode prog_3_method_12_code 0 = .ok (.aload_n 2, 1) := by decide +kernel
theorem d_Card_turn1_1 : decode prog_3_method_12_code 1 = .ok (.getfield 147, 3) := by decide +kernel
theorem d_Card_turn1_4 : decode prog_3_method_12_code 4 = .ok (.bipush 6, 2) := by decide +kernel
theorem d_Card_turn1_6 : decode prog_3_method_12_code 6 = .ok (.if_icmp .ne 39, 3) := by decide +kernel
theorem d_Card_turn1_9 : decode prog_3_method_12_code 9 = .ok (.aload_n 1, 1) := by decide +kernel
theorem d_Card_turn1_10 : decode prog_3_method_12_code 10 = .ok (.getfield 116, 3) := by decide +kernel
theorem d_Card_turn1_13 : decode prog_3_method_12_code 13 = .ok (.iconst 0, 1) := by decide +kernel
theorem d_Card_turn1_14 : decode prog_3_method_12_code 14 = .ok (.iload_n 3, 1) := by decide +kernel
theorem d_Card_turn1_15 : decode prog_3_method_12_code 15 = .ok (.ifCond .eq 16, 3) := by decide +kernel
theorem d_Card_turn1_18 : decode prog_3_method_12_code 18 = .ok (.aload_n 2, 1) := by decide +kernel
theorem d_Card_turn1_19 : decode prog_3_method_12_code 19 = .ok (.aload_n 1, 1) := by decide +kernel
theorem d_Card_turn1_20 : decode prog_3_method_12_code 20 = .ok (.getfield 116, 3) := by decide +kernel
theorem d_Card_turn1_23 : decode prog_3_method_12_code 23 = .ok (.iconst 0, 1) := by decide +kernel
theorem d_Card_turn1_24 : decode prog_3_method_12_code 24 = .ok (.iaload, 1) := by decide +kernel
theorem d_Card_turn1_25 : decode prog_3_method_12_code 25 = .ok (.invokevirtual 150, 3) := by decide +kernel
theorem d_Card_turn1_28 : decode prog_3_method_12_code 28 = .ok (.goto 13, 3) := by decide +kernel
theorem d_Card_turn1_31 : decode prog_3_method_12_code 31 = .ok (.aload_n 2, 1) := by decide +kernel
theorem d_Card_turn1_32 : decode prog_3_method_12_code 32 = .ok (.aload_n 1, 1) := by decide +kernel
theorem d_Card_turn1_33 : decode prog_3_method_12_code 33 = .ok (.getfield 116, 3) := by decide +kernel
theorem d_Card_turn1_36 : decode prog_3_method_12_code 36 = .ok (.iconst 0, 1) := by decide +kernel
theorem d_Card_turn1_37 : decode prog_3_method_12_code 37 = .ok (.iaload, 1) := by decide +kernel
theorem d_Card_turn1_38 : decode prog_3_method_12_code 38 = .ok (.invokevirtual 154, 3) := by decide +kernel
theorem d_Card_turn1_41 : decode prog_3_method_12_code 41 = .ok (.iastore, 1) := by decide +kernel
theorem d_Card_turn1_42 : decode prog_3_method_12_code 42 = .ok (.goto 59, 3) := by decide +kernel
theorem d_Card_turn1_45 : decode prog_3_method_12_code 45 = .ok (.aload_n 2, 1) := by decide +kernel
theorem d_Card_turn1_46 : decode prog_3_method_12_code 46 = .ok (.getfield 147, 3) := by decide +kernel
theorem d_Card_turn1_49 : decode prog_3_method_12_code 49 = .ok (.bipush 7, 2) := by decide +kernel
theorem d_Card_turn1_51 : decode prog_3_method_12_code 51 = .ok (.if_icmp .ne 42, 3) := by decide +kernel
theorem d_Card_turn1_54 : decode prog_3_method_12_code 54 = .ok (.aload_n 1, 1) := by decide +kernel
theorem d_Card_turn1_55 : decode prog_3_method_12_code 55 = .ok (.getfield 116, 3) := by decide +kernel
theorem d_Card_turn1_58 : decode prog_3_method_12_code 58 = .ok (.iconst 0, 1) := by decide +kernel
theorem d_Card_turn1_59 : decode prog_3_method_12_code 59 = .ok (.iload_n 3, 1) := by decide +kernel
theorem d_Card_turn1_60 : decode prog_3_method_12_code 60 = .ok (.ifCond .ne 23, 3) := by decide +kernel
theorem d_Card_turn1_63 : decode prog_3_method_12_code 63 = .ok (.aload_n 1, 1) := by decide +kernel
theorem d_Card_turn1_64 : decode prog_3_method_12_code 64 = .ok (.getfield 116, 3) := by decide +kernel
theorem d_Card_turn1_67 : decode prog_3_method_12_code 67 = .ok (.iconst 0, 1) := by decide +kernel
theorem d_Card_turn1_68 : decode prog_3_method_12_code 68 = .ok (.iaload, 1) := by decide +kernel
theorem d_Card_turn1_69 : decode prog_3_method_12_code 69 = .ok (.aload_n 2, 1) := by decide +kernel
theorem d_Card_turn1_70 : decode prog_3_method_12_code 70 = .ok (.getfield 126, 3) := by decide +kernel
theorem d_Card_turn1_73 : decode prog_3_method_12_code 73 = .ok (.if_icmp .ne 10, 3) := by decide +kernel
theorem d_Card_turn1_76 : decode prog_3_method_12_code 76 = .ok (.aload_n 2, 1) := by decide +kernel
theorem d_Card_turn1_77 : decode prog_3_method_12_code 77 = .ok (.getfield 157, 3) := by decide +kernel
theorem d_Card_turn1_80 : decode prog_3_method_12_code 80 = .ok (.goto 9, 3) := by decide +kernel
theorem d_Card_turn1_83 : decode prog_3_method_12_code 83 = .ok (.aload_n 1, 1) := by decide +kernel
theorem d_Card_turn1_84 : decode prog_3_method_12_code 84 = .ok (.getfield 116, 3) := by decide +kernel
theorem d_Card_turn1_87 : decode prog_3_method_12_code 87 = .ok (.iconst 0, 1) := by decide +kernel
theorem d_Card_turn1_88 : decode prog_3_method_12_code 88 = .ok (.iaload, 1) := by decide +kernel
theorem d_Card_turn1_89 : decode prog_3_method_12_code 89 = .ok (.iastore, 1) := by decide +kernel
theorem d_Card_turn1_90 : decode prog_3_method_12_code 90 = .ok (.goto 11, 3) := by decide +kernel
theorem d_Card_turn1_93 : decode prog_3_method_12_code 93 = .ok (.iload_n 3, 1) := by decide +kernel
theorem d_Card_turn1_94 : decode prog_3_method_12_code 94 = .ok (.ifCond .ne 7, 3) := by decide +kernel
theorem d_Card_turn1_97 : decode prog_3_method_12_code 97 = .ok (.aload_n 1, 1) := by decide +kernel
theorem d_Card_turn1_98 : decode prog_3_method_12_code 98 = .ok (.invokevirtual 160, 3) := by decide +kernel
theorem d_Card_turn1_101 : decode prog_3_method_12_code 101 = .ok (.return_, 1) := by decide +kernel
theorem d_Card_turn2_0 : decode prog_3_method_15_code 0 = .ok (.aload_n 0, 1) := by decide +kernel
theorem d_Card_turn2_1 : decode prog_3_method_15_code 1 = .ok (.aload_n 1, 1) := by decide +kernel
theorem d_Card_turn2_2 : decode prog_3_method_15_code 2 = .ok (.checkcast 28, 3) := by decide +kernel
theorem d_Card_turn2_5 : decode prog_3_method_15_code 5 = .ok (.aload_n 2, 1) := by decide +kernel
theorem d_Card_turn2_6 : decode prog_3_method_15_code 6 = .ok (.iload_n 3, 1) := by decide +kernel
theorem d_Card_turn2_7 : decode prog_3_method_15_code 7 = .ok (.invokevirtual 166, 3) := by decide +kernel
theorem d_Card_turn2_10 : decode prog_3_method_15_code 10 = .ok (.return_, 1) := by decide +kernel
theorem d_Card_turned1_0 : decode prog_3_method_13_code 0 = .ok (.aload_n 0, 1) := by decide +kernel
theorem d_Card_turned1_1 : decode prog_3_method_13_code 1 = .ok (.iload_n 3, 1) := by decide +kernel
theorem d_Card_turned1_2 : decode prog_3_method_13_code 2 = .ok (.invokevirtual 101, 3) := by decide +kernel
theorem d_Card_turned1_5 : decode prog_3_method_13_code 5 = .ok (.astore 5, 2) := by decide +kernel
theorem d_Card_turned1_7 : decode prog_3_method_13_code 7 = .ok (.aload 5, 2) := by decide +kernel
theorem d_Card_turned1_9 : decode prog_3_method_13_code 9 = .ok (.ifnull 35, 3) := by decide +kernel
theorem d_Card_turned1_12 : decode prog_3_method_13_code 12 = .ok (.aload 5, 2) := by decide +kernel
theorem d_Card_turned1_14 : decode prog_3_method_13_code 14 = .ok (.getfield 83, 3) := by decide +kernel
theorem d_Card_turned1_17 : decode prog_3_method_13_code 17 = .ok (.iload 4, 2) := by decide +kernel
theorem d_Card_turned1_19 : decode prog_3_method_13_code 19 = .ok (.if_icmp .eq 25, 3) := by decide +kernel
theorem d_Card_turned1_22 : decode prog_3_method_13_code 22 = .ok (.aload 5, 2) := by decide +kernel
theorem d_Card_turned1_24 : decode prog_3_method_13_code 24 = .ok (.getfield 90, 3) := by decide +kernel
theorem d_Card_turned1_27 : decode prog_3_method_13_code 27 = .ok (.aload_n 1, 1) := by decide +kernel
theorem d_Card_turned1_28 : decode prog_3_method_13_code 28 = .ok (.invokevirtual 162, 3) := by decide +kernel
theorem d_Card_turned1_31 : decode prog_3_method_13_code 31 = .ok (.ifCond .eq 13, 3) := by decide +kernel
theorem d_Card_turned1_34 : decode prog_3_method_13_code 34 = .ok (.aload_n 1, 1) := by decide +kernel
theorem d_Card_turned1_35 : decode prog_3_method_13_code 35 = .ok (.aload 5, 2) := by decide +kernel
theorem d_Card_turned1_37 : decode prog_3_method_13_code 37 = .ok (.getfield 87, 3) := by decide +kernel
theorem d_Card_turned1_40 : decode prog_3_method_13_code 40 = .ok (.invokevirtual 98, 3) := by decide +kernel
theorem d_Card_turned1_43 : decode prog_3_method_13_code 43 = .ok (.return_, 1) := by decide +kernel
theorem d_Card_turned1_44 : decode prog_3_method_13_code 44 = .ok (.aload_n 0, 1) := by decide +kernel
theorem d_Card_turned1_45 : decode prog_3_method_13_code 45 = .ok (.getfield 31, 3) := by decide +kernel
theorem d_Card_turned1_48 : decode prog_3_method_13_code 48 = .ok (.aload_n 1, 1) := by decide +kernel
theorem d_Card_turned1_49 : decode prog_3_method_13_code 49 = .ok (.invokevirtual 98, 3) := by decide +kernel
theorem d_Card_turned1_52 : decode prog_3_method_13_code 52 = .ok (.aload_n 0, 1) := by decide +kernel
theorem d_Card_turned1_53 : decode prog_3_method_13_code 53 = .ok (.aload_n 1, 1) := by decide +kernel
theorem d_Card_turned1_54 : decode prog_3_method_13_code 54 = .ok (.aload_n 2, 1) := by decide +kernel
theorem d_Card_turned1_55 : decode prog_3_method_13_code 55 = .ok (.iload 4, 2) := by decide +kernel
theorem d_Card_turned1_57 : decode prog_3_method_13_code 57 = .ok (.invokevirtual 166, 3) := by decide +kernel
theorem d_Card_turned1_60 : decode prog_3_method_13_code 60 = .ok (.aload_n 0, 1) := by decide +kernel
theorem d_Card_turned1_61 : decode prog_3_method_13_code 61 = .ok (.getfield 35, 3) := by decide +kernel
theorem d_Card_turned1_64 : decode prog_3_method_13_code 64 = .ok (.aload_n 1, 1) := by decide +kernel
theorem d_Card_turned1_65 : decode prog_3_method_13_code 65 = .ok (.invokevirtual 98, 3) := by decide +kernel
theorem d_Card_turned1_68 : decode prog_3_method_13_code 68 = .ok (.aload_n 0, 1) := by decide +kernel
theorem d_Card_turned1_69 : decode prog_3_method_13_code 69 = .ok (.aload_n 0, 1) := by decide +kernel
theorem d_Card_turned1_70 : decode prog_3_method_13_code 70 = .ok (.getfield 35, 3) := by decide +kernel
theorem d_Card_turned1_73 : decode prog_3_method_13_code 73 = .ok (.aload_n 2, 1) := by decide +kernel
theorem d_Card_turned1_74 : decode prog_3_method_13_code 74 = .ok (.iload 4, 2) := by decide +kernel
theorem d_Card_turned1_76 : decode prog_3_method_13_code 76 = .ok (.ifCond .ne 7, 3) := by decide +kernel
theorem d_Card_turned1_79 : decode prog_3_method_13_code 79 = .ok (.iconst 1, 1) := by decide +kernel
theorem d_Card_turned1_80 : decode prog_3_method_13_code 80 = .ok (.goto 4, 3) := by decide +kernel
theorem d_Card_turned1_83 : decode prog_3_method_13_code 83 = .ok (.iconst 0, 1) := by decide +kernel
theorem d_Card_turned1_84 : decode prog_3_method_13_code 84 = .ok (.invokevirtual 166, 3) := by decide +kernel
theorem d_Card_turned1_87 : decode prog_3_method_13_code 87 = .ok (.aload_n 0, 1) := by decide +kernel
theorem d_Card_turned1_88 : decode prog_3_method_13_code 88 = .ok (.getfield 35, 3) := by decide +kernel
theorem d_Card_turned1_91 : decode prog_3_method_13_code 91 = .ok (.aload_n 0, 1) := by decide +kernel
theorem d_Card_turned1_92 : decode prog_3_method_13_code 92 = .ok (.getfield 31, 3) := by decide +kernel
theorem d_Card_turned1_95 : decode prog_3_method_13_code 95 = .ok (.invokevirtual 162, 3) := by decide +kernel
theorem d_Card_turned1_98 : decode prog_3_method_13_code 98 = .ok (.ifCond .ne 15, 3) := by decide +kernel
theorem d_Card_turned1_101 : decode prog_3_method_13_code 101 = .ok (.aload_n 0, 1) := by decide +kernel
theorem d_Card_turned1_102 : decode prog_3_method_13_code 102 = .ok (.iload_n 3, 1) := by decide +kernel
theorem d_Card_turned1_103 : decode prog_3_method_13_code 103 = .ok (.iload 4, 2) := by decide +kernel
theorem d_Card_turned1_105 : decode prog_3_method_13_code 105 = .ok (.aload_n 0, 1) := by decide +kernel
theorem d_Card_turned1_106 : decode prog_3_method_13_code 106 = .ok (.getfield 31, 3) := by decide +kernel
theorem d_Card_turned1_109 : decode prog_3_method_13_code 109 = .ok (.aload_n 1, 1) := by decide +kernel
theorem d_Card_turned1_110 : decode prog_3_method_13_code 110 = .ok (.invokevirtual 93, 3) := by decide +kernel
theorem d_Card_turned1_113 : decode prog_3_method_13_code 113 = .ok (.return_, 1) := by decide +kernel
theorem d_Card_turned2_0 : decode prog_3_method_14_code 0 = .ok (.aload_n 0, 1) := by decide +kernel
theorem d_Card_turned2_1 : decode prog_3_method_14_code 1 = .ok (.aload_n 1, 1) := by decide +kernel
theorem d_Card_turned2_2 : decode prog_3_method_14_code 2 = .ok (.checkcast 28, 3) := by decide +kernel
theorem d_Card_turned2_5 : decode prog_3_method_14_code 5 = .ok (.aload_n 2, 1) := by decide +kernel
theorem d_Card_turned2_6 : decode prog_3_method_14_code 6 = .ok (.iload_n 3, 1) := by decide +kernel
theorem d_Card_turned2_7 : decode prog_3_method_14_code 7 = .ok (.iload 4, 2) := by decide +kernel
theorem d_Card_turned2_9 : decode prog_3_method_14_code 9 = .ok (.invokevirtual 170, 3) := by decide +kernel
theorem d_Card_turned2_12 : decode prog_3_method_14_code 12 = .ok (.return_, 1) := by decide +kernel
theorem d_Fld_init_0 : decode prog_4_method_1_code 0 = .ok (.aload_n 0, 1) := by decide +kernel
theorem d_Fld_init_1 : decode prog_4_method_1_code 1 = .ok (.invokespecial 3, 3) := by decide +kernel
theorem d_Fld_init_4 : decode prog_4_method_1_code 4 = .ok (.return_, 1) := by decide +kernel
theorem d_Fld_clear_0 : decode prog_4_method_2_code 0 = .ok (.aload_n 0, 1) := by decide +kernel
theorem d_Fld_clear_1 : decode prog_4_method_2_code 1 = .ok (.iconst 0, 1) := by decide +kernel
theorem d_Fld_clear_2 : decode prog_4_method_2_code 2 = .ok (.putfield 9, 3) := by decide +kernel
theorem d_Fld_clear_5 : decode prog_4_method_2_code 5 = .ok (.aload_n 0, 1) := by decide +kernel
theorem d_Fld_clear_6 : decode prog_4_method_2_code 6 = .ok (.iconst 0, 1) := by decide +kernel
theorem d_Fld_clear_7 : decode prog_4_method_2_code 7 = .ok (.putfield 15, 3) := by decide +kernel
theorem d_Fld_clear_10 : decode prog_4_method_2_code 10 = .ok (.aload_n 0, 1) := by decide +kernel
theorem d_Fld_clear_11 : decode prog_4_method_2_code 11 = .ok (.iconst 0, 1) := by decide +kernel
theorem d_Fld_clear_12 : decode prog_4_method_2_code 12 = .ok (.putfield 18, 3) := by decide +kernel
theorem d_Fld_clear_15 : decode prog_4_method_2_code 15 = .ok (.return_, 1) := by decide +kernel
theorem d_Fld_isLike_0 : decode prog_4_method_3_code 0 = .ok (.aload_n 0, 1) := by decide +kernel
theorem d_Fld_isLike_1 : decode prog_4_method_3_code 1 = .ok (.getfield 21, 3) := by decide +kernel
theorem d_Fld_isLike_4 : decode prog_4_method_3_code 4 = .ok (.aload_n 1, 1) := by decide +kernel
theorem d_Fld_isLike_5 : decode prog_4_method_3_code 5 = .ok (.getfield 21, 3) := by decide +kernel
theorem d_Fld_isLike_8 : decode prog_4_method_3_code 8 = .ok (.if_icmp .ne 40, 3) := by decide +kernel
theorem d_Fld_isLike_11 : decode prog_4_method_3_code 11 = .ok (.aload_n 0, 1) := by decide +kernel
theorem d_Fld_isLike_12 : decode prog_4_method_3_code 12 = .ok (.getfield 9, 3) := by decide +kernel
theorem d_Fld_isLike_15 : decode prog_4_method_3_code 15 = .ok (.aload_n 1, 1) := by decide +kernel
theorem d_Fld_isLike_16 : decode prog_4_method_3_code 16 = .ok (.getfield 9, 3) := by decide +kernel
theorem d_Fld_isLike_19 : decode prog_4_method_3_code 19 = .ok (.if_icmp .ne 29, 3) := by decide +kernel
theorem d_Fld_isLike_22 : decode prog_4_method_3_code 22 = .ok (.aload_n 0, 1) := by decide +kernel
theorem d_Fld_isLike_23 : decode prog_4_method_3_code 23 = .ok (.getfield 15, 3) := by decide +kernel
theorem d_Fld_isLike_26 : decode prog_4_method_3_code 26 = .ok (.aload_n 1, 1) := by decide +kernel
theorem d_Fld_isLike_27 : decode prog_4_method_3_code 27 = .ok (.getfield 15, 3) := by decide +kernel
theorem d_Fld_isLike_30 : decode prog_4_method_3_code 30 = .ok (.if_icmp .ne 18, 3) := by decide +kernel
theorem d_Fld_isLike_33 : decode prog_4_method_3_code 33 = .ok (.aload_n 0, 1) := by decide +kernel
theorem d_Fld_isLike_34 : decode prog_4_method_3_code 34 = .ok (.getfield 18, 3) := by decide +kernel
theorem d_Fld_isLike_37 : decode prog_4_method_3_code 37 = .ok (.aload_n 1, 1) := by decide +kernel
theorem d_Fld_isLike_38 : decode prog_4_method_3_code 38 = .ok (.getfield 18, 3) := by decide +kernel
theorem d_Fld_isLike_41 : decode prog_4_method_3_code 41 = .ok (.if_icmp .ne 7, 3) := by decide +kernel
theorem d_Fld_isLike_44 : decode prog_4_method_3_code 44 = .ok (.iconst 1, 1) := by decide +kernel
theorem d_Fld_isLike_45 : decode prog_4_method_3_code 45 = .ok (.goto 4, 3) := by decide +kernel
theorem d_Fld_isLike_48 : decode prog_4_method_3_code 48 = .ok (.iconst 0, 1) := by decide +kernel
theorem d_Fld_isLike_49 : decode prog_4_method_3_code 49 = .ok (.ireturn, 1) := by decide +kernel
theorem d_Kept_init_0 : decode prog_5_method_1_code 0 = .ok (.aload_n 0, 1) := by decide +kernel
theorem d_Kept_init_1 : decode prog_5_method_1_code 1 = .ok (.invokespecial 1, 3) := by decide +kernel
theorem d_Kept_init_4 : decode prog_5_method_1_code 4 = .ok (.aload_n 0, 1) := by decide +kernel
theorem d_Kept_init_5 : decode prog_5_method_1_code 5 = .ok (.new 7, 3) := by decide +kernel
theorem d_Kept_init_8 : decode prog_5_method_1_code 8 = .ok (.dup, 1) := by decide +kernel
theorem d_Kept_init_9 : decode prog_5_method_1_code 9 = .ok (.invokespecial 9, 3) := by decide +kernel
theorem d_Kept_init_12 : decode prog_5_method_1_code 12 = .ok (.putfield 10, 3) := by decide +kernel
theorem d_Kept_init_15 : decode prog_5_method_1_code 15 = .ok (.aload_n 0, 1) := by decide +kernel
theorem d_Kept_init_16 : decode prog_5_method_1_code 16 = .ok (.new 7, 3) := by decide +kernel
theorem d_Kept_init_19 : decode prog_5_method_1_code 19 = .ok (.dup, 1) := by decide +kernel
theorem d_Kept_init_20 : decode prog_5_method_1_code 20 = .ok (.invokespecial 9, 3) := by decide +kernel
theorem d_Kept_init_23 : decode prog_5_method_1_code 23 = .ok (.putfield 16, 3) := by decide +kernel
theorem d_Kept_init_26 : decode prog_5_method_1_code 26 = .ok (.return_, 1) := by decide +kernel
theorem d_Knot_init_0 : decode prog_6_method_1_code 0 = .ok (.aload_n 0, 1) := by decide +kernel
theorem d_Knot_init_1 : decode prog_6_method_1_code 1 = .ok (.invokespecial 1, 3) := by decide +kernel
theorem d_Knot_init_4 : decode prog_6_method_1_code 4 = .ok (.aload_n 0, 1) := by decide +kernel
theorem d_Knot_init_5 : decode prog_6_method_1_code 5 = .ok (.aload_n 1, 1) := by decide +kernel
theorem d_Knot_init_6 : decode prog_6_method_1_code 6 = .ok (.putfield 7, 3) := by decide +kernel
theorem d_Knot_init_9 : decode prog_6_method_1_code 9 = .ok (.return_, 1) := by decide +kernel
theorem d_Named_init_0 : decode prog_7_method_1_code 0 = .ok (.aload_n 0, 1) := by decide +kernel
theorem d_Named_init_1 : decode prog_7_method_1_code 1 = .ok (.invokespecial 1, 3) := by decide +kernel
theorem d_Named_init_4 : decode prog_7_method_1_code 4 = .ok (.return_, 1) := by decide +kernel
theorem d_Paths_isRight_0 : decode prog_8_method_2_code 0 = .ok (.iload_n 0, 1) := by decide +kernel
theorem d_Paths_isRight_1 : decode prog_8_method_2_code 1 = .ok (.istore_n 1, 1) := by decide +kernel
theorem d_Paths_isRight_2 : decode prog_8_method_2_code 2 = .ok (.iload_n 1, 1) := by decide +kernel
theorem d_Paths_isRight_3 : decode prog_8_method_2_code 3 = .ok (.ifCond .lt 14, 3) := by decide +kernel
theorem d_Paths_isRight_6 : decode prog_8_method_2_code 6 = .ok (.iload_n 1, 1) := by decide +kernel
theorem d_Paths_isRight_7 : decode prog_8_method_2_code 7 = .ok (.bipush 28, 2) := by decide +kernel
theorem d_Paths_isRight_9 : decode prog_8_method_2_code 9 = .ok (.iushr, 1) := by decide +kernel
theorem d_Paths_isRight_10 : decode prog_8_method_2_code 10 = .ok (.ifCond .ne 7, 3) := by decide +kernel
theorem d_Paths_isRight_13 : decode prog_8_method_2_code 13 = .ok (.iconst 1, 1) := by decide +kernel
theorem d_Paths_isRight_14 : decode prog_8_method_2_code 14 = .ok (.goto 4, 3) := by decide +kernel
theorem d_Paths_isRight_17 : decode prog_8_method_2_code 17 = .ok (.iconst 0, 1) := by decide +kernel
theorem d_Paths_isRight_18 : decode prog_8_method_2_code 18 = .ok (.istore_n 2, 1) := by decide +kernel
theorem d_Paths_isRight_19 : decode prog_8_method_2_code 19 = .ok (.iload_n 2, 1) := by decide +kernel
theorem d_Paths_isRight_20 : decode prog_8_method_2_code 20 = .ok (.ifCond .eq 38, 3) := by decide +kernel
theorem d_Paths_isRight_23 : decode prog_8_method_2_code 23 = .ok (.iload_n 1, 1) := by decide +kernel
theorem d_Paths_isRight_24 : decode prog_8_method_2_code 24 = .ok (.ifCond .eq 34, 3) := by decide +kernel
theorem d_Paths_isRight_27 : decode prog_8_method_2_code 27 = .ok (.iload_n 1, 1) := by decide +kernel
theorem d_Paths_isRight_28 : decode prog_8_method_2_code 28 = .ok (.bipush 127, 2) := by decide +kernel
theorem d_Paths_isRight_30 : decode prog_8_method_2_code 30 = .ok (.iand, 1) := by decide +kernel
theorem d_Paths_isRight_31 : decode prog_8_method_2_code 31 = .ok (.iconst 1, 1) := by decide +kernel
theorem d_Paths_isRight_32 : decode prog_8_method_2_code 32 = .ok (.if_icmp .lt 16, 3) := by decide +kernel
theorem d_Paths_isRight_35 : decode prog_8_method_2_code 35 = .ok (.iload_n 1, 1) := by decide +kernel
theorem d_Paths_isRight_36 : decode prog_8_method_2_code 36 = .ok (.bipush 127, 2) := by decide +kernel
theorem d_Paths_isRight_38 : decode prog_8_method_2_code 38 = .ok (.iand, 1) := by decide +kernel
theorem d_Paths_isRight_39 : decode prog_8_method_2_code 39 = .ok (.bipush 100, 2) := by decide +kernel
theorem d_Paths_isRight_41 : decode prog_8_method_2_code 41 = .ok (.if_icmp .gt 7, 3) := by decide +kernel
theorem d_Paths_isRight_44 : decode prog_8_method_2_code 44 = .ok (.iconst 1, 1) := by decide +kernel
theorem d_Paths_isRight_45 : decode prog_8_method_2_code 45 = .ok (.goto 4, 3) := by decide +kernel
theorem d_Paths_isRight_48 : decode prog_8_method_2_code 48 = .ok (.iconst 0, 1) := by decide +kernel
theorem d_Paths_isRight_49 : decode prog_8_method_2_code 49 = .ok (.istore_n 2, 1) := by decide +kernel
theorem d_Paths_isRight_50 : decode prog_8_method_2_code 50 = .ok (.iload_n 1, 1) := by decide +kernel
theorem d_Paths_isRight_51 : decode prog_8_method_2_code 51 = .ok (.bipush 7, 2) := by decide +kernel
theorem d_Paths_isRight_53 : decode prog_8_method_2_code 53 = .ok (.iushr, 1) := by decide +kernel
theorem d_Paths_isRight_54 : decode prog_8_method_2_code 54 = .ok (.istore_n 1, 1) := by decide +kernel
theorem d_Paths_isRight_55 : decode prog_8_method_2_code 55 = .ok (.goto (-36), 3) := by decide +kernel
theorem d_Paths_isRight_58 : decode prog_8_method_2_code 58 = .ok (.iload_n 2, 1) := by decide +kernel
theorem d_Paths_isRight_59 : decode prog_8_method_2_code 59 = .ok (.ireturn, 1) := by decide +kernel
theorem d_Paths_depth_0 : decode prog_8_method_3_code 0 = .ok (.iconst 0, 1) := by decide +kernel
theorem d_Paths_depth_1 : decode prog_8_method_3_code 1 = .ok (.istore_n 1, 1) := by decide +kernel
theorem d_Paths_depth_2 : decode prog_8_method_3_code 2 = .ok (.iload_n 0, 1) := by decide +kernel
theorem d_Paths_depth_3 : decode prog_8_method_3_code 3 = .ok (.bipush 7, 2) := by decide +kernel
theorem d_Paths_depth_5 : decode prog_8_method_3_code 5 = .ok (.iload_n 1, 1) := by decide +kernel
theorem d_Paths_depth_6 : decode prog_8_method_3_code 6 = .ok (.imul, 1) := by decide +kernel
theorem d_Paths_depth_7 : decode prog_8_method_3_code 7 = .ok (.iushr, 1) := by decide +kernel
theorem d_Paths_depth_8 : decode prog_8_method_3_code 8 = .ok (.ifCond .eq 9, 3) := by decide +kernel
theorem d_Paths_depth_11 : decode prog_8_method_3_code 11 = .ok (.iinc 1 1, 3) := by decide +kernel
theorem d_Paths_depth_14 : decode prog_8_method_3_code 14 = .ok (.goto (-12), 3) := by decide +kernel
theorem d_Paths_depth_17 : decode prog_8_method_3_code 17 = .ok (.iload_n 1, 1) := by decide +kernel
theorem d_Paths_depth_18 : decode prog_8_method_3_code 18 = .ok (.ireturn, 1) := by decide +kernel
theorem d_Paths_top_0 : decode prog_8_method_4_code 0 = .ok (.iload_n 0, 1) := by decide +kernel
theorem d_Paths_top_1 : decode prog_8_method_4_code 1 = .ok (.iconst 1, 1) := by decide +kernel
theorem d_Paths_top_2 : decode prog_8_method_4_code 2 = .ok (.bipush 7, 2) := by decide +kernel
theorem d_Paths_top_4 : decode prog_8_method_4_code 4 = .ok (.iload_n 1, 1) := by decide +kernel
theorem d_Paths_top_5 : decode prog_8_method_4_code 5 = .ok (.imul, 1) := by decide +kernel
theorem d_Paths_top_6 : decode prog_8_method_4_code 6 = .ok (.ishl, 1) := by decide +kernel
theorem d_Paths_top_7 : decode prog_8_method_4_code 7 = .ok (.iconst 1, 1) := by decide +kernel
theorem d_Paths_top_8 : decode prog_8_method_4_code 8 = .ok (.isub, 1) := by decide +kernel
theorem d_Paths_top_9 : decode prog_8_method_4_code 9 = .ok (.iand, 1) := by decide +kernel
theorem d_Paths_top_10 : decode prog_8_method_4_code 10 = .ok (.ireturn, 1) := by decide +kernel
theorem d_Paths_parent_0 : decode prog_8_method_5_code 0 = .ok (.iload_n 0, 1) := by decide +kernel
theorem d_Paths_parent_1 : decode prog_8_method_5_code 1 = .ok (.iload_n 0, 1) := by decide +kernel
theorem d_Paths_parent_2 : decode prog_8_method_5_code 2 = .ok (.invokestatic 7, 3) := by decide +kernel
theorem d_Paths_parent_5 : decode prog_8_method_5_code 5 = .ok (.iconst 1, 1) := by decide +kernel
theorem d_Paths_parent_6 : decode prog_8_method_5_code 6 = .ok (.isub, 1) := by decide +kernel
theorem d_Paths_parent_7 : decode prog_8_method_5_code 7 = .ok (.invokestatic 13, 3) := by decide +kernel
theorem d_Paths_parent_10 : decode prog_8_method_5_code 10 = .ok (.ireturn, 1) := by decide +kernel
theorem d_Paths_name_0 : decode prog_8_method_6_code 0 = .ok (.iload_n 0, 1) := by decide +kernel
theorem d_Paths_name_1 : decode prog_8_method_6_code 1 = .ok (.bipush 7, 2) := by decide +kernel
theorem d_Paths_name_3 : decode prog_8_method_6_code 3 = .ok (.iload_n 0, 1) := by decide +kernel
theorem d_Paths_name_4 : decode prog_8_method_6_code 4 = .ok (.invokestatic 7, 3) := by decide +kernel
theorem d_Paths_name_7 : decode prog_8_method_6_code 7 = .ok (.iconst 1, 1) := by decide +kernel
theorem d_Paths_name_8 : decode prog_8_method_6_code 8 = .ok (.isub, 1) := by decide +kernel
theorem d_Paths_name_9 : decode prog_8_method_6_code 9 = .ok (.imul, 1) := by decide +kernel
theorem d_Paths_name_10 : decode prog_8_method_6_code 10 = .ok (.iushr, 1) := by decide +kernel
theorem d_Paths_name_11 : decode prog_8_method_6_code 11 = .ok (.bipush 127, 2) := by decide +kernel
theorem d_Paths_name_13 : decode prog_8_method_6_code 13 = .ok (.iand, 1) := by decide +kernel
theorem d_Paths_name_14 : decode prog_8_method_6_code 14 = .ok (.iconst 1, 1) := by decide +kernel
theorem d_Paths_name_15 : decode prog_8_method_6_code 15 = .ok (.isub, 1) := by decide +kernel
theorem d_Paths_name_16 : decode prog_8_method_6_code 16 = .ok (.ireturn, 1) := by decide +kernel
theorem d_Paths_child_0 : decode prog_8_method_7_code 0 = .ok (.iload_n 0, 1) := by decide +kernel
theorem d_Paths_child_1 : decode prog_8_method_7_code 1 = .ok (.iload_n 1, 1) := by decide +kernel
theorem d_Paths_child_2 : decode prog_8_method_7_code 2 = .ok (.iconst 1, 1) := by decide +kernel
theorem d_Paths_child_3 : decode prog_8_method_7_code 3 = .ok (.iadd, 1) := by decide +kernel
theorem d_Paths_child_4 : decode prog_8_method_7_code 4 = .ok (.bipush 7, 2) := by decide +kernel
theorem d_Paths_child_6 : decode prog_8_method_7_code 6 = .ok (.iload_n 0, 1) := by decide +kernel
theorem d_Paths_child_7 : decode prog_8_method_7_code 7 = .ok (.invokestatic 7, 3) := by decide +kernel
theorem d_Paths_child_10 : decode prog_8_method_7_code 10 = .ok (.imul, 1) := by decide +kernel
theorem d_Paths_child_11 : decode prog_8_method_7_code 11 = .ok (.ishl, 1) := by decide +kernel
theorem d_Paths_child_12 : decode prog_8_method_7_code 12 = .ok (.ior, 1) := by decide +kernel
theorem d_Paths_child_13 : decode prog_8_method_7_code 13 = .ok (.ireturn, 1) := by decide +kernel
theorem d_Paths_isIn_0 : decode prog_8_method_8_code 0 = .ok (.iload_n 0, 1) := by decide +kernel
theorem d_Paths_isIn_1 : decode prog_8_method_8_code 1 = .ok (.iload_n 1, 1) := by decide +kernel
theorem d_Paths_isIn_2 : decode prog_8_method_8_code 2 = .ok (.invokestatic 7, 3) := by decide +kernel
theorem d_Paths_isIn_5 : decode prog_8_method_8_code 5 = .ok (.invokestatic 13, 3) := by decide +kernel
theorem d_Paths_isIn_8 : decode prog_8_method_8_code 8 = .ok (.iload_n 1, 1) := by decide +kernel
theorem d_Paths_isIn_9 : decode prog_8_method_8_code 9 = .ok (.if_icmp .ne 7, 3) := by decide +kernel
theorem d_Paths_isIn_12 : decode prog_8_method_8_code 12 = .ok (.iconst 1, 1) := by decide +kernel
theorem d_Paths_isIn_13 : decode prog_8_method_8_code 13 = .ok (.goto 4, 3) := by decide +kernel
theorem d_Paths_isIn_16 : decode prog_8_method_8_code 16 = .ok (.iconst 0, 1) := by decide +kernel
theorem d_Paths_isIn_17 : decode prog_8_method_8_code 17 = .ok (.ireturn, 1) := by decide +kernel
theorem d_Paths_compare_0 : decode prog_8_method_9_code 0 = .ok (.iload_n 0, 1) := by decide +kernel
theorem d_Paths_compare_1 : decode prog_8_method_9_code 1 = .ok (.istore_n 2, 1) := by decide +kernel
theorem d_Paths_compare_2 : decode prog_8_method_9_code 2 = .ok (.iload_n 1, 1) := by decide +kernel
theorem d_Paths_compare_3 : decode prog_8_method_9_code 3 = .ok (.istore_n 3, 1) := by decide +kernel
theorem d_Paths_compare_4 : decode prog_8_method_9_code 4 = .ok (.iload_n 2, 1) := by decide +kernel
theorem d_Paths_compare_5 : decode prog_8_method_9_code 5 = .ok (.iload_n 3, 1) := by decide +kernel
theorem d_Paths_compare_6 : decode prog_8_method_9_code 6 = .ok (.if_icmp .eq 27, 3) := by decide +kernel
theorem d_Paths_compare_9 : decode prog_8_method_9_code 9 = .ok (.iload_n 2, 1) := by decide +kernel
theorem d_Paths_compare_10 : decode prog_8_method_9_code 10 = .ok (.bipush 127, 2) := by decide +kernel
theorem d_Paths_compare_12 : decode prog_8_method_9_code 12 = .ok (.iand, 1) := by decide +kernel
theorem d_Paths_compare_13 : decode prog_8_method_9_code 13 = .ok (.iload_n 3, 1) := by decide +kernel
theorem d_Paths_compare_14 : decode prog_8_method_9_code 14 = .ok (.bipush 127, 2) := by decide +kernel
theorem d_Paths_compare_16 : decode prog_8_method_9_code 16 = .ok (.iand, 1) := by decide +kernel
theorem d_Paths_compare_17 : decode prog_8_method_9_code 17 = .ok (.if_icmp .ne 16, 3) := by decide +kernel
theorem d_Paths_compare_20 : decode prog_8_method_9_code 20 = .ok (.iload_n 2, 1) := by decide +kernel
theorem d_Paths_compare_21 : decode prog_8_method_9_code 21 = .ok (.bipush 7, 2) := by decide +kernel
theorem d_Paths_compare_23 : decode prog_8_method_9_code 23 = .ok (.iushr, 1) := by decide +kernel
theorem d_Paths_compare_24 : decode prog_8_method_9_code 24 = .ok (.istore_n 2, 1) := by decide +kernel
theorem d_Paths_compare_25 : decode prog_8_method_9_code 25 = .ok (.iload_n 3, 1) := by decide +kernel
theorem d_Paths_compare_26 : decode prog_8_method_9_code 26 = .ok (.bipush 7, 2) := by decide +kernel
theorem d_Paths_compare_28 : decode prog_8_method_9_code 28 = .ok (.iushr, 1) := by decide +kernel
theorem d_Paths_compare_29 : decode prog_8_method_9_code 29 = .ok (.istore_n 3, 1) := by decide +kernel
theorem d_Paths_compare_30 : decode prog_8_method_9_code 30 = .ok (.goto (-26), 3) := by decide +kernel
theorem d_Paths_compare_33 : decode prog_8_method_9_code 33 = .ok (.iload_n 2, 1) := by decide +kernel
theorem d_Paths_compare_34 : decode prog_8_method_9_code 34 = .ok (.bipush 127, 2) := by decide +kernel
theorem d_Paths_compare_36 : decode prog_8_method_9_code 36 = .ok (.iand, 1) := by decide +kernel
theorem d_Paths_compare_37 : decode prog_8_method_9_code 37 = .ok (.iload_n 3, 1) := by decide +kernel
theorem d_Paths_compare_38 : decode prog_8_method_9_code 38 = .ok (.bipush 127, 2) := by decide +kernel
theorem d_Paths_compare_40 : decode prog_8_method_9_code 40 = .ok (.iand, 1) := by decide +kernel
theorem d_Paths_compare_41 : decode prog_8_method_9_code 41 = .ok (.isub, 1) := by decide +kernel
theorem d_Paths_compare_42 : decode prog_8_method_9_code 42 = .ok (.ireturn, 1) := by decide +kernel
theorem d_Paths_renamed_0 : decode prog_8_method_10_code 0 = .ok (.bipush 7, 2) := by decide +kernel
theorem d_Paths_renamed_2 : decode prog_8_method_10_code 2 = .ok (.iload_n 1, 1) := by decide +kernel
theorem d_Paths_renamed_3 : decode prog_8_method_10_code 3 = .ok (.invokestatic 7, 3) := by decide +kernel
theorem d_Paths_renamed_6 : decode prog_8_method_10_code 6 = .ok (.iconst 1, 1) := by decide +kernel
theorem d_Paths_renamed_7 : decode prog_8_method_10_code 7 = .ok (.isub, 1) := by decide +kernel
theorem d_Paths_renamed_8 : decode prog_8_method_10_code 8 = .ok (.imul, 1) := by decide +kernel
theorem d_Paths_renamed_9 : decode prog_8_method_10_code 9 = .ok (.istore_n 3, 1) := by decide +kernel
theorem d_Paths_renamed_10 : decode prog_8_method_10_code 10 = .ok (.iload_n 0, 1) := by decide +kernel
theorem d_Paths_renamed_11 : decode prog_8_method_10_code 11 = .ok (.bipush 127, 2) := by decide +kernel
theorem d_Paths_renamed_13 : decode prog_8_method_10_code 13 = .ok (.iload_n 3, 1) := by decide +kernel
theorem d_Paths_renamed_14 : decode prog_8_method_10_code 14 = .ok (.ishl, 1) := by decide +kernel
theorem d_Paths_renamed_15 : decode prog_8_method_10_code 15 = .ok (.iconst (-1), 1) := by decide +kernel
theorem d_Paths_renamed_16 : decode prog_8_method_10_code 16 = .ok (.ixor, 1) := by decide +kernel
theorem d_Paths_renamed_17 : decode prog_8_method_10_code 17 = .ok (.iand, 1) := by decide +kernel
theorem d_Paths_renamed_18 : decode prog_8_method_10_code 18 = .ok (.iload_n 2, 1) := by decide +kernel
theorem d_Paths_renamed_19 : decode prog_8_method_10_code 19 = .ok (.iconst 1, 1) := by decide +kernel
theorem d_Paths_renamed_20 : decode prog_8_method_10_code 20 = .ok (.iadd, 1) := by decide +kernel
theorem d_Paths_renamed_21 : decode prog_8_method_10_code 21 = .ok (.iload_n 3, 1) := by decide +kernel
theorem d_Paths_renamed_22 : decode prog_8_method_10_code 22 = .ok (.ishl, 1) := by decide +kernel
theorem d_Paths_renamed_23 : decode prog_8_method_10_code 23 = .ok (.ior, 1) := by decide +kernel
theorem d_Paths_renamed_24 : decode prog_8_method_10_code 24 = .ok (.ireturn, 1) := by decide +kernel
theorem d_Paths_lifted_0 : decode prog_8_method_11_code 0 = .ok (.iload_n 1, 1) := by decide +kernel
theorem d_Paths_lifted_1 : decode prog_8_method_11_code 1 = .ok (.invokestatic 7, 3) := by decide +kernel
theorem d_Paths_lifted_4 : decode prog_8_method_11_code 4 = .ok (.iconst 2, 1) := by decide +kernel
theorem d_Paths_lifted_5 : decode prog_8_method_11_code 5 = .ok (.isub, 1) := by decide +kernel
theorem d_Paths_lifted_6 : decode prog_8_method_11_code 6 = .ok (.istore_n 2, 1) := by decide +kernel
theorem d_Paths_lifted_7 : decode prog_8_method_11_code 7 = .ok (.iload_n 0, 1) := by decide +kernel
theorem d_Paths_lifted_8 : decode prog_8_method_11_code 8 = .ok (.iload_n 2, 1) := by decide +kernel
theorem d_Paths_lifted_9 : decode prog_8_method_11_code 9 = .ok (.invokestatic 13, 3) := by decide +kernel
theorem d_Paths_lifted_12 : decode prog_8_method_11_code 12 = .ok (.iload_n 0, 1) := by decide +kernel
theorem d_Paths_lifted_13 : decode prog_8_method_11_code 13 = .ok (.bipush 7, 2) := by decide +kernel
theorem d_Paths_lifted_15 : decode prog_8_method_11_code 15 = .ok (.iload_n 2, 1) := by decide +kernel
theorem d_Paths_lifted_16 : decode prog_8_method_11_code 16 = .ok (.iconst 1, 1) := by decide +kernel
theorem d_Paths_lifted_17 : decode prog_8_method_11_code 17 = .ok (.iadd, 1) := by decide +kernel
theorem d_Paths_lifted_18 : decode prog_8_method_11_code 18 = .ok (.imul, 1) := by decide +kernel
theorem d_Paths_lifted_19 : decode prog_8_method_11_code 19 = .ok (.iushr, 1) := by decide +kernel
theorem d_Paths_lifted_20 : decode prog_8_method_11_code 20 = .ok (.bipush 7, 2) := by decide +kernel
theorem d_Paths_lifted_22 : decode prog_8_method_11_code 22 = .ok (.iload_n 2, 1) := by decide +kernel
theorem d_Paths_lifted_23 : decode prog_8_method_11_code 23 = .ok (.imul, 1) := by decide +kernel
theorem d_Paths_lifted_24 : decode prog_8_method_11_code 24 = .ok (.ishl, 1) := by decide +kernel
theorem d_Paths_lifted_25 : decode prog_8_method_11_code 25 = .ok (.ior, 1) := by decide +kernel
theorem d_Paths_lifted_26 : decode prog_8_method_11_code 26 = .ok (.ireturn, 1) := by decide +kernel
theorem d_Paths_sunk_0 : decode prog_8_method_12_code 0 = .ok (.iload_n 1, 1) := by decide +kernel
theorem d_Paths_sunk_1 : decode prog_8_method_12_code 1 = .ok (.invokestatic 7, 3) := by decide +kernel
theorem d_Paths_sunk_4 : decode prog_8_method_12_code 4 = .ok (.iconst 1, 1) := by decide +kernel
theorem d_Paths_sunk_5 : decode prog_8_method_12_code 5 = .ok (.isub, 1) := by decide +kernel
theorem d_Paths_sunk_6 : decode prog_8_method_12_code 6 = .ok (.istore_n 3, 1) := by decide +kernel
theorem d_Paths_sunk_7 : decode prog_8_method_12_code 7 = .ok (.iload_n 0, 1) := by decide +kernel
theorem d_Paths_sunk_8 : decode prog_8_method_12_code 8 = .ok (.iload_n 3, 1) := by decide +kernel
theorem d_Paths_sunk_9 : decode prog_8_method_12_code 9 = .ok (.invokestatic 13, 3) := by decide +kernel
theorem d_Paths_sunk_12 : decode prog_8_method_12_code 12 = .ok (.iload_n 2, 1) := by decide +kernel
theorem d_Paths_sunk_13 : decode prog_8_method_12_code 13 = .ok (.iconst 1, 1) := by decide +kernel
theorem d_Paths_sunk_14 : decode prog_8_method_12_code 14 = .ok (.iadd, 1) := by decide +kernel
theorem d_Paths_sunk_15 : decode prog_8_method_12_code 15 = .ok (.bipush 7, 2) := by decide +kernel
theorem d_Paths_sunk_17 : decode prog_8_method_12_code 17 = .ok (.iload_n 3, 1) := by decide +kernel
theorem d_Paths_sunk_18 : decode prog_8_method_12_code 18 = .ok (.imul, 1) := by decide +kernel
theorem d_Paths_sunk_19 : decode prog_8_method_12_code 19 = .ok (.ishl, 1) := by decide +kernel
theorem d_Paths_sunk_20 : decode prog_8_method_12_code 20 = .ok (.ior, 1) := by decide +kernel
theorem d_Paths_sunk_21 : decode prog_8_method_12_code 21 = .ok (.iload_n 0, 1) := by decide +kernel
theorem d_Paths_sunk_22 : decode prog_8_method_12_code 22 = .ok (.bipush 7, 2) := by decide +kernel
theorem d_Paths_sunk_24 : decode prog_8_method_12_code 24 = .ok (.iload_n 3, 1) := by decide +kernel
theorem d_Paths_sunk_25 : decode prog_8_method_12_code 25 = .ok (.imul, 1) := by decide +kernel
theorem d_Paths_sunk_26 : decode prog_8_method_12_code 26 = .ok (.iushr, 1) := by decide +kernel
theorem d_Paths_sunk_27 : decode prog_8_method_12_code 27 = .ok (.bipush 7, 2) := by decide +kernel
theorem d_Paths_sunk_29 : decode prog_8_method_12_code 29 = .ok (.iload_n 3, 1) := by decide +kernel
theorem d_Paths_sunk_30 : decode prog_8_method_12_code 30 = .ok (.iconst 1, 1) := by decide +kernel
theorem d_Paths_sunk_31 : decode prog_8_method_12_code 31 = .ok (.iadd, 1) := by decide +kernel
theorem d_Paths_sunk_32 : decode prog_8_method_12_code 32 = .ok (.imul, 1) := by decide +kernel
theorem d_Paths_sunk_33 : decode prog_8_method_12_code 33 = .ok (.ishl, 1) := by decide +kernel
theorem d_Paths_sunk_34 : decode prog_8_method_12_code 34 = .ok (.ior, 1) := by decide +kernel
theorem d_Paths_sunk_35 : decode prog_8_method_12_code 35 = .ok (.ireturn, 1) := by decide +kernel
theorem d_Place_init_0 : decode prog_9_method_1_code 0 = .ok (.aload_n 0, 1) := by decide +kernel
theorem d_Place_init_1 : decode prog_9_method_1_code 1 = .ok (.invokespecial 3, 3) := by decide +kernel
theorem d_Place_init_4 : decode prog_9_method_1_code 4 = .ok (.aload_n 0, 1) := by decide +kernel
theorem d_Place_init_5 : decode prog_9_method_1_code 5 = .ok (.bipush 6, 2) := by decide +kernel
theorem d_Place_init_7 : decode prog_9_method_1_code 7 = .ok (.newarray .int, 2) := by decide +kernel
theorem d_Place_init_9 : decode prog_9_method_1_code 9 = .ok (.putfield 9, 3) := by decide +kernel
theorem d_Place_init_12 : decode prog_9_method_1_code 12 = .ok (.return_, 1) := by decide +kernel
theorem d_Place_clear_0 : decode prog_9_method_2_code 0 = .ok (.aload_n 0, 1) := by decide +kernel
theorem d_Place_clear_1 : decode prog_9_method_2_code 1 = .ok (.iconst 0, 1) := by decide +kernel
theorem d_Place_clear_2 : decode prog_9_method_2_code 2 = .ok (.iconst 0, 1) := by decide +kernel
theorem d_Place_clear_3 : decode prog_9_method_2_code 3 = .ok (.invokevirtual 15, 3) := by decide +kernel
theorem d_Place_clear_6 : decode prog_9_method_2_code 6 = .ok (.return_, 1) := by decide +kernel
theorem d_Place_set_0 : decode prog_9_method_3_code 0 = .ok (.aload_n 0, 1) := by decide +kernel
theorem d_Place_set_1 : decode prog_9_method_3_code 1 = .ok (.iload_n 1, 1) := by decide +kernel
theorem d_Place_set_2 : decode prog_9_method_3_code 2 = .ok (.putfield 19, 3) := by decide +kernel
theorem d_Place_set_5 : decode prog_9_method_3_code 5 = .ok (.aload_n 0, 1) := by decide +kernel
theorem d_Place_set_6 : decode prog_9_method_3_code 6 = .ok (.iload_n 1, 1) := by decide +kernel
theorem d_Place_set_7 : decode prog_9_method_3_code 7 = .ok (.ifCond .eq 7, 3) := by decide +kernel
theorem d_Place_set_10 : decode prog_9_method_3_code 10 = .ok (.iconst 0, 1) := by decide +kernel
theorem d_Place_set_11 : decode prog_9_method_3_code 11 = .ok (.goto 4, 3) := by decide +kernel
theorem d_Place_set_14 : decode prog_9_method_3_code 14 = .ok (.iconst 1, 1) := by decide +kernel
theorem d_Place_set_15 : decode prog_9_method_3_code 15 = .ok (.putfield 23, 3) := by decide +kernel
theorem d_Place_set_18 : decode prog_9_method_3_code 18 = .ok (.aload_n 0, 1) := by decide +kernel
theorem d_Place_set_19 : decode prog_9_method_3_code 19 = .ok (.getfield 9, 3) := by decide +kernel
theorem d_Place_set_22 : decode prog_9_method_3_code 22 = .ok (.iconst 0, 1) := by decide +kernel
theorem d_Place_set_23 : decode prog_9_method_3_code 23 = .ok (.iload_n 2, 1) := by decide +kernel
theorem d_Place_set_24 : decode prog_9_method_3_code 24 = .ok (.iastore, 1) := by decide +kernel
theorem d_Place_set_25 : decode prog_9_method_3_code 25 = .ok (.return_, 1) := by decide +kernel
theorem d_Place_copy_0 : decode prog_9_method_4_code 0 = .ok (.aload_n 0, 1) := by decide +kernel
theorem d_Place_copy_1 : decode prog_9_method_4_code 1 = .ok (.aload_n 1, 1) := by decide +kernel
theorem d_Place_copy_2 : decode prog_9_method_4_code 2 = .ok (.getfield 19, 3) := by decide +kernel
theorem d_Place_copy_5 : decode prog_9_method_4_code 5 = .ok (.putfield 19, 3) := by decide +kernel
theorem d_Place_copy_8 : decode prog_9_method_4_code 8 = .ok (.aload_n 0, 1) := by decide +kernel
theorem d_Place_copy_9 : decode prog_9_method_4_code 9 = .ok (.aload_n 1, 1) := by decide +kernel
theorem d_Place_copy_10 : decode prog_9_method_4_code 10 = .ok (.getfield 23, 3) := by decide +kernel
theorem d_Place_copy_13 : decode prog_9_method_4_code 13 = .ok (.putfield 23, 3) := by decide +kernel
theorem d_Place_copy_16 : decode prog_9_method_4_code 16 = .ok (.iconst 0, 1) := by decide +kernel
theorem d_Place_copy_17 : decode prog_9_method_4_code 17 = .ok (.istore_n 2, 1) := by decide +kernel
theorem d_Place_copy_18 : decode prog_9_method_4_code 18 = .ok (.iload_n 2, 1) := by decide +kernel
theorem d_Place_copy_19 : decode prog_9_method_4_code 19 = .ok (.aload_n 0, 1) := by decide +kernel
theorem d_Place_copy_20 : decode prog_9_method_4_code 20 = .ok (.getfield 23, 3) := by decide +kernel
theorem d_Place_copy_23 : decode prog_9_method_4_code 23 = .ok (.if_icmp .ge 21, 3) := by decide +kernel
theorem d_Place_copy_26 : decode prog_9_method_4_code 26 = .ok (.aload_n 0, 1) := by decide +kernel
theorem d_Place_copy_27 : decode prog_9_method_4_code 27 = .ok (.getfield 9, 3) := by decide +kernel
theorem d_Place_copy_30 : decode prog_9_method_4_code 30 = .ok (.iload_n 2, 1) := by decide +kernel
theorem d_Place_copy_31 : decode prog_9_method_4_code 31 = .ok (.aload_n 1, 1) := by decide +kernel
theorem d_Place_copy_32 : decode prog_9_method_4_code 32 = .ok (.getfield 9, 3) := by decide +kernel
theorem d_Place_copy_35 : decode prog_9_method_4_code 35 = .ok (.iload_n 2, 1) := by decide +kernel
theorem d_Place_copy_36 : decode prog_9_method_4_code 36 = .ok (.iaload, 1) := by decide +kernel
theorem d_Place_copy_37 : decode prog_9_method_4_code 37 = .ok (.iastore, 1) := by decide +kernel
theorem d_Place_copy_38 : decode prog_9_method_4_code 38 = .ok (.iinc 2 1, 3) := by decide +kernel
theorem d_Place_copy_41 : decode prog_9_method_4_code 41 = .ok (.goto (-23), 3) := by decide +kernel
theorem d_Place_copy_44 : decode prog_9_method_4_code 44 = .ok (.return_, 1) := by decide +kernel
theorem d_Place_isLike_0 : decode prog_9_method_5_code 0 = .ok (.aload_n 0, 1) := by decide +kernel
theorem d_Place_isLike_1 : decode prog_9_method_5_code 1 = .ok (.getfield 19, 3) := by decide +kernel
theorem d_Place_isLike_4 : decode prog_9_method_5_code 4 = .ok (.aload_n 1, 1) := by decide +kernel
theorem d_Place_isLike_5 : decode prog_9_method_5_code 5 = .ok (.getfield 19, 3) := by decide +kernel
theorem d_Place_isLike_8 : decode prog_9_method_5_code 8 = .ok (.if_icmp .ne 18, 3) := by decide +kernel
theorem d_Place_isLike_11 : decode prog_9_method_5_code 11 = .ok (.aload_n 0, 1) := by decide +kernel
theorem d_Place_isLike_12 : decode prog_9_method_5_code 12 = .ok (.getfield 23, 3) := by decide +kernel
theorem d_Place_isLike_15 : decode prog_9_method_5_code 15 = .ok (.aload_n 1, 1) := by decide +kernel
theorem d_Place_isLike_16 : decode prog_9_method_5_code 16 = .ok (.getfield 23, 3) := by decide +kernel
theorem d_Place_isLike_19 : decode prog_9_method_5_code 19 = .ok (.if_icmp .ne 7, 3) := by decide +kernel
theorem d_Place_isLike_22 : decode prog_9_method_5_code 22 = .ok (.iconst 1, 1) := by decide +kernel
theorem d_Place_isLike_23 : decode prog_9_method_5_code 23 = .ok (.goto 4, 3) := by decide +kernel
theorem d_Place_isLike_26 : decode prog_9_method_5_code 26 = .ok (.iconst 0, 1) := by decide +kernel
theorem d_Place_isLike_27 : decode prog_9_method_5_code 27 = .ok (.istore_n 2, 1) := by decide +kernel
theorem d_Place_isLike_28 : decode prog_9_method_5_code 28 = .ok (.iconst 0, 1) := by decide +kernel
theorem d_Place_isLike_29 : decode prog_9_method_5_code 29 = .ok (.istore_n 3, 1) := by decide +kernel
theorem d_Place_isLike_30 : decode prog_9_method_5_code 30 = .ok (.iload_n 3, 1) := by decide +kernel
theorem d_Place_isLike_31 : decode prog_9_method_5_code 31 = .ok (.aload_n 0, 1) := by decide +kernel
theorem d_Place_isLike_32 : decode prog_9_method_5_code 32 = .ok (.getfield 23, 3) := by decide +kernel
theorem d_Place_isLike_35 : decode prog_9_method_5_code 35 = .ok (.if_icmp .ge 34, 3) := by decide +kernel
theorem d_Place_isLike_38 : decode prog_9_method_5_code 38 = .ok (.iload_n 2, 1) := by decide +kernel
theorem d_Place_isLike_39 : decode prog_9_method_5_code 39 = .ok (.ifCond .eq 30, 3) := by decide +kernel
theorem d_Place_isLike_42 : decode prog_9_method_5_code 42 = .ok (.aload_n 0, 1) := by decide +kernel
theorem d_Place_isLike_43 : decode prog_9_method_5_code 43 = .ok (.getfield 9, 3) := by decide +kernel
theorem d_Place_isLike_46 : decode prog_9_method_5_code 46 = .ok (.iload_n 3, 1) := by decide +kernel
theorem d_Place_isLike_47 : decode prog_9_method_5_code 47 = .ok (.iaload, 1) := by decide +kernel
theorem d_Place_isLike_48 : decode prog_9_method_5_code 48 = .ok (.aload_n 1, 1) := by decide +kernel
theorem d_Place_isLike_49 : decode prog_9_method_5_code 49 = .ok (.getfield 9, 3) := by decide +kernel
theorem d_Place_isLike_52 : decode prog_9_method_5_code 52 = .ok (.iload_n 3, 1) := by decide +kernel
theorem d_Place_isLike_53 : decode prog_9_method_5_code 53 = .ok (.iaload, 1) := by decide +kernel
theorem d_Place_isLike_54 : decode prog_9_method_5_code 54 = .ok (.if_icmp .ne 7, 3) := by decide +kernel
theorem d_Place_isLike_57 : decode prog_9_method_5_code 57 = .ok (.iconst 1, 1) := by decide +kernel
theorem d_Place_isLike_58 : decode prog_9_method_5_code 58 = .ok (.goto 4, 3) := by decide +kernel
theorem d_Place_isLike_61 : decode prog_9_method_5_code 61 = .ok (.iconst 0, 1) := by decide +kernel
theorem d_Place_isLike_62 : decode prog_9_method_5_code 62 = .ok (.istore_n 2, 1) := by decide +kernel
theorem d_Place_isLike_63 : decode prog_9_method_5_code 63 = .ok (.iinc 3 1, 3) := by decide +kernel
theorem d_Place_isLike_66 : decode prog_9_method_5_code 66 = .ok (.goto (-36), 3) := by decide +kernel
theorem d_Place_isLike_69 : decode prog_9_method_5_code 69 = .ok (.iload_n 2, 1) := by decide +kernel
theorem d_Place_isLike_70 : decode prog_9_method_5_code 70 = .ok (.ireturn, 1) := by decide +kernel
theorem d_Place_isDefault_0 : decode prog_9_method_6_code 0 = .ok (.aload_n 0, 1) := by decide +kernel
theorem d_Place_isDefault_1 : decode prog_9_method_6_code 1 = .ok (.getfield 19, 3) := by decide +kernel
theorem d_Place_isDefault_4 : decode prog_9_method_6_code 4 = .ok (.ifCond .eq 18, 3) := by decide +kernel
theorem d_Place_isDefault_7 : decode prog_9_method_6_code 7 = .ok (.aload_n 0, 1) := by decide +kernel
theorem d_Place_isDefault_8 : decode prog_9_method_6_code 8 = .ok (.getfield 23, 3) := by decide +kernel
theorem d_Place_isDefault_11 : decode prog_9_method_6_code 11 = .ok (.ifCond .ne 7, 3) := by decide +kernel
theorem d_Place_isDefault_14 : decode prog_9_method_6_code 14 = .ok (.iconst 1, 1) := by decide +kernel
theorem d_Place_isDefault_15 : decode prog_9_method_6_code 15 = .ok (.goto 25, 3) := by decide +kernel
theorem d_Place_isDefault_18 : decode prog_9_method_6_code 18 = .ok (.iconst 0, 1) := by decide +kernel
theorem d_Place_isDefault_19 : decode prog_9_method_6_code 19 = .ok (.goto 21, 3) := by decide +kernel
theorem d_Place_isDefault_22 : decode prog_9_method_6_code 22 = .ok (.aload_n 0, 1) := by decide +kernel
theorem d_Place_isDefault_23 : decode prog_9_method_6_code 23 = .ok (.getfield 9, 3) := by decide +kernel
theorem d_Place_isDefault_26 : decode prog_9_method_6_code 26 = .ok (.iconst 0, 1) := by decide +kernel
theorem d_Place_isDefault_27 : decode prog_9_method_6_code 27 = .ok (.iaload, 1) := by decide +kernel
theorem d_Place_isDefault_28 : decode prog_9_method_6_code 28 = .ok (.aload_n 1, 1) := by decide +kernel
theorem d_Place_isDefault_29 : decode prog_9_method_6_code 29 = .ok (.invokevirtual 27, 3) := by decide +kernel
theorem d_Place_isDefault_32 : decode prog_9_method_6_code 32 = .ok (.if_icmp .ne 7, 3) := by decide +kernel
theorem d_Place_isDefault_35 : decode prog_9_method_6_code 35 = .ok (.iconst 1, 1) := by decide +kernel
theorem d_Place_isDefault_36 : decode prog_9_method_6_code 36 = .ok (.goto 4, 3) := by decide +kernel
theorem d_Place_isDefault_39 : decode prog_9_method_6_code 39 = .ok (.iconst 0, 1) := by decide +kernel
theorem d_Place_isDefault_40 : decode prog_9_method_6_code 40 = .ok (.ireturn, 1) := by decide +kernel
theorem d_Place_sort_0 : decode prog_9_method_7_code 0 = .ok (.iconst 1, 1) := by decide +kernel
theorem d_Place_sort_1 : decode prog_9_method_7_code 1 = .ok (.istore_n 1, 1) := by decide +kernel
theorem d_Place_sort_2 : decode prog_9_method_7_code 2 = .ok (.iload_n 1, 1) := by decide +kernel
theorem d_Place_sort_3 : decode prog_9_method_7_code 3 = .ok (.aload_n 0, 1) := by decide +kernel
theorem d_Place_sort_4 : decode prog_9_method_7_code 4 = .ok (.getfield 23, 3) := by decide +kernel
theorem d_Place_sort_7 : decode prog_9_method_7_code 7 = .ok (.if_icmp .ge 61, 3) := by decide +kernel
theorem d_Place_sort_10 : decode prog_9_method_7_code 10 = .ok (.aload_n 0, 1) := by decide +kernel
theorem d_Place_sort_11 : decode prog_9_method_7_code 11 = .ok (.getfield 9, 3) := by decide +kernel
theorem d_Place_sort_14 : decode prog_9_method_7_code 14 = .ok (.iload_n 1, 1) := by decide +kernel
theorem d_Place_sort_15 : decode prog_9_method_7_code 15 = .ok (.iaload, 1) := by decide +kernel
theorem d_Place_sort_16 : decode prog_9_method_7_code 16 = .ok (.istore_n 2, 1) := by decide +kernel
theorem d_Place_sort_17 : decode prog_9_method_7_code 17 = .ok (.iload_n 1, 1) := by decide +kernel
theorem d_Place_sort_18 : decode prog_9_method_7_code 18 = .ok (.istore_n 3, 1) := by decide +kernel
theorem d_Place_sort_19 : decode prog_9_method_7_code 19 = .ok (.iload_n 3, 1) := by decide +kernel
theorem d_Place_sort_20 : decode prog_9_method_7_code 20 = .ok (.ifCond .le 35, 3) := by decide +kernel
theorem d_Place_sort_23 : decode prog_9_method_7_code 23 = .ok (.aload_n 0, 1) := by decide +kernel
theorem d_Place_sort_24 : decode prog_9_method_7_code 24 = .ok (.getfield 9, 3) := by decide +kernel
theorem d_Place_sort_27 : decode prog_9_method_7_code 27 = .ok (.iload_n 3, 1) := by decide +kernel
theorem d_Place_sort_28 : decode prog_9_method_7_code 28 = .ok (.iconst 1, 1) := by decide +kernel
theorem d_Place_sort_29 : decode prog_9_method_7_code 29 = .ok (.isub, 1) := by decide +kernel
theorem d_Place_sort_30 : decode prog_9_method_7_code 30 = .ok (.iaload, 1) := by decide +kernel
theorem d_Place_sort_31 : decode prog_9_method_7_code 31 = .ok (.iload_n 2, 1) := by decide +kernel
theorem d_Place_sort_32 : decode prog_9_method_7_code 32 = .ok (.if_icmp .le 23, 3) := by decide +kernel
theorem d_Place_sort_35 : decode prog_9_method_7_code 35 = .ok (.aload_n 0, 1) := by decide +kernel
theorem d_Place_sort_36 : decode prog_9_method_7_code 36 = .ok (.getfield 9, 3) := by decide +kernel
theorem d_Place_sort_39 : decode prog_9_method_7_code 39 = .ok (.iload_n 3, 1) := by decide +kernel
theorem d_Place_sort_40 : decode prog_9_method_7_code 40 = .ok (.aload_n 0, 1) := by decide +kernel
theorem d_Place_sort_41 : decode prog_9_method_7_code 41 = .ok (.getfield 9, 3) := by decide +kernel
theorem d_Place_sort_44 : decode prog_9_method_7_code 44 = .ok (.iload_n 3, 1) := by decide +kernel
theorem d_Place_sort_45 : decode prog_9_method_7_code 45 = .ok (.iconst 1, 1) := by decide +kernel
theorem d_Place_sort_46 : decode prog_9_method_7_code 46 = .ok (.isub, 1) := by decide +kernel
theorem d_Place_sort_47 : decode prog_9_method_7_code 47 = .ok (.iaload, 1) := by decide +kernel
theorem d_Place_sort_48 : decode prog_9_method_7_code 48 = .ok (.iastore, 1) := by decide +kernel
theorem d_Place_sort_49 : decode prog_9_method_7_code 49 = .ok (.iinc 3 (-1), 3) := by decide +kernel
theorem d_Place_sort_52 : decode prog_9_method_7_code 52 = .ok (.goto (-33), 3) := by decide +kernel
theorem d_Place_sort_55 : decode prog_9_method_7_code 55 = .ok (.aload_n 0, 1) := by decide +kernel
theorem d_Place_sort_56 : decode prog_9_method_7_code 56 = .ok (.getfield 9, 3) := by decide +kernel
theorem d_Place_sort_59 : decode prog_9_method_7_code 59 = .ok (.iload_n 3, 1) := by decide +kernel
theorem d_Place_sort_60 : decode prog_9_method_7_code 60 = .ok (.iload_n 2, 1) := by decide +kernel
theorem d_Place_sort_61 : decode prog_9_method_7_code 61 = .ok (.iastore, 1) := by decide +kernel
theorem d_Place_sort_62 : decode prog_9_method_7_code 62 = .ok (.iinc 1 1, 3) := by decide +kernel
theorem d_Place_sort_65 : decode prog_9_method_7_code 65 = .ok (.goto (-63), 3) := by decide +kernel
theorem d_Place_sort_68 : decode prog_9_method_7_code 68 = .ok (.return_, 1) := by decide +kernel
theorem d_Places_init_0 : decode prog_10_method_1_code 0 = .ok (.aload_n 0, 1) := by decide +kernel
theorem d_Places_init_1 : decode prog_10_method_1_code 1 = .ok (.invokespecial 1, 3) := by decide +kernel
theorem d_Places_init_4 : decode prog_10_method_1_code 4 = .ok (.return_, 1) := by decide +kernel
theorem d_Places_make1_0 : decode prog_10_method_2_code 0 = .ok (.new 7, 3) := by decide +kernel
theorem d_Places_make1_3 : decode prog_10_method_2_code 3 = .ok (.dup, 1) := by decide +kernel
theorem d_Places_make1_4 : decode prog_10_method_2_code 4 = .ok (.invokespecial 9, 3) := by decide +kernel
theorem d_Places_make1_7 : decode prog_10_method_2_code 7 = .ok (.areturn, 1) := by decide +kernel
theorem d_Places_make2_0 : decode prog_10_method_5_code 0 = .ok (.aload_n 0, 1) := by decide +kernel
theorem d_Places_make2_1 : decode prog_10_method_5_code 1 = .ok (.invokevirtual 37, 3) := by decide +kernel
theorem d_Places_make2_4 : decode prog_10_method_5_code 4 = .ok (.areturn, 1) := by decide +kernel
theorem d_Places_copy_0 : decode prog_10_method_3_code 0 = .ok (.aload_n 0, 1) := by decide +kernel
theorem d_Places_copy_1 : decode prog_10_method_3_code 1 = .ok (.invokevirtual 10, 3) := by decide +kernel
theorem d_Places_copy_4 : decode prog_10_method_3_code 4 = .ok (.iconst 0, 1) := by decide +kernel
theorem d_Places_copy_5 : decode prog_10_method_3_code 5 = .ok (.istore_n 2, 1) := by decide +kernel
theorem d_Places_copy_6 : decode prog_10_method_3_code 6 = .ok (.iload_n 2, 1) := by decide +kernel
theorem d_Places_copy_7 : decode prog_10_method_3_code 7 = .ok (.aload_n 1, 1) := by decide +kernel
theorem d_Places_copy_8 : decode prog_10_method_3_code 8 = .ok (.getfield 15, 3) := by decide +kernel
theorem d_Places_copy_11 : decode prog_10_method_3_code 11 = .ok (.if_icmp .ge 33, 3) := by decide +kernel
theorem d_Places_copy_14 : decode prog_10_method_3_code 14 = .ok (.aload_n 1, 1) := by decide +kernel
theorem d_Places_copy_15 : decode prog_10_method_3_code 15 = .ok (.iload_n 2, 1) := by decide +kernel
theorem d_Places_copy_16 : decode prog_10_method_3_code 16 = .ok (.invokevirtual 19, 3) := by decide +kernel
theorem d_Places_copy_19 : decode prog_10_method_3_code 19 = .ok (.checkcast 7, 3) := by decide +kernel
theorem d_Places_copy_22 : decode prog_10_method_3_code 22 = .ok (.astore_n 3, 1) := by decide +kernel
theorem d_Places_copy_23 : decode prog_10_method_3_code 23 = .ok (.aload_n 0, 1) := by decide +kernel
theorem d_Places_copy_24 : decode prog_10_method_3_code 24 = .ok (.aload_n 3, 1) := by decide +kernel
theorem d_Places_copy_25 : decode prog_10_method_3_code 25 = .ok (.getfield 23, 3) := by decide +kernel
theorem d_Places_copy_28 : decode prog_10_method_3_code 28 = .ok (.invokevirtual 26, 3) := by decide +kernel
theorem d_Places_copy_31 : decode prog_10_method_3_code 31 = .ok (.checkcast 7, 3) := by decide +kernel
theorem d_Places_copy_34 : decode prog_10_method_3_code 34 = .ok (.aload_n 3, 1) := by decide +kernel
theorem d_Places_copy_35 : decode prog_10_method_3_code 35 = .ok (.invokevirtual 29, 3) := by decide +kernel
theorem d_Places_copy_38 : decode prog_10_method_3_code 38 = .ok (.iinc 2 1, 3) := by decide +kernel
theorem d_Places_copy_41 : decode prog_10_method_3_code 41 = .ok (.goto (-35), 3) := by decide +kernel
theorem d_Places_copy_44 : decode prog_10_method_3_code 44 = .ok (.return_, 1) := by decide +kernel
theorem d_Places_isLike_0 : decode prog_10_method_4_code 0 = .ok (.aload_n 0, 1) := by decide +kernel
theorem d_Places_isLike_1 : decode prog_10_method_4_code 1 = .ok (.getfield 15, 3) := by decide +kernel
theorem d_Places_isLike_4 : decode prog_10_method_4_code 4 = .ok (.aload_n 1, 1) := by decide +kernel
theorem d_Places_isLike_5 : decode prog_10_method_4_code 5 = .ok (.getfield 15, 3) := by decide +kernel
theorem d_Places_isLike_8 : decode prog_10_method_4_code 8 = .ok (.if_icmp .ne 7, 3) := by decide +kernel
theorem d_Places_isLike_11 : decode prog_10_method_4_code 11 = .ok (.iconst 1, 1) := by decide +kernel
theorem d_Places_isLike_12 : decode prog_10_method_4_code 12 = .ok (.goto 4, 3) := by decide +kernel
theorem d_Places_isLike_15 : decode prog_10_method_4_code 15 = .ok (.iconst 0, 1) := by decide +kernel
theorem d_Places_isLike_16 : decode prog_10_method_4_code 16 = .ok (.istore_n 2, 1) := by decide +kernel
theorem d_Places_isLike_17 : decode prog_10_method_4_code 17 = .ok (.iconst 0, 1) := by decide +kernel
theorem d_Places_isLike_18 : decode prog_10_method_4_code 18 = .ok (.istore_n 3, 1) := by decide +kernel
theorem d_Places_isLike_19 : decode prog_10_method_4_code 19 = .ok (.iload_n 3, 1) := by decide +kernel
theorem d_Places_isLike_20 : decode prog_10_method_4_code 20 = .ok (.aload_n 0, 1) := by decide +kernel
theorem d_Places_isLike_21 : decode prog_10_method_4_code 21 = .ok (.getfield 15, 3) := by decide +kernel
theorem d_Places_isLike_24 : decode prog_10_method_4_code 24 = .ok (.if_icmp .ge 66, 3) := by decide +kernel
theorem d_Places_isLike_27 : decode prog_10_method_4_code 27 = .ok (.iload_n 2, 1) := by decide +kernel
theorem d_Places_isLike_28 : decode prog_10_method_4_code 28 = .ok (.ifCond .eq 62, 3) := by decide +kernel
theorem d_Places_isLike_31 : decode prog_10_method_4_code 31 = .ok (.aload_n 0, 1) := by decide +kernel
theorem d_Places_isLike_32 : decode prog_10_method_4_code 32 = .ok (.iload_n 3, 1) := by decide +kernel
theorem d_Places_isLike_33 : decode prog_10_method_4_code 33 = .ok (.invokevirtual 19, 3) := by decide +kernel
theorem d_Places_isLike_36 : decode prog_10_method_4_code 36 = .ok (.checkcast 7, 3) := by decide +kernel
theorem d_Places_isLike_39 : decode prog_10_method_4_code 39 = .ok (.getfield 23, 3) := by decide +kernel
theorem d_Places_isLike_42 : decode prog_10_method_4_code 42 = .ok (.aload_n 1, 1) := by decide +kernel
theorem d_Places_isLike_43 : decode prog_10_method_4_code 43 = .ok (.iload_n 3, 1) := by decide +kernel
theorem d_Places_isLike_44 : decode prog_10_method_4_code 44 = .ok (.invokevirtual 19, 3) := by decide +kernel
theorem d_Places_isLike_47 : decode prog_10_method_4_code 47 = .ok (.checkcast 7, 3) := by decide +kernel
theorem d_Places_isLike_50 : decode prog_10_method_4_code 50 = .ok (.getfield 23, 3) := by decide +kernel
theorem d_Places_isLike_53 : decode prog_10_method_4_code 53 = .ok (.if_icmp .ne 29, 3) := by decide +kernel
theorem d_Places_isLike_56 : decode prog_10_method_4_code 56 = .ok (.aload_n 0, 1) := by decide +kernel
theorem d_Places_isLike_57 : decode prog_10_method_4_code 57 = .ok (.iload_n 3, 1) := by decide +kernel
theorem d_Places_isLike_58 : decode prog_10_method_4_code 58 = .ok (.invokevirtual 19, 3) := by decide +kernel
theorem d_Places_isLike_61 : decode prog_10_method_4_code 61 = .ok (.checkcast 7, 3) := by decide +kernel
theorem d_Places_isLike_64 : decode prog_10_method_4_code 64 = .ok (.aload_n 1, 1) := by decide +kernel
theorem d_Places_isLike_65 : decode prog_10_method_4_code 65 = .ok (.iload_n 3, 1) := by decide +kernel
theorem d_Places_isLike_66 : decode prog_10_method_4_code 66 = .ok (.invokevirtual 19, 3) := by decide +kernel
theorem d_Places_isLike_69 : decode prog_10_method_4_code 69 = .ok (.checkcast 7, 3) := by decide +kernel
theorem d_Places_isLike_72 : decode prog_10_method_4_code 72 = .ok (.invokevirtual 33, 3) := by decide +kernel
theorem d_Places_isLike_75 : decode prog_10_method_4_code 75 = .ok (.ifCond .eq 7, 3) := by decide +kernel
theorem d_Places_isLike_78 : decode prog_10_method_4_code 78 = .ok (.iconst 1, 1) := by decide +kernel
theorem d_Places_isLike_79 : decode prog_10_method_4_code 79 = .ok (.goto 4, 3) := by decide +kernel
theorem d_Places_isLike_82 : decode prog_10_method_4_code 82 = .ok (.iconst 0, 1) := by decide +kernel
theorem d_Places_isLike_83 : decode prog_10_method_4_code 83 = .ok (.istore_n 2, 1) := by decide +kernel
theorem d_Places_isLike_84 : decode prog_10_method_4_code 84 = .ok (.iinc 3 1, 3) := by decide +kernel
theorem d_Places_isLike_87 : decode prog_10_method_4_code 87 = .ok (.goto (-68), 3) := by decide +kernel
theorem d_Places_isLike_90 : decode prog_10_method_4_code 90 = .ok (.iload_n 2, 1) := by decide +kernel
theorem d_Places_isLike_91 : decode prog_10_method_4_code 91 = .ok (.ireturn, 1) := by decide +kernel
theorem d_Prim_init_0 : decode prog_11_method_1_code 0 = .ok (.aload_n 0, 1) := by decide +kernel
theorem d_Prim_init_1 : decode prog_11_method_1_code 1 = .ok (.invokespecial 3, 3) := by decide +kernel
theorem d_Prim_init_4 : decode prog_11_method_1_code 4 = .ok (.return_, 1) := by decide +kernel
theorem d_Prim_to_0 : decode prog_11_method_2_code 0 = .ok (.aload_n 0, 1) := by decide +kernel
theorem d_Prim_to_1 : decode prog_11_method_2_code 1 = .ok (.getfield 9, 3) := by decide +kernel
theorem d_Prim_to_4 : decode prog_11_method_2_code 4 = .ok (.ifCond .ne 21, 3) := by decide +kernel
theorem d_Prim_to_7 : decode prog_11_method_2_code 7 = .ok (.aload_n 0, 1) := by decide +kernel
theorem d_Prim_to_8 : decode prog_11_method_2_code 8 = .ok (.getfield 15, 3) := by decide +kernel
theorem d_Prim_to_11 : decode prog_11_method_2_code 11 = .ok (.aload_n 0, 1) := by decide +kernel
theorem d_Prim_to_12 : decode prog_11_method_2_code 12 = .ok (.getfield 15, 3) := by decide +kernel
theorem d_Prim_to_15 : decode prog_11_method_2_code 15 = .ok (.aload_n 0, 1) := by decide +kernel
theorem d_Prim_to_16 : decode prog_11_method_2_code 16 = .ok (.getfield 18, 3) := by decide +kernel
theorem d_Prim_to_19 : decode prog_11_method_2_code 19 = .ok (.invokestatic 21, 3) := by decide +kernel
theorem d_Prim_to_22 : decode prog_11_method_2_code 22 = .ok (.goto 29, 3) := by decide +kernel
theorem d_Prim_to_25 : decode prog_11_method_2_code 25 = .ok (.aload_n 0, 1) := by decide +kernel
theorem d_Prim_to_26 : decode prog_11_method_2_code 26 = .ok (.getfield 9, 3) := by decide +kernel
theorem d_Prim_to_29 : decode prog_11_method_2_code 29 = .ok (.iconst 4, 1) := by decide +kernel
theorem d_Prim_to_30 : decode prog_11_method_2_code 30 = .ok (.if_icmp .ne 17, 3) := by decide +kernel
theorem d_Prim_to_33 : decode prog_11_method_2_code 33 = .ok (.aload_n 0, 1) := by decide +kernel
theorem d_Prim_to_34 : decode prog_11_method_2_code 34 = .ok (.getfield 15, 3) := by decide +kernel
theorem d_Prim_to_37 : decode prog_11_method_2_code 37 = .ok (.aload_n 0, 1) := by decide +kernel
theorem d_Prim_to_38 : decode prog_11_method_2_code 38 = .ok (.getfield 15, 3) := by decide +kernel
theorem d_Prim_to_41 : decode prog_11_method_2_code 41 = .ok (.invokestatic 27, 3) := by decide +kernel
theorem d_Prim_to_44 : decode prog_11_method_2_code 44 = .ok (.goto 7, 3) := by decide +kernel
theorem d_Prim_to_47 : decode prog_11_method_2_code 47 = .ok (.aload_n 0, 1) := by decide +kernel
theorem d_Prim_to_48 : decode prog_11_method_2_code 48 = .ok (.getfield 15, 3) := by decide +kernel
theorem d_Prim_to_51 : decode prog_11_method_2_code 51 = .ok (.ireturn, 1) := by decide +kernel
theorem d_Prim_beside_0 : decode prog_11_method_3_code 0 = .ok (.aload_n 0, 1) := by decide +kernel
theorem d_Prim_beside_1 : decode prog_11_method_3_code 1 = .ok (.getfield 15, 3) := by decide +kernel
theorem d_Prim_beside_4 : decode prog_11_method_3_code 4 = .ok (.invokestatic 31, 3) := by decide +kernel
theorem d_Prim_beside_7 : decode prog_11_method_3_code 7 = .ok (.aload_n 0, 1) := by decide +kernel
theorem d_Prim_beside_8 : decode prog_11_method_3_code 8 = .ok (.getfield 35, 3) := by decide +kernel
theorem d_Prim_beside_11 : decode prog_11_method_3_code 11 = .ok (.invokestatic 38, 3) := by decide +kernel
theorem d_Prim_beside_14 : decode prog_11_method_3_code 14 = .ok (.ireturn, 1) := by decide +kernel
theorem d_Prim_zero_0 : decode prog_11_method_4_code 0 = .ok (.iconst 0, 1) := by decide +kernel
theorem d_Prim_zero_1 : decode prog_11_method_4_code 1 = .ok (.aload_n 0, 1) := by decide +kernel
theorem d_Prim_zero_2 : decode prog_11_method_4_code 2 = .ok (.getfield 41, 3) := by decide +kernel
theorem d_Prim_zero_5 : decode prog_11_method_4_code 5 = .ok (.aload_n 0, 1) := by decide +kernel
theorem d_Prim_zero_6 : decode prog_11_method_4_code 6 = .ok (.getfield 44, 3) := by decide +kernel
theorem d_Prim_zero_9 : decode prog_11_method_4_code 9 = .ok (.invokestatic 47, 3) := by decide +kernel
theorem d_Prim_zero_12 : decode prog_11_method_4_code 12 = .ok (.ireturn, 1) := by decide +kernel
theorem d_Prim_quotient_0 : decode prog_11_method_5_code 0 = .ok (.iload_n 0, 1) := by decide +kernel
theorem d_Prim_quotient_1 : decode prog_11_method_5_code 1 = .ok (.i2l, 1) := by decide +kernel
theorem d_Prim_quotient_2 : decode prog_11_method_5_code 2 = .ok (.iload_n 1, 1) := by decide +kernel
theorem d_Prim_quotient_3 : decode prog_11_method_5_code 3 = .ok (.i2l, 1) := by decide +kernel
theorem d_Prim_quotient_4 : decode prog_11_method_5_code 4 = .ok (.lmul, 1) := by decide +kernel
theorem d_Prim_quotient_5 : decode prog_11_method_5_code 5 = .ok (.iload_n 2, 1) := by decide +kernel
theorem d_Prim_quotient_6 : decode prog_11_method_5_code 6 = .ok (.i2l, 1) := by decide +kernel
theorem d_Prim_quotient_7 : decode prog_11_method_5_code 7 = .ok (.invokestatic 50, 3) := by decide +kernel
theorem d_Prim_quotient_10 : decode prog_11_method_5_code 10 = .ok (.lreturn, 1) := by decide +kernel
theorem d_Prim_scaled_0 : decode prog_11_method_6_code 0 = .ok (.iload_n 1, 1) := by decide +kernel
theorem d_Prim_scaled_1 : decode prog_11_method_6_code 1 = .ok (.aload_n 0, 1) := by decide +kernel
theorem d_Prim_scaled_2 : decode prog_11_method_6_code 2 = .ok (.getfield 18, 3) := by decide +kernel
theorem d_Prim_scaled_5 : decode prog_11_method_6_code 5 = .ok (.aload_n 0, 1) := by decide +kernel
theorem d_Prim_scaled_6 : decode prog_11_method_6_code 6 = .ok (.getfield 35, 3) := by decide +kernel
theorem d_Prim_scaled_9 : decode prog_11_method_6_code 9 = .ok (.invokestatic 56, 3) := by decide +kernel
theorem d_Prim_scaled_12 : decode prog_11_method_6_code 12 = .ok (.l2i, 1) := by decide +kernel
theorem d_Prim_scaled_13 : decode prog_11_method_6_code 13 = .ok (.ireturn, 1) := by decide +kernel
theorem d_Prim_unscaled_0 : decode prog_11_method_7_code 0 = .ok (.aload_n 0, 1) := by decide +kernel
theorem d_Prim_unscaled_1 : decode prog_11_method_7_code 1 = .ok (.getfield 41, 3) := by decide +kernel
theorem d_Prim_unscaled_4 : decode prog_11_method_7_code 4 = .ok (.i2l, 1) := by decide +kernel
theorem d_Prim_unscaled_5 : decode prog_11_method_7_code 5 = .ok (.aload_n 0, 1) := by decide +kernel
theorem d_Prim_unscaled_6 : decode prog_11_method_7_code 6 = .ok (.getfield 44, 3) := by decide +kernel
theorem d_Prim_unscaled_9 : decode prog_11_method_7_code 9 = .ok (.i2l, 1) := by decide +kernel
theorem d_Prim_unscaled_10 : decode prog_11_method_7_code 10 = .ok (.iload_n 1, 1) := by decide +kernel
theorem d_Prim_unscaled_11 : decode prog_11_method_7_code 11 = .ok (.aload_n 0, 1) := by decide +kernel
theorem d_Prim_unscaled_12 : decode prog_11_method_7_code 12 = .ok (.getfield 35, 3) := by decide +kernel
theorem d_Prim_unscaled_15 : decode prog_11_method_7_code 15 = .ok (.aload_n 0, 1) := by decide +kernel
theorem d_Prim_unscaled_16 : decode prog_11_method_7_code 16 = .ok (.getfield 18, 3) := by decide +kernel
theorem d_Prim_unscaled_19 : decode prog_11_method_7_code 19 = .ok (.invokestatic 56, 3) := by decide +kernel
theorem d_Prim_unscaled_22 : decode prog_11_method_7_code 22 = .ok (.invokestatic 60, 3) := by decide +kernel
theorem d_Prim_unscaled_25 : decode prog_11_method_7_code 25 = .ok (.invokestatic 63, 3) := by decide +kernel
theorem d_Prim_unscaled_28 : decode prog_11_method_7_code 28 = .ok (.l2i, 1) := by decide +kernel
theorem d_Prim_unscaled_29 : decode prog_11_method_7_code 29 = .ok (.ireturn, 1) := by decide +kernel
theorem d_Prim_isInt_0 : decode prog_11_method_8_code 0 = .ok (.iload_n 1, 1) := by decide +kernel
theorem d_Prim_isInt_1 : decode prog_11_method_8_code 1 = .ok (.aload_n 0, 1) := by decide +kernel
theorem d_Prim_isInt_2 : decode prog_11_method_8_code 2 = .ok (.getfield 18, 3) := by decide +kernel
theorem d_Prim_isInt_5 : decode prog_11_method_8_code 5 = .ok (.aload_n 0, 1) := by decide +kernel
theorem d_Prim_isInt_6 : decode prog_11_method_8_code 6 = .ok (.getfield 35, 3) := by decide +kernel
theorem d_Prim_isInt_9 : decode prog_11_method_8_code 9 = .ok (.invokestatic 56, 3) := by decide +kernel
theorem d_Prim_isInt_12 : decode prog_11_method_8_code 12 = .ok (.aload_n 0, 1) := by decide +kernel
theorem d_Prim_isInt_13 : decode prog_11_method_8_code 13 = .ok (.iload_n 1, 1) := by decide +kernel
theorem d_Prim_isInt_14 : decode prog_11_method_8_code 14 = .ok (.invokevirtual 66, 3) := by decide +kernel
theorem d_Prim_isInt_17 : decode prog_11_method_8_code 17 = .ok (.i2l, 1) := by decide +kernel
theorem d_Prim_isInt_18 : decode prog_11_method_8_code 18 = .ok (.lcmp, 1) := by decide +kernel
theorem d_Prim_isInt_19 : decode prog_11_method_8_code 19 = .ok (.ifCond .ne 7, 3) := by decide +kernel
theorem d_Prim_isInt_22 : decode prog_11_method_8_code 22 = .ok (.iconst 1, 1) := by decide +kernel
theorem d_Prim_isInt_23 : decode prog_11_method_8_code 23 = .ok (.goto 4, 3) := by decide +kernel
theorem d_Prim_isInt_26 : decode prog_11_method_8_code 26 = .ok (.iconst 0, 1) := by decide +kernel
theorem d_Prim_isInt_27 : decode prog_11_method_8_code 27 = .ok (.ireturn, 1) := by decide +kernel
theorem d_Prim_isDone1_0 : decode prog_11_method_9_code 0 = .ok (.aload_n 0, 1) := by decide +kernel
theorem d_Prim_isDone1_1 : decode prog_11_method_9_code 1 = .ok (.getfield 15, 3) := by decide +kernel
theorem d_Prim_isDone1_4 : decode prog_11_method_9_code 4 = .ok (.invokestatic 69, 3) := by decide +kernel
theorem d_Prim_isDone1_7 : decode prog_11_method_9_code 7 = .ok (.ifCond .eq 10, 3) := by decide +kernel
theorem d_Prim_isDone1_10 : decode prog_11_method_9_code 10 = .ok (.aload_n 0, 1) := by decide +kernel
theorem d_Prim_isDone1_11 : decode prog_11_method_9_code 11 = .ok (.getfield 15, 3) := by decide +kernel
theorem d_Prim_isDone1_14 : decode prog_11_method_9_code 14 = .ok (.ifCond .ne 5, 3) := by decide +kernel
theorem d_Prim_isDone1_17 : decode prog_11_method_9_code 17 = .ok (.iconst 0, 1) := by decide +kernel
theorem d_Prim_isDone1_18 : decode prog_11_method_9_code 18 = .ok (.ireturn, 1) := by decide +kernel
theorem d_Prim_isDone1_19 : decode prog_11_method_9_code 19 = .ok (.aload_n 0, 1) := by decide +kernel
theorem d_Prim_isDone1_20 : decode prog_11_method_9_code 20 = .ok (.getfield 9, 3) := by decide +kernel
theorem d_Prim_isDone1_23 : decode prog_11_method_9_code 23 = .ok (.iconst 1, 1) := by decide +kernel
theorem d_Prim_isDone1_24 : decode prog_11_method_9_code 24 = .ok (.if_icmp .ne 10, 3) := by decide +kernel
theorem d_Prim_isDone1_27 : decode prog_11_method_9_code 27 = .ok (.aload_n 0, 1) := by decide +kernel
theorem d_Prim_isDone1_28 : decode prog_11_method_9_code 28 = .ok (.aload_n 1, 1) := by decide +kernel
theorem d_Prim_isDone1_29 : decode prog_11_method_9_code 29 = .ok (.iload_n 2, 1) := by decide +kernel
theorem d_Prim_isDone1_30 : decode prog_11_method_9_code 30 = .ok (.invokevirtual 73, 3) := by decide +kernel
theorem d_Prim_isDone1_33 : decode prog_11_method_9_code 33 = .ok (.ireturn, 1) := by decide +kernel
theorem d_Prim_isDone1_34 : decode prog_11_method_9_code 34 = .ok (.aload_n 1, 1) := by decide +kernel
theorem d_Prim_isDone1_35 : decode prog_11_method_9_code 35 = .ok (.aload_n 0, 1) := by decide +kernel
theorem d_Prim_isDone1_36 : decode prog_11_method_9_code 36 = .ok (.getfield 15, 3) := by decide +kernel
theorem d_Prim_isDone1_39 : decode prog_11_method_9_code 39 = .ok (.invokevirtual 77, 3) := by decide +kernel
theorem d_Prim_isDone1_42 : decode prog_11_method_9_code 42 = .ok (.checkcast 83, 3) := by decide +kernel
theorem d_Prim_isDone1_45 : decode prog_11_method_9_code 45 = .ok (.astore_n 3, 1) := by decide +kernel
theorem d_Prim_isDone1_46 : decode prog_11_method_9_code 46 = .ok (.aload_n 3, 1) := by decide +kernel
theorem d_Prim_isDone1_47 : decode prog_11_method_9_code 47 = .ok (.ifnonnull 5, 3) := by decide +kernel
theorem d_Prim_isDone1_50 : decode prog_11_method_9_code 50 = .ok (.iconst 0, 1) := by decide +kernel
theorem d_Prim_isDone1_51 : decode prog_11_method_9_code 51 = .ok (.ireturn, 1) := by decide +kernel
theorem d_Prim_isDone1_52 : decode prog_11_method_9_code 52 = .ok (.aload_n 0, 1) := by decide +kernel
theorem d_Prim_isDone1_53 : decode prog_11_method_9_code 53 = .ok (.aload_n 3, 1) := by decide +kernel
theorem d_Prim_isDone1_54 : decode prog_11_method_9_code 54 = .ok (.getfield 85, 3) := by decide +kernel
theorem d_Prim_isDone1_57 : decode prog_11_method_9_code 57 = .ok (.putfield 88, 3) := by decide +kernel
theorem d_Prim_isDone1_60 : decode prog_11_method_9_code 60 = .ok (.aload_n 0, 1) := by decide +kernel
theorem d_Prim_isDone1_61 : decode prog_11_method_9_code 61 = .ok (.aload_n 3, 1) := by decide +kernel
theorem d_Prim_isDone1_62 : decode prog_11_method_9_code 62 = .ok (.getfield 89, 3) := by decide +kernel
theorem d_Prim_isDone1_65 : decode prog_11_method_9_code 65 = .ok (.putfield 41, 3) := by decide +kernel
theorem d_Prim_isDone1_68 : decode prog_11_method_9_code 68 = .ok (.aload_n 0, 1) := by decide +kernel
theorem d_Prim_isDone1_69 : decode prog_11_method_9_code 69 = .ok (.aload_n 3, 1) := by decide +kernel
theorem d_Prim_isDone1_70 : decode prog_11_method_9_code 70 = .ok (.getfield 90, 3) := by decide +kernel
theorem d_Prim_isDone1_73 : decode prog_11_method_9_code 73 = .ok (.putfield 44, 3) := by decide +kernel
theorem d_Prim_isDone1_76 : decode prog_11_method_9_code 76 = .ok (.aload_n 0, 1) := by decide +kernel
theorem d_Prim_isDone1_77 : decode prog_11_method_9_code 77 = .ok (.aload_n 1, 1) := by decide +kernel
theorem d_Prim_isDone1_78 : decode prog_11_method_9_code 78 = .ok (.aload_n 3, 1) := by decide +kernel
theorem d_Prim_isDone1_79 : decode prog_11_method_9_code 79 = .ok (.invokevirtual 91, 3) := by decide +kernel
theorem d_Prim_isDone1_82 : decode prog_11_method_9_code 82 = .ok (.ireturn, 1) := by decide +kernel
theorem d_Prim_isDone2_0 : decode prog_11_method_11_code 0 = .ok (.aload_n 0, 1) := by decide +kernel
theorem d_Prim_isDone2_1 : decode prog_11_method_11_code 1 = .ok (.getfield 88, 3) := by decide +kernel
theorem d_Prim_isDone2_4 : decode prog_11_method_11_code 4 = .ok (.ifCond .ne 7, 3) := by decide +kernel
theorem d_Prim_isDone2_7 : decode prog_11_method_11_code 7 = .ok (.iconst 1, 1) := by decide +kernel
theorem d_Prim_isDone2_8 : decode prog_11_method_11_code 8 = .ok (.goto 4, 3) := by decide +kernel
theorem d_Prim_isDone2_11 : decode prog_11_method_11_code 11 = .ok (.iconst 0, 1) := by decide +kernel
theorem d_Prim_isDone2_12 : decode prog_11_method_11_code 12 = .ok (.istore_n 3, 1) := by decide +kernel
theorem d_Prim_isDone2_13 : decode prog_11_method_11_code 13 = .ok (.aload_n 0, 1) := by decide +kernel
theorem d_Prim_isDone2_14 : decode prog_11_method_11_code 14 = .ok (.getfield 9, 3) := by decide +kernel
theorem d_Prim_isDone2_17 : decode prog_11_method_11_code 17 = .ok (.tableswitch 467 0 7 #[47, 467, 101, 135, 146, 191, 301, 402], 47) := by decide +kernel
theorem d_Prim_isDone2_64 : decode prog_11_method_11_code 64 = .ok (.aload_n 0, 1) := by decide +kernel
theorem d_Prim_isDone2_65 : decode prog_11_method_11_code 65 = .ok (.getfield 18, 3) := by decide +kernel
theorem d_Prim_isDone2_68 : decode prog_11_method_11_code 68 = .ok (.ifCond .lt 27, 3) := by decide +kernel
theorem d_Prim_isDone2_71 : decode prog_11_method_11_code 71 = .ok (.aload_n 0, 1) := by decide +kernel
theorem d_Prim_isDone2_72 : decode prog_11_method_11_code 72 = .ok (.getfield 18, 3) := by decide +kernel
theorem d_Prim_isDone2_75 : decode prog_11_method_11_code 75 = .ok (.bipush 100, 2) := by decide +kernel
theorem d_Prim_isDone2_77 : decode prog_11_method_11_code 77 = .ok (.if_icmp .ge 18, 3) := by decide +kernel
theorem d_Prim_isDone2_80 : decode prog_11_method_11_code 80 = .ok (.aload_n 1, 1) := by decide +kernel
theorem d_Prim_isDone2_81 : decode prog_11_method_11_code 81 = .ok (.aload_n 0, 1) := by decide +kernel
theorem d_Prim_isDone2_82 : decode prog_11_method_11_code 82 = .ok (.invokevirtual 102, 3) := by decide +kernel
theorem d_Prim_isDone2_85 : decode prog_11_method_11_code 85 = .ok (.invokevirtual 77, 3) := by decide +kernel
theorem d_Prim_isDone2_88 : decode prog_11_method_11_code 88 = .ok (.ifnonnull 7, 3) := by decide +kernel
theorem d_Prim_isDone2_91 : decode prog_11_method_11_code 91 = .ok (.iconst 1, 1) := by decide +kernel
theorem d_Prim_isDone2_92 : decode prog_11_method_11_code 92 = .ok (.goto 4, 3) := by decide +kernel
theorem d_Prim_isDone2_95 : decode prog_11_method_11_code 95 = .ok (.iconst 0, 1) := by decide +kernel
theorem d_Prim_isDone2_96 : decode prog_11_method_11_code 96 = .ok (.istore 4, 2) := by decide +kernel
theorem d_Prim_isDone2_98 : decode prog_11_method_11_code 98 = .ok (.iload 4, 2) := by decide +kernel
theorem d_Prim_isDone2_100 : decode prog_11_method_11_code 100 = .ok (.ifCond .eq 15, 3) := by decide +kernel
theorem d_Prim_isDone2_103 : decode prog_11_method_11_code 103 = .ok (.aload_n 1, 1) := by decide +kernel
theorem d_Prim_isDone2_104 : decode prog_11_method_11_code 104 = .ok (.aload_n 0, 1) := by decide +kernel
theorem d_Prim_isDone2_105 : decode prog_11_method_11_code 105 = .ok (.getfield 15, 3) := by decide +kernel
theorem d_Prim_isDone2_108 : decode prog_11_method_11_code 108 = .ok (.aload_n 0, 1) := by decide +kernel
theorem d_Prim_isDone2_109 : decode prog_11_method_11_code 109 = .ok (.getfield 18, 3) := by decide +kernel
theorem d_Prim_isDone2_112 : decode prog_11_method_11_code 112 = .ok (.invokevirtual 106, 3) := by decide +kernel
theorem d_Prim_isDone2_115 : decode prog_11_method_11_code 115 = .ok (.iload 4, 2) := by decide +kernel
theorem d_Prim_isDone2_117 : decode prog_11_method_11_code 117 = .ok (.ireturn, 1) := by decide +kernel
theorem d_Prim_isDone2_118 : decode prog_11_method_11_code 118 = .ok (.aload_n 1, 1) := by decide +kernel
theorem d_Prim_isDone2_119 : decode prog_11_method_11_code 119 = .ok (.aload_n 0, 1) := by decide +kernel
theorem d_Prim_isDone2_120 : decode prog_11_method_11_code 120 = .ok (.getfield 15, 3) := by decide +kernel
theorem d_Prim_isDone2_123 : decode prog_11_method_11_code 123 = .ok (.invokevirtual 110, 3) := by decide +kernel
theorem d_Prim_isDone2_126 : decode prog_11_method_11_code 126 = .ok (.ifCond .ne 7, 3) := by decide +kernel
theorem d_Prim_isDone2_129 : decode prog_11_method_11_code 129 = .ok (.iconst 1, 1) := by decide +kernel
theorem d_Prim_isDone2_130 : decode prog_11_method_11_code 130 = .ok (.goto 4, 3) := by decide +kernel
theorem d_Prim_isDone2_133 : decode prog_11_method_11_code 133 = .ok (.iconst 0, 1) := by decide +kernel
theorem d_Prim_isDone2_134 : decode prog_11_method_11_code 134 = .ok (.istore 4, 2) := by decide +kernel
theorem d_Prim_isDone2_136 : decode prog_11_method_11_code 136 = .ok (.iload 4, 2) := by decide +kernel
theorem d_Prim_isDone2_138 : decode prog_11_method_11_code 138 = .ok (.ifCond .eq 11, 3) := by decide +kernel
theorem d_Prim_isDone2_141 : decode prog_11_method_11_code 141 = .ok (.aload_n 1, 1) := by decide +kernel
theorem d_Prim_isDone2_142 : decode prog_11_method_11_code 142 = .ok (.aload_n 0, 1) := by decide +kernel
theorem d_Prim_isDone2_143 : decode prog_11_method_11_code 143 = .ok (.getfield 15, 3) := by decide +kernel
theorem d_Prim_isDone2_146 : decode prog_11_method_11_code 146 = .ok (.invokevirtual 113, 3) := by decide +kernel
theorem d_Prim_isDone2_149 : decode prog_11_method_11_code 149 = .ok (.iload 4, 2) := by decide +kernel
theorem d_Prim_isDone2_151 : decode prog_11_method_11_code 151 = .ok (.ireturn, 1) := by decide +kernel
theorem d_Prim_isDone2_152 : decode prog_11_method_11_code 152 = .ok (.iload_n 3, 1) := by decide +kernel
theorem d_Prim_isDone2_153 : decode prog_11_method_11_code 153 = .ok (.ifCond .eq 8, 3) := by decide +kernel
theorem d_Prim_isDone2_156 : decode prog_11_method_11_code 156 = .ok (.aload_n 2, 1) := by decide +kernel
theorem d_Prim_isDone2_157 : decode prog_11_method_11_code 157 = .ok (.iconst 1, 1) := by decide +kernel
theorem d_Prim_isDone2_158 : decode prog_11_method_11_code 158 = .ok (.putfield 85, 3) := by decide +kernel
theorem d_Prim_isDone2_161 : decode prog_11_method_11_code 161 = .ok (.iload_n 3, 1) := by decide +kernel
theorem d_Prim_isDone2_162 : decode prog_11_method_11_code 162 = .ok (.ireturn, 1) := by decide +kernel
theorem d_Prim_isDone2_163 : decode prog_11_method_11_code 163 = .ok (.aload_n 0, 1) := by decide +kernel
theorem d_Prim_isDone2_164 : decode prog_11_method_11_code 164 = .ok (.getfield 15, 3) := by decide +kernel
theorem d_Prim_isDone2_167 : decode prog_11_method_11_code 167 = .ok (.invokestatic 117, 3) := by decide +kernel
theorem d_Prim_isDone2_170 : decode prog_11_method_11_code 170 = .ok (.iconst 1, 1) := by decide +kernel
theorem d_Prim_isDone2_171 : decode prog_11_method_11_code 171 = .ok (.if_icmp .le 18, 3) := by decide +kernel
theorem d_Prim_isDone2_174 : decode prog_11_method_11_code 174 = .ok (.aload_n 1, 1) := by decide +kernel
theorem d_Prim_isDone2_175 : decode prog_11_method_11_code 175 = .ok (.aload_n 0, 1) := by decide +kernel
theorem d_Prim_isDone2_176 : decode prog_11_method_11_code 176 = .ok (.invokevirtual 102, 3) := by decide +kernel
theorem d_Prim_isDone2_179 : decode prog_11_method_11_code 179 = .ok (.invokevirtual 77, 3) := by decide +kernel
theorem d_Prim_isDone2_182 : decode prog_11_method_11_code 182 = .ok (.ifnonnull 7, 3) := by decide +kernel
theorem d_Prim_isDone2_185 : decode prog_11_method_11_code 185 = .ok (.iconst 1, 1) := by decide +kernel
theorem d_Prim_isDone2_186 : decode prog_11_method_11_code 186 = .ok (.goto 4, 3) := by decide +kernel
theorem d_Prim_isDone2_189 : decode prog_11_method_11_code 189 = .ok (.iconst 0, 1) := by decide +kernel
theorem d_Prim_isDone2_190 : decode prog_11_method_11_code 190 = .ok (.istore 4, 2) := by decide +kernel
theorem d_Prim_isDone2_192 : decode prog_11_method_11_code 192 = .ok (.iload 4, 2) := by decide +kernel
theorem d_Prim_isDone2_194 : decode prog_11_method_11_code 194 = .ok (.ifCond .eq 11, 3) := by decide +kernel
theorem d_Prim_isDone2_197 : decode prog_11_method_11_code 197 = .ok (.aload_n 1, 1) := by decide +kernel
theorem d_Prim_isDone2_198 : decode prog_11_method_11_code 198 = .ok (.aload_n 0, 1) := by decide +kernel
theorem d_Prim_isDone2_199 : decode prog_11_method_11_code 199 = .ok (.getfield 15, 3) := by decide +kernel
theorem d_Prim_isDone2_202 : decode prog_11_method_11_code 202 = .ok (.invokevirtual 120, 3) := by decide +kernel
theorem d_Prim_isDone2_205 : decode prog_11_method_11_code 205 = .ok (.iload 4, 2) := by decide +kernel
theorem d_Prim_isDone2_207 : decode prog_11_method_11_code 207 = .ok (.ireturn, 1) := by decide +kernel
theorem d_Prim_isDone2_208 : decode prog_11_method_11_code 208 = .ok (.iload_n 3, 1) := by decide +kernel
theorem d_Prim_isDone2_209 : decode prog_11_method_11_code 209 = .ok (.ifCond .eq 52, 3) := by decide +kernel
theorem d_Prim_isDone2_212 : decode prog_11_method_11_code 212 = .ok (.aload_n 0, 1) := by decide +kernel
theorem d_Prim_isDone2_213 : decode prog_11_method_11_code 213 = .ok (.getfield 18, 3) := by decide +kernel
theorem d_Prim_isDone2_216 : decode prog_11_method_11_code 216 = .ok (.iconst 2, 1) := by decide +kernel
theorem d_Prim_isDone2_217 : decode prog_11_method_11_code 217 = .ok (.if_icmp .lt 44, 3) := by decide +kernel
theorem d_Prim_isDone2_220 : decode prog_11_method_11_code 220 = .ok (.aload_n 0, 1) := by decide +kernel
theorem d_Prim_isDone2_221 : decode prog_11_method_11_code 221 = .ok (.getfield 18, 3) := by decide +kernel
theorem d_Prim_isDone2_224 : decode prog_11_method_11_code 224 = .ok (.sipush 1000, 3) := by decide +kernel
theorem d_Prim_isDone2_227 : decode prog_11_method_11_code 227 = .ok (.if_icmp .gt 34, 3) := by decide +kernel
theorem d_Prim_isDone2_230 : decode prog_11_method_11_code 230 = .ok (.aload_n 0, 1) := by decide +kernel
theorem d_Prim_isDone2_231 : decode prog_11_method_11_code 231 = .ok (.getfield 35, 3) := by decide +kernel
theorem d_Prim_isDone2_234 : decode prog_11_method_11_code 234 = .ok (.ifCond .lt 27, 3) := by decide +kernel
theorem d_Prim_isDone2_237 : decode prog_11_method_11_code 237 = .ok (.aload_n 0, 1) := by decide +kernel
theorem d_Prim_isDone2_238 : decode prog_11_method_11_code 238 = .ok (.getfield 35, 3) := by decide +kernel
theorem d_Prim_isDone2_241 : decode prog_11_method_11_code 241 = .ok (.bipush 100, 2) := by decide +kernel
theorem d_Prim_isDone2_243 : decode prog_11_method_11_code 243 = .ok (.if_icmp .ge 18, 3) := by decide +kernel
theorem d_Prim_isDone2_246 : decode prog_11_method_11_code 246 = .ok (.aload_n 1, 1) := by decide +kernel
theorem d_Prim_isDone2_247 : decode prog_11_method_11_code 247 = .ok (.aload_n 0, 1) := by decide +kernel
theorem d_Prim_isDone2_248 : decode prog_11_method_11_code 248 = .ok (.invokevirtual 123, 3) := by decide +kernel
theorem d_Prim_isDone2_251 : decode prog_11_method_11_code 251 = .ok (.invokevirtual 95, 3) := by decide +kernel
theorem d_Prim_isDone2_254 : decode prog_11_method_11_code 254 = .ok (.ifCond .eq 7, 3) := by decide +kernel
theorem d_Prim_isDone2_257 : decode prog_11_method_11_code 257 = .ok (.iconst 1, 1) := by decide +kernel
theorem d_Prim_isDone2_258 : decode prog_11_method_11_code 258 = .ok (.goto 4, 3) := by decide +kernel
theorem d_Prim_isDone2_261 : decode prog_11_method_11_code 261 = .ok (.iconst 0, 1) := by decide +kernel
theorem d_Prim_isDone2_262 : decode prog_11_method_11_code 262 = .ok (.istore 4, 2) := by decide +kernel
theorem d_Prim_isDone2_264 : decode prog_11_method_11_code 264 = .ok (.iload 4, 2) := by decide +kernel
theorem d_Prim_isDone2_266 : decode prog_11_method_11_code 266 = .ok (.ifCond .eq 49, 3) := by decide +kernel
theorem d_Prim_isDone2_269 : decode prog_11_method_11_code 269 = .ok (.aload_n 2, 1) := by decide +kernel
theorem d_Prim_isDone2_270 : decode prog_11_method_11_code 270 = .ok (.aload_n 0, 1) := by decide +kernel
theorem d_Prim_isDone2_271 : decode prog_11_method_11_code 271 = .ok (.getfield 41, 3) := by decide +kernel
theorem d_Prim_isDone2_274 : decode prog_11_method_11_code 274 = .ok (.aload_n 0, 1) := by decide +kernel
theorem d_Prim_isDone2_275 : decode prog_11_method_11_code 275 = .ok (.getfield 18, 3) := by decide +kernel
theorem d_Prim_isDone2_278 : decode prog_11_method_11_code 278 = .ok (.invokestatic 126, 3) := by decide +kernel
theorem d_Prim_isDone2_281 : decode prog_11_method_11_code 281 = .ok (.putfield 89, 3) := by decide +kernel
theorem d_Prim_isDone2_284 : decode prog_11_method_11_code 284 = .ok (.aload_n 2, 1) := by decide +kernel
theorem d_Prim_isDone2_285 : decode prog_11_method_11_code 285 = .ok (.aload_n 0, 1) := by decide +kernel
theorem d_Prim_isDone2_286 : decode prog_11_method_11_code 286 = .ok (.getfield 44, 3) := by decide +kernel
theorem d_Prim_isDone2_289 : decode prog_11_method_11_code 289 = .ok (.aload_n 0, 1) := by decide +kernel
theorem d_Prim_isDone2_290 : decode prog_11_method_11_code 290 = .ok (.getfield 18, 3) := by decide +kernel
theorem d_Prim_isDone2_293 : decode prog_11_method_11_code 293 = .ok (.invokestatic 126, 3) := by decide +kernel
theorem d_Prim_isDone2_296 : decode prog_11_method_11_code 296 = .ok (.putfield 90, 3) := by decide +kernel
theorem d_Prim_isDone2_299 : decode prog_11_method_11_code 299 = .ok (.aload_n 1, 1) := by decide +kernel
theorem d_Prim_isDone2_300 : decode prog_11_method_11_code 300 = .ok (.aload_n 0, 1) := by decide +kernel
theorem d_Prim_isDone2_301 : decode prog_11_method_11_code 301 = .ok (.invokevirtual 123, 3) := by decide +kernel
theorem d_Prim_isDone2_304 : decode prog_11_method_11_code 304 = .ok (.iconst 0, 1) := by decide +kernel
theorem d_Prim_isDone2_305 : decode prog_11_method_11_code 305 = .ok (.iconst 0, 1) := by decide +kernel
theorem d_Prim_isDone2_306 : decode prog_11_method_11_code 306 = .ok (.aload_n 0, 1) := by decide +kernel
theorem d_Prim_isDone2_307 : decode prog_11_method_11_code 307 = .ok (.getfield 18, 3) := by decide +kernel
theorem d_Prim_isDone2_310 : decode prog_11_method_11_code 310 = .ok (.iconst 1, 1) := by decide +kernel
theorem d_Prim_isDone2_311 : decode prog_11_method_11_code 311 = .ok (.isub, 1) := by decide +kernel
theorem d_Prim_isDone2_312 : decode prog_11_method_11_code 312 = .ok (.invokevirtual 98, 3) := by decide +kernel
theorem d_Prim_isDone2_315 : decode prog_11_method_11_code 315 = .ok (.iload 4, 2) := by decide +kernel
theorem d_Prim_isDone2_317 : decode prog_11_method_11_code 317 = .ok (.ireturn, 1) := by decide +kernel
theorem d_Prim_isDone2_318 : decode prog_11_method_11_code 318 = .ok (.iload_n 3, 1) := by decide +kernel
theorem d_Prim_isDone2_319 : decode prog_11_method_11_code 319 = .ok (.ifCond .eq 65, 3) := by decide +kernel
theorem d_Prim_isDone2_322 : decode prog_11_method_11_code 322 = .ok (.aload_n 0, 1) := by decide +kernel
theorem d_Prim_isDone2_323 : decode prog_11_method_11_code 323 = .ok (.getfield 18, 3) := by decide +kernel
theorem d_Prim_isDone2_326 : decode prog_11_method_11_code 326 = .ok (.iconst 1, 1) := by decide +kernel
theorem d_Prim_isDone2_327 : decode prog_11_method_11_code 327 = .ok (.if_icmp .lt 57, 3) := by decide +kernel
theorem d_Prim_isDone2_330 : decode prog_11_method_11_code 330 = .ok (.aload_n 0, 1) := by decide +kernel
theorem d_Prim_isDone2_331 : decode prog_11_method_11_code 331 = .ok (.getfield 18, 3) := by decide +kernel
theorem d_Prim_isDone2_334 : decode prog_11_method_11_code 334 = .ok (.sipush 1000, 3) := by decide +kernel
theorem d_Prim_isDone2_337 : decode prog_11_method_11_code 337 = .ok (.if_icmp .gt 47, 3) := by decide +kernel
theorem d_Prim_isDone2_340 : decode prog_11_method_11_code 340 = .ok (.aload_n 0, 1) := by decide +kernel
theorem d_Prim_isDone2_341 : decode prog_11_method_11_code 341 = .ok (.getfield 35, 3) := by decide +kernel
theorem d_Prim_isDone2_344 : decode prog_11_method_11_code 344 = .ok (.iconst 1, 1) := by decide +kernel
theorem d_Prim_isDone2_345 : decode prog_11_method_11_code 345 = .ok (.if_icmp .lt 39, 3) := by decide +kernel
theorem d_Prim_isDone2_348 : decode prog_11_method_11_code 348 = .ok (.aload_n 0, 1) := by decide +kernel
theorem d_Prim_isDone2_349 : decode prog_11_method_11_code 349 = .ok (.getfield 35, 3) := by decide +kernel
theorem d_Prim_isDone2_352 : decode prog_11_method_11_code 352 = .ok (.sipush 1000, 3) := by decide +kernel
theorem d_Prim_isDone2_355 : decode prog_11_method_11_code 355 = .ok (.if_icmp .gt 29, 3) := by decide +kernel
theorem d_Prim_isDone2_358 : decode prog_11_method_11_code 358 = .ok (.aload_n 0, 1) := by decide +kernel
theorem d_Prim_isDone2_359 : decode prog_11_method_11_code 359 = .ok (.aload_n 0, 1) := by decide +kernel
theorem d_Prim_isDone2_360 : decode prog_11_method_11_code 360 = .ok (.getfield 41, 3) := by decide +kernel
theorem d_Prim_isDone2_363 : decode prog_11_method_11_code 363 = .ok (.invokevirtual 128, 3) := by decide +kernel
theorem d_Prim_isDone2_366 : decode prog_11_method_11_code 366 = .ok (.ifCond .eq 18, 3) := by decide +kernel
theorem d_Prim_isDone2_369 : decode prog_11_method_11_code 369 = .ok (.aload_n 0, 1) := by decide +kernel
theorem d_Prim_isDone2_370 : decode prog_11_method_11_code 370 = .ok (.aload_n 0, 1) := by decide +kernel
theorem d_Prim_isDone2_371 : decode prog_11_method_11_code 371 = .ok (.getfield 44, 3) := by decide +kernel
theorem d_Prim_isDone2_374 : decode prog_11_method_11_code 374 = .ok (.invokevirtual 128, 3) := by decide +kernel
theorem d_Prim_isDone2_377 : decode prog_11_method_11_code 377 = .ok (.ifCond .eq 7, 3) := by decide +kernel
theorem d_Prim_isDone2_380 : decode prog_11_method_11_code 380 = .ok (.iconst 1, 1) := by decide +kernel
theorem d_Prim_isDone2_381 : decode prog_11_method_11_code 381 = .ok (.goto 4, 3) := by decide +kernel
theorem d_Prim_isDone2_384 : decode prog_11_method_11_code 384 = .ok (.iconst 0, 1) := by decide +kernel
theorem d_Prim_isDone2_385 : decode prog_11_method_11_code 385 = .ok (.istore 4, 2) := by decide +kernel
theorem d_Prim_isDone2_387 : decode prog_11_method_11_code 387 = .ok (.iload 4, 2) := by decide +kernel
theorem d_Prim_isDone2_389 : decode prog_11_method_11_code 389 = .ok (.ifCond .eq 27, 3) := by decide +kernel
theorem d_Prim_isDone2_392 : decode prog_11_method_11_code 392 = .ok (.aload_n 2, 1) := by decide +kernel
theorem d_Prim_isDone2_393 : decode prog_11_method_11_code 393 = .ok (.aload_n 0, 1) := by decide +kernel
theorem d_Prim_isDone2_394 : decode prog_11_method_11_code 394 = .ok (.aload_n 0, 1) := by decide +kernel
theorem d_Prim_isDone2_395 : decode prog_11_method_11_code 395 = .ok (.getfield 41, 3) := by decide +kernel
theorem d_Prim_isDone2_398 : decode prog_11_method_11_code 398 = .ok (.invokevirtual 66, 3) := by decide +kernel
theorem d_Prim_isDone2_401 : decode prog_11_method_11_code 401 = .ok (.putfield 89, 3) := by decide +kernel
theorem d_Prim_isDone2_404 : decode prog_11_method_11_code 404 = .ok (.aload_n 2, 1) := by decide +kernel
theorem d_Prim_isDone2_405 : decode prog_11_method_11_code 405 = .ok (.aload_n 0, 1) := by decide +kernel
theorem d_Prim_isDone2_406 : decode prog_11_method_11_code 406 = .ok (.aload_n 0, 1) := by decide +kernel
theorem d_Prim_isDone2_407 : decode prog_11_method_11_code 407 = .ok (.getfield 44, 3) := by decide +kernel
theorem d_Prim_isDone2_410 : decode prog_11_method_11_code 410 = .ok (.invokevirtual 66, 3) := by decide +kernel
theorem d_Prim_isDone2_413 : decode prog_11_method_11_code 413 = .ok (.putfield 90, 3) := by decide +kernel
theorem d_Prim_isDone2_416 : decode prog_11_method_11_code 416 = .ok (.iload 4, 2) := by decide +kernel
theorem d_Prim_isDone2_418 : decode prog_11_method_11_code 418 = .ok (.ireturn, 1) := by decide +kernel
theorem d_Prim_isDone2_419 : decode prog_11_method_11_code 419 = .ok (.iload_n 3, 1) := by decide +kernel
theorem d_Prim_isDone2_420 : decode prog_11_method_11_code 420 = .ok (.ifCond .eq 62, 3) := by decide +kernel
theorem d_Prim_isDone2_423 : decode prog_11_method_11_code 423 = .ok (.aload_n 0, 1) := by decide +kernel
theorem d_Prim_isDone2_424 : decode prog_11_method_11_code 424 = .ok (.getfield 18, 3) := by decide +kernel
theorem d_Prim_isDone2_427 : decode prog_11_method_11_code 427 = .ok (.aload_n 0, 1) := by decide +kernel
theorem d_Prim_isDone2_428 : decode prog_11_method_11_code 428 = .ok (.getfield 35, 3) := by decide +kernel
theorem d_Prim_isDone2_431 : decode prog_11_method_11_code 431 = .ok (.if_icmp .eq 51, 3) := by decide +kernel
theorem d_Prim_isDone2_434 : decode prog_11_method_11_code 434 = .ok (.aload_n 0, 1) := by decide +kernel
theorem d_Prim_isDone2_435 : decode prog_11_method_11_code 435 = .ok (.getfield 18, 3) := by decide +kernel
theorem d_Prim_isDone2_438 : decode prog_11_method_11_code 438 = .ok (.aload_n 0, 1) := by decide +kernel
theorem d_Prim_isDone2_439 : decode prog_11_method_11_code 439 = .ok (.getfield 41, 3) := by decide +kernel
theorem d_Prim_isDone2_442 : decode prog_11_method_11_code 442 = .ok (.if_icmp .lt 40, 3) := by decide +kernel
theorem d_Prim_isDone2_445 : decode prog_11_method_11_code 445 = .ok (.aload_n 0, 1) := by decide +kernel
theorem d_Prim_isDone2_446 : decode prog_11_method_11_code 446 = .ok (.getfield 18, 3) := by decide +kernel
theorem d_Prim_isDone2_449 : decode prog_11_method_11_code 449 = .ok (.aload_n 0, 1) := by decide +kernel
theorem d_Prim_isDone2_450 : decode prog_11_method_11_code 450 = .ok (.getfield 44, 3) := by decide +kernel
theorem d_Prim_isDone2_453 : decode prog_11_method_11_code 453 = .ok (.if_icmp .gt 29, 3) := by decide +kernel
theorem d_Prim_isDone2_456 : decode prog_11_method_11_code 456 = .ok (.aload_n 0, 1) := by decide +kernel
theorem d_Prim_isDone2_457 : decode prog_11_method_11_code 457 = .ok (.getfield 35, 3) := by decide +kernel
theorem d_Prim_isDone2_460 : decode prog_11_method_11_code 460 = .ok (.aload_n 0, 1) := by decide +kernel
theorem d_Prim_isDone2_461 : decode prog_11_method_11_code 461 = .ok (.getfield 41, 3) := by decide +kernel
theorem d_Prim_isDone2_464 : decode prog_11_method_11_code 464 = .ok (.if_icmp .lt 18, 3) := by decide +kernel
theorem d_Prim_isDone2_467 : decode prog_11_method_11_code 467 = .ok (.aload_n 0, 1) := by decide +kernel
theorem d_Prim_isDone2_468 : decode prog_11_method_11_code 468 = .ok (.getfield 35, 3) := by decide +kernel
theorem d_Prim_isDone2_471 : decode prog_11_method_11_code 471 = .ok (.aload_n 0, 1) := by decide +kernel
theorem d_Prim_isDone2_472 : decode prog_11_method_11_code 472 = .ok (.getfield 44, 3) := by decide +kernel
theorem d_Prim_isDone2_475 : decode prog_11_method_11_code 475 = .ok (.if_icmp .gt 7, 3) := by decide +kernel
theorem d_Prim_isDone2_478 : decode prog_11_method_11_code 478 = .ok (.iconst 1, 1) := by decide +kernel
theorem d_Prim_isDone2_479 : decode prog_11_method_11_code 479 = .ok (.goto 4, 3) := by decide +kernel
theorem d_Prim_isDone2_482 : decode prog_11_method_11_code 482 = .ok (.iconst 0, 1) := by decide +kernel
theorem d_Prim_isDone2_483 : decode prog_11_method_11_code 483 = .ok (.ireturn, 1) := by decide +kernel
theorem d_Prim_isDone2_484 : decode prog_11_method_11_code 484 = .ok (.aload_n 0, 1) := by decide +kernel
theorem d_Prim_isDone2_485 : decode prog_11_method_11_code 485 = .ok (.getfield 9, 3) := by decide +kernel
theorem d_Prim_isDone2_488 : decode prog_11_method_11_code 488 = .ok (.bipush 8, 2) := by decide +kernel
theorem d_Prim_isDone2_490 : decode prog_11_method_11_code 490 = .ok (.if_icmp .ne 15, 3) := by decide +kernel
theorem d_Prim_isDone2_493 : decode prog_11_method_11_code 493 = .ok (.aload_n 0, 1) := by decide +kernel
theorem d_Prim_isDone2_494 : decode prog_11_method_11_code 494 = .ok (.getfield 88, 3) := by decide +kernel
theorem d_Prim_isDone2_497 : decode prog_11_method_11_code 497 = .ok (.iconst 1, 1) := by decide +kernel
theorem d_Prim_isDone2_498 : decode prog_11_method_11_code 498 = .ok (.if_icmp .ne 7, 3) := by decide +kernel
theorem d_Prim_isDone2_501 : decode prog_11_method_11_code 501 = .ok (.iconst 1, 1) := by decide +kernel
theorem d_Prim_isDone2_502 : decode prog_11_method_11_code 502 = .ok (.goto 4, 3) := by decide +kernel
theorem d_Prim_isDone2_505 : decode prog_11_method_11_code 505 = .ok (.iconst 0, 1) := by decide +kernel
theorem d_Prim_isDone2_506 : decode prog_11_method_11_code 506 = .ok (.ireturn, 1) := by decide +kernel
theorem d_Prim_isAdded_0 : decode prog_11_method_10_code 0 = .ok (.aload_n 1, 1) := by decide +kernel
theorem d_Prim_isAdded_1 : decode prog_11_method_10_code 1 = .ok (.aload_n 0, 1) := by decide +kernel
theorem d_Prim_isAdded_2 : decode prog_11_method_10_code 2 = .ok (.getfield 15, 3) := by decide +kernel
theorem d_Prim_isAdded_5 : decode prog_11_method_10_code 5 = .ok (.invokevirtual 95, 3) := by decide +kernel
theorem d_Prim_isAdded_8 : decode prog_11_method_10_code 8 = .ok (.ifCond .eq 34, 3) := by decide +kernel
theorem d_Prim_isAdded_11 : decode prog_11_method_10_code 11 = .ok (.aload_n 0, 1) := by decide +kernel
theorem d_Prim_isAdded_12 : decode prog_11_method_10_code 12 = .ok (.getfield 18, 3) := by decide +kernel
theorem d_Prim_isAdded_15 : decode prog_11_method_10_code 15 = .ok (.ifCond .lt 27, 3) := by decide +kernel
theorem d_Prim_isAdded_18 : decode prog_11_method_10_code 18 = .ok (.aload_n 0, 1) := by decide +kernel
theorem d_Prim_isAdded_19 : decode prog_11_method_10_code 19 = .ok (.getfield 18, 3) := by decide +kernel
theorem d_Prim_isAdded_22 : decode prog_11_method_10_code 22 = .ok (.iconst 2, 1) := by decide +kernel
theorem d_Prim_isAdded_23 : decode prog_11_method_10_code 23 = .ok (.if_icmp .gt 19, 3) := by decide +kernel
theorem d_Prim_isAdded_26 : decode prog_11_method_10_code 26 = .ok (.aload_n 0, 1) := by decide +kernel
theorem d_Prim_isAdded_27 : decode prog_11_method_10_code 27 = .ok (.getfield 18, 3) := by decide +kernel
theorem d_Prim_isAdded_30 : decode prog_11_method_10_code 30 = .ok (.iconst 2, 1) := by decide +kernel
theorem d_Prim_isAdded_31 : decode prog_11_method_10_code 31 = .ok (.if_icmp .eq 13, 3) := by decide +kernel
theorem d_Prim_isAdded_34 : decode prog_11_method_10_code 34 = .ok (.aload_n 0, 1) := by decide +kernel
theorem d_Prim_isAdded_35 : decode prog_11_method_10_code 35 = .ok (.getfield 35, 3) := by decide +kernel
theorem d_Prim_isAdded_38 : decode prog_11_method_10_code 38 = .ok (.iload_n 2, 1) := by decide +kernel
theorem d_Prim_isAdded_39 : decode prog_11_method_10_code 39 = .ok (.if_icmp .le 5, 3) := by decide +kernel
theorem d_Prim_isAdded_42 : decode prog_11_method_10_code 42 = .ok (.iconst 0, 1) := by decide +kernel
theorem d_Prim_isAdded_43 : decode prog_11_method_10_code 43 = .ok (.ireturn, 1) := by decide +kernel
theorem d_Prim_isAdded_44 : decode prog_11_method_10_code 44 = .ok (.aload_n 1, 1) := by decide +kernel
theorem d_Prim_isAdded_45 : decode prog_11_method_10_code 45 = .ok (.aload_n 0, 1) := by decide +kernel
theorem d_Prim_isAdded_46 : decode prog_11_method_10_code 46 = .ok (.getfield 15, 3) := by decide +kernel
theorem d_Prim_isAdded_49 : decode prog_11_method_10_code 49 = .ok (.aload_n 0, 1) := by decide +kernel
theorem d_Prim_isAdded_50 : decode prog_11_method_10_code 50 = .ok (.getfield 18, 3) := by decide +kernel
theorem d_Prim_isAdded_53 : decode prog_11_method_10_code 53 = .ok (.aload_n 0, 1) := by decide +kernel
theorem d_Prim_isAdded_54 : decode prog_11_method_10_code 54 = .ok (.getfield 35, 3) := by decide +kernel
theorem d_Prim_isAdded_57 : decode prog_11_method_10_code 57 = .ok (.iload_n 2, 1) := by decide +kernel
theorem d_Prim_isAdded_58 : decode prog_11_method_10_code 58 = .ok (.invokevirtual 98, 3) := by decide +kernel
theorem d_Prim_isAdded_61 : decode prog_11_method_10_code 61 = .ok (.aload_n 0, 1) := by decide +kernel
theorem d_Prim_isAdded_62 : decode prog_11_method_10_code 62 = .ok (.aload_n 0, 1) := by decide +kernel
theorem d_Prim_isAdded_63 : decode prog_11_method_10_code 63 = .ok (.getfield 18, 3) := by decide +kernel
theorem d_Prim_isAdded_66 : decode prog_11_method_10_code 66 = .ok (.putfield 88, 3) := by decide +kernel
theorem d_Prim_isAdded_69 : decode prog_11_method_10_code 69 = .ok (.aload_n 0, 1) := by decide +kernel
theorem d_Prim_isAdded_70 : decode prog_11_method_10_code 70 = .ok (.aload_n 1, 1) := by decide +kernel
theorem d_Prim_isAdded_71 : decode prog_11_method_10_code 71 = .ok (.aload_n 0, 1) := by decide +kernel
theorem d_Prim_isAdded_72 : decode prog_11_method_10_code 72 = .ok (.getfield 15, 3) := by decide +kernel
theorem d_Prim_isAdded_75 : decode prog_11_method_10_code 75 = .ok (.invokevirtual 77, 3) := by decide +kernel
theorem d_Prim_isAdded_78 : decode prog_11_method_10_code 78 = .ok (.checkcast 83, 3) := by decide +kernel
theorem d_Prim_isAdded_81 : decode prog_11_method_10_code 81 = .ok (.getfield 89, 3) := by decide +kernel
theorem d_Prim_isAdded_84 : decode prog_11_method_10_code 84 = .ok (.putfield 41, 3) := by decide +kernel
theorem d_Prim_isAdded_87 : decode prog_11_method_10_code 87 = .ok (.aload_n 0, 1) := by decide +kernel
theorem d_Prim_isAdded_88 : decode prog_11_method_10_code 88 = .ok (.aload_n 1, 1) := by decide +kernel
theorem d_Prim_isAdded_89 : decode prog_11_method_10_code 89 = .ok (.aload_n 0, 1) := by decide +kernel
theorem d_Prim_isAdded_90 : decode prog_11_method_10_code 90 = .ok (.getfield 15, 3) := by decide +kernel
theorem d_Prim_isAdded_93 : decode prog_11_method_10_code 93 = .ok (.invokevirtual 77, 3) := by decide +kernel
theorem d_Prim_isAdded_96 : decode prog_11_method_10_code 96 = .ok (.checkcast 83, 3) := by decide +kernel
theorem d_Prim_isAdded_99 : decode prog_11_method_10_code 99 = .ok (.getfield 90, 3) := by decide +kernel
theorem d_Prim_isAdded_102 : decode prog_11_method_10_code 102 = .ok (.putfield 44, 3) := by decide +kernel
theorem d_Prim_isAdded_105 : decode prog_11_method_10_code 105 = .ok (.iconst 1, 1) := by decide +kernel
theorem d_Prim_isAdded_106 : decode prog_11_method_10_code 106 = .ok (.ireturn, 1) := by decide +kernel
theorem d_Rows_init_0 : decode prog_12_method_1_code 0 = .ok (.aload_n 0, 1) := by decide +kernel
theorem d_Rows_init_1 : decode prog_12_method_1_code 1 = .ok (.invokespecial 1, 3) := by decide +kernel
theorem d_Rows_init_4 : decode prog_12_method_1_code 4 = .ok (.return_, 1) := by decide +kernel
theorem d_Rows_at_0 : decode prog_12_method_3_code 0 = .ok (.aload_n 0, 1) := by decide +kernel
theorem d_Rows_at_1 : decode prog_12_method_3_code 1 = .ok (.getfield 7, 3) := by decide +kernel
theorem d_Rows_at_4 : decode prog_12_method_3_code 4 = .ok (.astore_n 2, 1) := by decide +kernel
theorem d_Rows_at_5 : decode prog_12_method_3_code 5 = .ok (.aload_n 2, 1) := by decide +kernel
theorem d_Rows_at_6 : decode prog_12_method_3_code 6 = .ok (.ifnull 22, 3) := by decide +kernel
theorem d_Rows_at_9 : decode prog_12_method_3_code 9 = .ok (.aload_n 2, 1) := by decide +kernel
theorem d_Rows_at_10 : decode prog_12_method_3_code 10 = .ok (.getfield 13, 3) := by decide +kernel
theorem d_Rows_at_13 : decode prog_12_method_3_code 13 = .ok (.getfield 19, 3) := by decide +kernel
theorem d_Rows_at_16 : decode prog_12_method_3_code 16 = .ok (.iload_n 1, 1) := by decide +kernel
theorem d_Rows_at_17 : decode prog_12_method_3_code 17 = .ok (.if_icmp .eq 11, 3) := by decide +kernel
theorem d_Rows_at_20 : decode prog_12_method_3_code 20 = .ok (.aload_n 2, 1) := by decide +kernel
theorem d_Rows_at_21 : decode prog_12_method_3_code 21 = .ok (.getfield 25, 3) := by decide +kernel
theorem d_Rows_at_24 : decode prog_12_method_3_code 24 = .ok (.astore_n 2, 1) := by decide +kernel
theorem d_Rows_at_25 : decode prog_12_method_3_code 25 = .ok (.goto (-20), 3) := by decide +kernel
theorem d_Rows_at_28 : decode prog_12_method_3_code 28 = .ok (.aload_n 2, 1) := by decide +kernel
theorem d_Rows_at_29 : decode prog_12_method_3_code 29 = .ok (.ifnonnull 7, 3) := by decide +kernel
theorem d_Rows_at_32 : decode prog_12_method_3_code 32 = .ok (.aconst_null, 1) := by decide +kernel
theorem d_Rows_at_33 : decode prog_12_method_3_code 33 = .ok (.goto 7, 3) := by decide +kernel
theorem d_Rows_at_36 : decode prog_12_method_3_code 36 = .ok (.aload_n 2, 1) := by decide +kernel
theorem d_Rows_at_37 : decode prog_12_method_3_code 37 = .ok (.getfield 13, 3) := by decide +kernel
theorem d_Rows_at_40 : decode prog_12_method_3_code 40 = .ok (.areturn, 1) := by decide +kernel
theorem d_Rows_get_0 : decode prog_12_method_4_code 0 = .ok (.aload_n 0, 1) := by decide +kernel
theorem d_Rows_get_1 : decode prog_12_method_4_code 1 = .ok (.getfield 7, 3) := by decide +kernel
theorem d_Rows_get_4 : decode prog_12_method_4_code 4 = .ok (.astore_n 2, 1) := by decide +kernel
theorem d_Rows_get_5 : decode prog_12_method_4_code 5 = .ok (.iconst 0, 1) := by decide +kernel
theorem d_Rows_get_6 : decode prog_12_method_4_code 6 = .ok (.istore_n 3, 1) := by decide +kernel
theorem d_Rows_get_7 : decode prog_12_method_4_code 7 = .ok (.iload_n 3, 1) := by decide +kernel
theorem d_Rows_get_8 : decode prog_12_method_4_code 8 = .ok (.iload_n 1, 1) := by decide +kernel
theorem d_Rows_get_9 : decode prog_12_method_4_code 9 = .ok (.if_icmp .ge 14, 3) := by decide +kernel
theorem d_Rows_get_12 : decode prog_12_method_4_code 12 = .ok (.aload_n 2, 1) := by decide +kernel
theorem d_Rows_get_13 : decode prog_12_method_4_code 13 = .ok (.getfield 25, 3) := by decide +kernel
theorem d_Rows_get_16 : decode prog_12_method_4_code 16 = .ok (.astore_n 2, 1) := by decide +kernel
theorem d_Rows_get_17 : decode prog_12_method_4_code 17 = .ok (.iinc 3 1, 3) := by decide +kernel
theorem d_Rows_get_20 : decode prog_12_method_4_code 20 = .ok (.goto (-13), 3) := by decide +kernel
theorem d_Rows_get_23 : decode prog_12_method_4_code 23 = .ok (.aload_n 2, 1) := by decide +kernel
theorem d_Rows_get_24 : decode prog_12_method_4_code 24 = .ok (.getfield 13, 3) := by decide +kernel
theorem d_Rows_get_27 : decode prog_12_method_4_code 27 = .ok (.areturn, 1) := by decide +kernel
theorem d_Rows_insert_0 : decode prog_12_method_5_code 0 = .ok (.aload_n 0, 1) := by decide +kernel
theorem d_Rows_insert_1 : decode prog_12_method_5_code 1 = .ok (.getfield 7, 3) := by decide +kernel
theorem d_Rows_insert_4 : decode prog_12_method_5_code 4 = .ok (.ifnull 26, 3) := by decide +kernel
theorem d_Rows_insert_7 : decode prog_12_method_5_code 7 = .ok (.aload_n 1, 1) := by decide +kernel
theorem d_Rows_insert_8 : decode prog_12_method_5_code 8 = .ok (.getfield 13, 3) := by decide +kernel
theorem d_Rows_insert_11 : decode prog_12_method_5_code 11 = .ok (.getfield 19, 3) := by decide +kernel
theorem d_Rows_insert_14 : decode prog_12_method_5_code 14 = .ok (.aload_n 0, 1) := by decide +kernel
theorem d_Rows_insert_15 : decode prog_12_method_5_code 15 = .ok (.getfield 7, 3) := by decide +kernel
theorem d_Rows_insert_18 : decode prog_12_method_5_code 18 = .ok (.getfield 13, 3) := by decide +kernel
theorem d_Rows_insert_21 : decode prog_12_method_5_code 21 = .ok (.getfield 19, 3) := by decide +kernel
theorem d_Rows_insert_24 : decode prog_12_method_5_code 24 = .ok (.invokestatic 28, 3) := by decide +kernel
theorem d_Rows_insert_27 : decode prog_12_method_5_code 27 = .ok (.ifCond .ge 17, 3) := by decide +kernel
theorem d_Rows_insert_30 : decode prog_12_method_5_code 30 = .ok (.aload_n 1, 1) := by decide +kernel
theorem d_Rows_insert_31 : decode prog_12_method_5_code 31 = .ok (.aload_n 0, 1) := by decide +kernel
theorem d_Rows_insert_32 : decode prog_12_method_5_code 32 = .ok (.getfield 7, 3) := by decide +kernel
theorem d_Rows_insert_35 : decode prog_12_method_5_code 35 = .ok (.putfield 25, 3) := by decide +kernel
theorem d_Rows_insert_38 : decode prog_12_method_5_code 38 = .ok (.aload_n 0, 1) := by decide +kernel
theorem d_Rows_insert_39 : decode prog_12_method_5_code 39 = .ok (.aload_n 1, 1) := by decide +kernel
theorem d_Rows_insert_40 : decode prog_12_method_5_code 40 = .ok (.putfield 7, 3) := by decide +kernel
theorem d_Rows_insert_43 : decode prog_12_method_5_code 43 = .ok (.return_, 1) := by decide +kernel
theorem d_Rows_insert_44 : decode prog_12_method_5_code 44 = .ok (.aload_n 0, 1) := by decide +kernel
theorem d_Rows_insert_45 : decode prog_12_method_5_code 45 = .ok (.getfield 7, 3) := by decide +kernel
theorem d_Rows_insert_48 : decode prog_12_method_5_code 48 = .ok (.astore_n 2, 1) := by decide +kernel
theorem d_Rows_insert_49 : decode prog_12_method_5_code 49 = .ok (.aload_n 2, 1) := by decide +kernel
theorem d_Rows_insert_50 : decode prog_12_method_5_code 50 = .ok (.getfield 25, 3) := by decide +kernel
theorem d_Rows_insert_53 : decode prog_12_method_5_code 53 = .ok (.ifnull 34, 3) := by decide +kernel
theorem d_Rows_insert_56 : decode prog_12_method_5_code 56 = .ok (.aload_n 2, 1) := by decide +kernel
theorem d_Rows_insert_57 : decode prog_12_method_5_code 57 = .ok (.getfield 25, 3) := by decide +kernel
theorem d_Rows_insert_60 : decode prog_12_method_5_code 60 = .ok (.getfield 13, 3) := by decide +kernel
theorem d_Rows_insert_63 : decode prog_12_method_5_code 63 = .ok (.getfield 19, 3) := by decide +kernel
theorem d_Rows_insert_66 : decode prog_12_method_5_code 66 = .ok (.aload_n 1, 1) := by decide +kernel
theorem d_Rows_insert_67 : decode prog_12_method_5_code 67 = .ok (.getfield 13, 3) := by decide +kernel
theorem d_Rows_insert_70 : decode prog_12_method_5_code 70 = .ok (.getfield 19, 3) := by decide +kernel
theorem d_Rows_insert_73 : decode prog_12_method_5_code 73 = .ok (.invokestatic 28, 3) := by decide +kernel
theorem d_Rows_insert_76 : decode prog_12_method_5_code 76 = .ok (.ifCond .ge 11, 3) := by decide +kernel
theorem d_Rows_insert_79 : decode prog_12_method_5_code 79 = .ok (.aload_n 2, 1) := by decide +kernel
theorem d_Rows_insert_80 : decode prog_12_method_5_code 80 = .ok (.getfield 25, 3) := by decide +kernel
theorem d_Rows_insert_83 : decode prog_12_method_5_code 83 = .ok (.astore_n 2, 1) := by decide +kernel
theorem d_Rows_insert_84 : decode prog_12_method_5_code 84 = .ok (.goto (-35), 3) := by decide +kernel
theorem d_Rows_insert_87 : decode prog_12_method_5_code 87 = .ok (.aload_n 1, 1) := by decide +kernel
theorem d_Rows_insert_88 : decode prog_12_method_5_code 88 = .ok (.aload_n 2, 1) := by decide +kernel
theorem d_Rows_insert_89 : decode prog_12_method_5_code 89 = .ok (.getfield 25, 3) := by decide +kernel
theorem d_Rows_insert_92 : decode prog_12_method_5_code 92 = .ok (.putfield 25, 3) := by decide +kernel
theorem d_Rows_insert_95 : decode prog_12_method_5_code 95 = .ok (.aload_n 2, 1) := by decide +kernel
theorem d_Rows_insert_96 : decode prog_12_method_5_code 96 = .ok (.aload_n 1, 1) := by decide +kernel
theorem d_Rows_insert_97 : decode prog_12_method_5_code 97 = .ok (.putfield 25, 3) := by decide +kernel
theorem d_Rows_insert_100 : decode prog_12_method_5_code 100 = .ok (.return_, 1) := by decide +kernel
theorem d_Rows_add_0 : decode prog_12_method_6_code 0 = .ok (.aload_n 0, 1) := by decide +kernel
theorem d_Rows_add_1 : decode prog_12_method_6_code 1 = .ok (.getfield 34, 3) := by decide +kernel
theorem d_Rows_add_4 : decode prog_12_method_6_code 4 = .ok (.astore_n 2, 1) := by decide +kernel
theorem d_Rows_add_5 : decode prog_12_method_6_code 5 = .ok (.aload_n 2, 1) := by decide +kernel
theorem d_Rows_add_6 : decode prog_12_method_6_code 6 = .ok (.ifnonnull 18, 3) := by decide +kernel
theorem d_Rows_add_9 : decode prog_12_method_6_code 9 = .ok (.new 14, 3) := by decide +kernel
theorem d_Rows_add_12 : decode prog_12_method_6_code 12 = .ok (.dup, 1) := by decide +kernel
theorem d_Rows_add_13 : decode prog_12_method_6_code 13 = .ok (.aload_n 0, 1) := by decide +kernel
theorem d_Rows_add_14 : decode prog_12_method_6_code 14 = .ok (.invokevirtual 37, 3) := by decide +kernel
theorem d_Rows_add_17 : decode prog_12_method_6_code 17 = .ok (.invokespecial 41, 3) := by decide +kernel
theorem d_Rows_add_20 : decode prog_12_method_6_code 20 = .ok (.astore_n 2, 1) := by decide +kernel
theorem d_Rows_add_21 : decode prog_12_method_6_code 21 = .ok (.goto 11, 3) := by decide +kernel
theorem d_Rows_add_24 : decode prog_12_method_6_code 24 = .ok (.aload_n 0, 1) := by decide +kernel
theorem d_Rows_add_25 : decode prog_12_method_6_code 25 = .ok (.aload_n 2, 1) := by decide +kernel
theorem d_Rows_add_26 : decode prog_12_method_6_code 26 = .ok (.getfield 25, 3) := by decide +kernel
theorem d_Rows_add_29 : decode prog_12_method_6_code 29 = .ok (.putfield 34, 3) := by decide +kernel
theorem d_Rows_add_32 : decode prog_12_method_6_code 32 = .ok (.aload_n 2, 1) := by decide +kernel
theorem d_Rows_add_33 : decode prog_12_method_6_code 33 = .ok (.getfield 13, 3) := by decide +kernel
theorem d_Rows_add_36 : decode prog_12_method_6_code 36 = .ok (.iload_n 1, 1) := by decide +kernel
theorem d_Rows_add_37 : decode prog_12_method_6_code 37 = .ok (.putfield 19, 3) := by decide +kernel
theorem d_Rows_add_40 : decode prog_12_method_6_code 40 = .ok (.aload_n 2, 1) := by decide +kernel
theorem d_Rows_add_41 : decode prog_12_method_6_code 41 = .ok (.getfield 13, 3) := by decide +kernel
theorem d_Rows_add_44 : decode prog_12_method_6_code 44 = .ok (.invokevirtual 44, 3) := by decide +kernel
theorem d_Rows_add_47 : decode prog_12_method_6_code 47 = .ok (.aload_n 0, 1) := by decide +kernel
theorem d_Rows_add_48 : decode prog_12_method_6_code 48 = .ok (.aload_n 2, 1) := by decide +kernel
theorem d_Rows_add_49 : decode prog_12_method_6_code 49 = .ok (.invokevirtual 47, 3) := by decide +kernel
theorem d_Rows_add_52 : decode prog_12_method_6_code 52 = .ok (.aload_n 0, 1) := by decide +kernel
theorem d_Rows_add_53 : decode prog_12_method_6_code 53 = .ok (.dup, 1) := by decide +kernel
theorem d_Rows_add_54 : decode prog_12_method_6_code 54 = .ok (.getfield 51, 3) := by decide +kernel
theorem d_Rows_add_57 : decode prog_12_method_6_code 57 = .ok (.iconst 1, 1) := by decide +kernel
theorem d_Rows_add_58 : decode prog_12_method_6_code 58 = .ok (.iadd, 1) := by decide +kernel
theorem d_Rows_add_59 : decode prog_12_method_6_code 59 = .ok (.putfield 51, 3) := by decide +kernel
theorem d_Rows_add_62 : decode prog_12_method_6_code 62 = .ok (.aload_n 2, 1) := by decide +kernel
theorem d_Rows_add_63 : decode prog_12_method_6_code 63 = .ok (.getfield 13, 3) := by decide +kernel
theorem d_Rows_add_66 : decode prog_12_method_6_code 66 = .ok (.areturn, 1) := by decide +kernel
theorem d_Rows_remove_0 : decode prog_12_method_7_code 0 = .ok (.aconst_null, 1) := by decide +kernel
theorem d_Rows_remove_1 : decode prog_12_method_7_code 1 = .ok (.astore_n 2, 1) := by decide +kernel
theorem d_Rows_remove_2 : decode prog_12_method_7_code 2 = .ok (.aload_n 0, 1) := by decide +kernel
theorem d_Rows_remove_3 : decode prog_12_method_7_code 3 = .ok (.getfield 7, 3) := by decide +kernel
theorem d_Rows_remove_6 : decode prog_12_method_7_code 6 = .ok (.astore_n 3, 1) := by decide +kernel
theorem d_Rows_remove_7 : decode prog_12_method_7_code 7 = .ok (.aload_n 3, 1) := by decide +kernel
theorem d_Rows_remove_8 : decode prog_12_method_7_code 8 = .ok (.getfield 13, 3) := by decide +kernel
theorem d_Rows_remove_11 : decode prog_12_method_7_code 11 = .ok (.getfield 19, 3) := by decide +kernel
theorem d_Rows_remove_14 : decode prog_12_method_7_code 14 = .ok (.iload_n 1, 1) := by decide +kernel
theorem d_Rows_remove_15 : decode prog_12_method_7_code 15 = .ok (.if_icmp .eq 13, 3) := by decide +kernel
theorem d_Rows_remove_18 : decode prog_12_method_7_code 18 = .ok (.aload_n 3, 1) := by decide +kernel
theorem d_Rows_remove_19 : decode prog_12_method_7_code 19 = .ok (.astore_n 2, 1) := by decide +kernel
theorem d_Rows_remove_20 : decode prog_12_method_7_code 20 = .ok (.aload_n 3, 1) := by decide +kernel
theorem d_Rows_remove_21 : decode prog_12_method_7_code 21 = .ok (.getfield 25, 3) := by decide +kernel
theorem d_Rows_remove_24 : decode prog_12_method_7_code 24 = .ok (.astore_n 3, 1) := by decide +kernel
theorem d_Rows_remove_25 : decode prog_12_method_7_code 25 = .ok (.goto (-18), 3) := by decide +kernel
theorem d_Rows_remove_28 : decode prog_12_method_7_code 28 = .ok (.aload_n 2, 1) := by decide +kernel
theorem d_Rows_remove_29 : decode prog_12_method_7_code 29 = .ok (.ifnonnull 14, 3) := by decide +kernel
theorem d_Rows_remove_32 : decode prog_12_method_7_code 32 = .ok (.aload_n 0, 1) := by decide +kernel
theorem d_Rows_remove_33 : decode prog_12_method_7_code 33 = .ok (.aload_n 3, 1) := by decide +kernel
theorem d_Rows_remove_34 : decode prog_12_method_7_code 34 = .ok (.getfield 25, 3) := by decide +kernel
theorem d_Rows_remove_37 : decode prog_12_method_7_code 37 = .ok (.putfield 7, 3) := by decide +kernel
theorem d_Rows_remove_40 : decode prog_12_method_7_code 40 = .ok (.goto 11, 3) := by decide +kernel
theorem d_Rows_remove_43 : decode prog_12_method_7_code 43 = .ok (.aload_n 2, 1) := by decide +kernel
theorem d_Rows_remove_44 : decode prog_12_method_7_code 44 = .ok (.aload_n 3, 1) := by decide +kernel
theorem d_Rows_remove_45 : decode prog_12_method_7_code 45 = .ok (.getfield 25, 3) := by decide +kernel
theorem d_Rows_remove_48 : decode prog_12_method_7_code 48 = .ok (.putfield 25, 3) := by decide +kernel
theorem d_Rows_remove_51 : decode prog_12_method_7_code 51 = .ok (.aload_n 3, 1) := by decide +kernel
theorem d_Rows_remove_52 : decode prog_12_method_7_code 52 = .ok (.aload_n 0, 1) := by decide +kernel
theorem d_Rows_remove_53 : decode prog_12_method_7_code 53 = .ok (.getfield 34, 3) := by decide +kernel
theorem d_Rows_remove_56 : decode prog_12_method_7_code 56 = .ok (.putfield 25, 3) := by decide +kernel
theorem d_Rows_remove_59 : decode prog_12_method_7_code 59 = .ok (.aload_n 0, 1) := by decide +kernel
theorem d_Rows_remove_60 : decode prog_12_method_7_code 60 = .ok (.aload_n 3, 1) := by decide +kernel
theorem d_Rows_remove_61 : decode prog_12_method_7_code 61 = .ok (.putfield 34, 3) := by decide +kernel
theorem d_Rows_remove_64 : decode prog_12_method_7_code 64 = .ok (.aload_n 0, 1) := by decide +kernel
theorem d_Rows_remove_65 : decode prog_12_method_7_code 65 = .ok (.dup, 1) := by decide +kernel
theorem d_Rows_remove_66 : decode prog_12_method_7_code 66 = .ok (.getfield 51, 3) := by decide +kernel
theorem d_Rows_remove_69 : decode prog_12_method_7_code 69 = .ok (.iconst 1, 1) := by decide +kernel
theorem d_Rows_remove_70 : decode prog_12_method_7_code 70 = .ok (.isub, 1) := by decide +kernel
theorem d_Rows_remove_71 : decode prog_12_method_7_code 71 = .ok (.putfield 51, 3) := by decide +kernel
theorem d_Rows_remove_74 : decode prog_12_method_7_code 74 = .ok (.return_, 1) := by decide +kernel
theorem d_Rows_clear_0 : decode prog_12_method_8_code 0 = .ok (.aload_n 0, 1) := by decide +kernel
theorem d_Rows_clear_1 : decode prog_12_method_8_code 1 = .ok (.getfield 7, 3) := by decide +kernel
theorem d_Rows_clear_4 : decode prog_12_method_8_code 4 = .ok (.ifnull 20, 3) := by decide +kernel
theorem d_Rows_clear_7 : decode prog_12_method_8_code 7 = .ok (.aload_n 0, 1) := by decide +kernel
theorem d_Rows_clear_8 : decode prog_12_method_8_code 8 = .ok (.aload_n 0, 1) := by decide +kernel
theorem d_Rows_clear_9 : decode prog_12_method_8_code 9 = .ok (.getfield 7, 3) := by decide +kernel
theorem d_Rows_clear_12 : decode prog_12_method_8_code 12 = .ok (.getfield 13, 3) := by decide +kernel
theorem d_Rows_clear_15 : decode prog_12_method_8_code 15 = .ok (.getfield 19, 3) := by decide +kernel
theorem d_Rows_clear_18 : decode prog_12_method_8_code 18 = .ok (.invokevirtual 54, 3) := by decide +kernel
theorem d_Rows_clear_21 : decode prog_12_method_8_code 21 = .ok (.goto (-21), 3) := by decide +kernel
theorem d_Rows_clear_24 : decode prog_12_method_8_code 24 = .ok (.return_, 1) := by decide +kernel
theorem d_Rows_order_0 : decode prog_12_method_9_code 0 = .ok (.aload_n 0, 1) := by decide +kernel
theorem d_Rows_order_1 : decode prog_12_method_9_code 1 = .ok (.getfield 7, 3) := by decide +kernel
theorem d_Rows_order_4 : decode prog_12_method_9_code 4 = .ok (.astore_n 1, 1) := by decide +kernel
theorem d_Rows_order_5 : decode prog_12_method_9_code 5 = .ok (.aload_n 0, 1) := by decide +kernel
theorem d_Rows_order_6 : decode prog_12_method_9_code 6 = .ok (.aconst_null, 1) := by decide +kernel
theorem d_Rows_order_7 : decode prog_12_method_9_code 7 = .ok (.putfield 7, 3) := by decide +kernel
theorem d_Rows_order_10 : decode prog_12_method_9_code 10 = .ok (.aload_n 1, 1) := by decide +kernel
theorem d_Rows_order_11 : decode prog_12_method_9_code 11 = .ok (.ifnull 18, 3) := by decide +kernel
theorem d_Rows_order_14 : decode prog_12_method_9_code 14 = .ok (.aload_n 1, 1) := by decide +kernel
theorem d_Rows_order_15 : decode prog_12_method_9_code 15 = .ok (.astore_n 2, 1) := by decide +kernel
theorem d_Rows_order_16 : decode prog_12_method_9_code 16 = .ok (.aload_n 1, 1) := by decide +kernel
theorem d_Rows_order_17 : decode prog_12_method_9_code 17 = .ok (.getfield 25, 3) := by decide +kernel
theorem d_Rows_order_20 : decode prog_12_method_9_code 20 = .ok (.astore_n 1, 1) := by decide +kernel
theorem d_Rows_order_21 : decode prog_12_method_9_code 21 = .ok (.aload_n 0, 1) := by decide +kernel
theorem d_Rows_order_22 : decode prog_12_method_9_code 22 = .ok (.aload_n 2, 1) := by decide +kernel
theorem d_Rows_order_23 : decode prog_12_method_9_code 23 = .ok (.invokevirtual 47, 3) := by decide +kernel
theorem d_Rows_order_26 : decode prog_12_method_9_code 26 = .ok (.goto (-16), 3) := by decide +kernel
theorem d_Rows_order_29 : decode prog_12_method_9_code 29 = .ok (.return_, 1) := by decide +kernel
theorem d_Rows_rename_0 : decode prog_12_method_10_code 0 = .ok (.aload_n 0, 1) := by decide +kernel
theorem d_Rows_rename_1 : decode prog_12_method_10_code 1 = .ok (.getfield 7, 3) := by decide +kernel
theorem d_Rows_rename_4 : decode prog_12_method_10_code 4 = .ok (.astore_n 3, 1) := by decide +kernel
theorem d_Rows_rename_5 : decode prog_12_method_10_code 5 = .ok (.aload_n 3, 1) := by decide +kernel
theorem d_Rows_rename_6 : decode prog_12_method_10_code 6 = .ok (.ifnull 44, 3) := by decide +kernel
theorem d_Rows_rename_9 : decode prog_12_method_10_code 9 = .ok (.aload_n 3, 1) := by decide +kernel
theorem d_Rows_rename_10 : decode prog_12_method_10_code 10 = .ok (.getfield 13, 3) := by decide +kernel
theorem d_Rows_rename_13 : decode prog_12_method_10_code 13 = .ok (.getfield 19, 3) := by decide +kernel
theorem d_Rows_rename_16 : decode prog_12_method_10_code 16 = .ok (.iload_n 1, 1) := by decide +kernel
theorem d_Rows_rename_17 : decode prog_12_method_10_code 17 = .ok (.invokestatic 58, 3) := by decide +kernel
theorem d_Rows_rename_20 : decode prog_12_method_10_code 20 = .ok (.ifCond .eq 22, 3) := by decide +kernel
theorem d_Rows_rename_23 : decode prog_12_method_10_code 23 = .ok (.aload_n 3, 1) := by decide +kernel
theorem d_Rows_rename_24 : decode prog_12_method_10_code 24 = .ok (.getfield 13, 3) := by decide +kernel
theorem d_Rows_rename_27 : decode prog_12_method_10_code 27 = .ok (.aload_n 3, 1) := by decide +kernel
theorem d_Rows_rename_28 : decode prog_12_method_10_code 28 = .ok (.getfield 13, 3) := by decide +kernel
theorem d_Rows_rename_31 : decode prog_12_method_10_code 31 = .ok (.getfield 19, 3) := by decide +kernel
theorem d_Rows_rename_34 : decode prog_12_method_10_code 34 = .ok (.iload_n 1, 1) := by decide +kernel
theorem d_Rows_rename_35 : decode prog_12_method_10_code 35 = .ok (.iload_n 2, 1) := by decide +kernel
theorem d_Rows_rename_36 : decode prog_12_method_10_code 36 = .ok (.invokestatic 62, 3) := by decide +kernel
theorem d_Rows_rename_39 : decode prog_12_method_10_code 39 = .ok (.putfield 19, 3) := by decide +kernel
theorem d_Rows_rename_42 : decode prog_12_method_10_code 42 = .ok (.aload_n 3, 1) := by decide +kernel
theorem d_Rows_rename_43 : decode prog_12_method_10_code 43 = .ok (.getfield 25, 3) := by decide +kernel
theorem d_Rows_rename_46 : decode prog_12_method_10_code 46 = .ok (.astore_n 3, 1) := by decide +kernel
theorem d_Rows_rename_47 : decode prog_12_method_10_code 47 = .ok (.goto (-42), 3) := by decide +kernel
theorem d_Rows_rename_50 : decode prog_12_method_10_code 50 = .ok (.aload_n 0, 1) := by decide +kernel
theorem d_Rows_rename_51 : decode prog_12_method_10_code 51 = .ok (.invokevirtual 66, 3) := by decide +kernel
theorem d_Rows_rename_54 : decode prog_12_method_10_code 54 = .ok (.return_, 1) := by decide +kernel
theorem d_Rows_lift_0 : decode prog_12_method_11_code 0 = .ok (.aload_n 0, 1) := by decide +kernel
theorem d_Rows_lift_1 : decode prog_12_method_11_code 1 = .ok (.getfield 7, 3) := by decide +kernel
theorem d_Rows_lift_4 : decode prog_12_method_11_code 4 = .ok (.astore_n 2, 1) := by decide +kernel
theorem d_Rows_lift_5 : decode prog_12_method_11_code 5 = .ok (.aload_n 2, 1) := by decide +kernel
theorem d_Rows_lift_6 : decode prog_12_method_11_code 6 = .ok (.ifnull 43, 3) := by decide +kernel
theorem d_Rows_lift_9 : decode prog_12_method_11_code 9 = .ok (.aload_n 2, 1) := by decide +kernel
theorem d_Rows_lift_10 : decode prog_12_method_11_code 10 = .ok (.getfield 13, 3) := by decide +kernel
theorem d_Rows_lift_13 : decode prog_12_method_11_code 13 = .ok (.getfield 19, 3) := by decide +kernel
theorem d_Rows_lift_16 : decode prog_12_method_11_code 16 = .ok (.iload_n 1, 1) := by decide +kernel
theorem d_Rows_lift_17 : decode prog_12_method_11_code 17 = .ok (.invokestatic 58, 3) := by decide +kernel
theorem d_Rows_lift_20 : decode prog_12_method_11_code 20 = .ok (.ifCond .eq 21, 3) := by decide +kernel
theorem d_Rows_lift_23 : decode prog_12_method_11_code 23 = .ok (.aload_n 2, 1) := by decide +kernel
theorem d_Rows_lift_24 : decode prog_12_method_11_code 24 = .ok (.getfield 13, 3) := by decide +kernel
theorem d_Rows_lift_27 : decode prog_12_method_11_code 27 = .ok (.aload_n 2, 1) := by decide +kernel
theorem d_Rows_lift_28 : decode prog_12_method_11_code 28 = .ok (.getfield 13, 3) := by decide +kernel
theorem d_Rows_lift_31 : decode prog_12_method_11_code 31 = .ok (.getfield 19, 3) := by decide +kernel
theorem d_Rows_lift_34 : decode prog_12_method_11_code 34 = .ok (.iload_n 1, 1) := by decide +kernel
theorem d_Rows_lift_35 : decode prog_12_method_11_code 35 = .ok (.invokestatic 69, 3) := by decide +kernel
theorem d_Rows_lift_38 : decode prog_12_method_11_code 38 = .ok (.putfield 19, 3) := by decide +kernel
theorem d_Rows_lift_41 : decode prog_12_method_11_code 41 = .ok (.aload_n 2, 1) := by decide +kernel
theorem d_Rows_lift_42 : decode prog_12_method_11_code 42 = .ok (.getfield 25, 3) := by decide +kernel
theorem d_Rows_lift_45 : decode prog_12_method_11_code 45 = .ok (.astore_n 2, 1) := by decide +kernel
theorem d_Rows_lift_46 : decode prog_12_method_11_code 46 = .ok (.goto (-41), 3) := by decide +kernel
theorem d_Rows_lift_49 : decode prog_12_method_11_code 49 = .ok (.aload_n 0, 1) := by decide +kernel
theorem d_Rows_lift_50 : decode prog_12_method_11_code 50 = .ok (.invokevirtual 66, 3) := by decide +kernel
theorem d_Rows_lift_53 : decode prog_12_method_11_code 53 = .ok (.return_, 1) := by decide +kernel
theorem d_Rows_sink_0 : decode prog_12_method_12_code 0 = .ok (.aload_n 0, 1) := by decide +kernel
theorem d_Rows_sink_1 : decode prog_12_method_12_code 1 = .ok (.getfield 7, 3) := by decide +kernel
theorem d_Rows_sink_4 : decode prog_12_method_12_code 4 = .ok (.astore_n 3, 1) := by decide +kernel
theorem d_Rows_sink_5 : decode prog_12_method_12_code 5 = .ok (.aload_n 3, 1) := by decide +kernel
theorem d_Rows_sink_6 : decode prog_12_method_12_code 6 = .ok (.ifnull 44, 3) := by decide +kernel
theorem d_Rows_sink_9 : decode prog_12_method_12_code 9 = .ok (.aload_n 3, 1) := by decide +kernel
theorem d_Rows_sink_10 : decode prog_12_method_12_code 10 = .ok (.getfield 13, 3) := by decide +kernel
theorem d_Rows_sink_13 : decode prog_12_method_12_code 13 = .ok (.getfield 19, 3) := by decide +kernel
theorem d_Rows_sink_16 : decode prog_12_method_12_code 16 = .ok (.iload_n 1, 1) := by decide +kernel
theorem d_Rows_sink_17 : decode prog_12_method_12_code 17 = .ok (.invokestatic 58, 3) := by decide +kernel
theorem d_Rows_sink_20 : decode prog_12_method_12_code 20 = .ok (.ifCond .eq 22, 3) := by decide +kernel
theorem d_Rows_sink_23 : decode prog_12_method_12_code 23 = .ok (.aload_n 3, 1) := by decide +kernel
theorem d_Rows_sink_24 : decode prog_12_method_12_code 24 = .ok (.getfield 13, 3) := by decide +kernel
theorem d_Rows_sink_27 : decode prog_12_method_12_code 27 = .ok (.aload_n 3, 1) := by decide +kernel
theorem d_Rows_sink_28 : decode prog_12_method_12_code 28 = .ok (.getfield 13, 3) := by decide +kernel
theorem d_Rows_sink_31 : decode prog_12_method_12_code 31 = .ok (.getfield 19, 3) := by decide +kernel
theorem d_Rows_sink_34 : decode prog_12_method_12_code 34 = .ok (.iload_n 1, 1) := by decide +kernel
theorem d_Rows_sink_35 : decode prog_12_method_12_code 35 = .ok (.iload_n 2, 1) := by decide +kernel
theorem d_Rows_sink_36 : decode prog_12_method_12_code 36 = .ok (.invokestatic 72, 3) := by decide +kernel
theorem d_Rows_sink_39 : decode prog_12_method_12_code 39 = .ok (.putfield 19, 3) := by decide +kernel
theorem d_Rows_sink_42 : decode prog_12_method_12_code 42 = .ok (.aload_n 3, 1) := by decide +kernel
theorem d_Rows_sink_43 : decode prog_12_method_12_code 43 = .ok (.getfield 25, 3) := by decide +kernel
theorem d_Rows_sink_46 : decode prog_12_method_12_code 46 = .ok (.astore_n 3, 1) := by decide +kernel
theorem d_Rows_sink_47 : decode prog_12_method_12_code 47 = .ok (.goto (-42), 3) := by decide +kernel
theorem d_Rows_sink_50 : decode prog_12_method_12_code 50 = .ok (.aload_n 0, 1) := by decide +kernel
theorem d_Rows_sink_51 : decode prog_12_method_12_code 51 = .ok (.invokevirtual 66, 3) := by decide +kernel
theorem d_Rows_sink_54 : decode prog_12_method_12_code 54 = .ok (.return_, 1) := by decide +kernel
theorem d_Rows_inside_0 : decode prog_12_method_13_code 0 = .ok (.iconst 0, 1) := by decide +kernel
theorem d_Rows_inside_1 : decode prog_12_method_13_code 1 = .ok (.istore_n 2, 1) := by decide +kernel
theorem d_Rows_inside_2 : decode prog_12_method_13_code 2 = .ok (.aload_n 0, 1) := by decide +kernel
theorem d_Rows_inside_3 : decode prog_12_method_13_code 3 = .ok (.getfield 7, 3) := by decide +kernel
theorem d_Rows_inside_6 : decode prog_12_method_13_code 6 = .ok (.astore_n 3, 1) := by decide +kernel
theorem d_Rows_inside_7 : decode prog_12_method_13_code 7 = .ok (.aload_n 3, 1) := by decide +kernel
theorem d_Rows_inside_8 : decode prog_12_method_13_code 8 = .ok (.ifnull 44, 3) := by decide +kernel
theorem d_Rows_inside_11 : decode prog_12_method_13_code 11 = .ok (.iload_n 2, 1) := by decide +kernel
theorem d_Rows_inside_12 : decode prog_12_method_13_code 12 = .ok (.aload_n 3, 1) := by decide +kernel
theorem d_Rows_inside_13 : decode prog_12_method_13_code 13 = .ok (.getfield 13, 3) := by decide +kernel
theorem d_Rows_inside_16 : decode prog_12_method_13_code 16 = .ok (.getfield 19, 3) := by decide +kernel
theorem d_Rows_inside_19 : decode prog_12_method_13_code 19 = .ok (.iload_n 1, 1) := by decide +kernel
theorem d_Rows_inside_20 : decode prog_12_method_13_code 20 = .ok (.if_icmp .eq 21, 3) := by decide +kernel
theorem d_Rows_inside_23 : decode prog_12_method_13_code 23 = .ok (.aload_n 3, 1) := by decide +kernel
theorem d_Rows_inside_24 : decode prog_12_method_13_code 24 = .ok (.getfield 13, 3) := by decide +kernel
theorem d_Rows_inside_27 : decode prog_12_method_13_code 27 = .ok (.getfield 19, 3) := by decide +kernel
theorem d_Rows_inside_30 : decode prog_12_method_13_code 30 = .ok (.iload_n 1, 1) := by decide +kernel
theorem d_Rows_inside_31 : decode prog_12_method_13_code 31 = .ok (.invokestatic 58, 3) := by decide +kernel
theorem d_Rows_inside_34 : decode prog_12_method_13_code 34 = .ok (.ifCond .eq 7, 3) := by decide +kernel
theorem d_Rows_inside_37 : decode prog_12_method_13_code 37 = .ok (.iconst 1, 1) := by decide +kernel
theorem d_Rows_inside_38 : decode prog_12_method_13_code 38 = .ok (.goto 4, 3) := by decide +kernel
theorem d_Rows_inside_41 : decode prog_12_method_13_code 41 = .ok (.iconst 0, 1) := by decide +kernel
theorem d_Rows_inside_42 : decode prog_12_method_13_code 42 = .ok (.iadd, 1) := by decide +kernel
theorem d_Rows_inside_43 : decode prog_12_method_13_code 43 = .ok (.istore_n 2, 1) := by decide +kernel
theorem d_Rows_inside_44 : decode prog_12_method_13_code 44 = .ok (.aload_n 3, 1) := by decide +kernel
theorem d_Rows_inside_45 : decode prog_12_method_13_code 45 = .ok (.getfield 25, 3) := by decide +kernel
theorem d_Rows_inside_48 : decode prog_12_method_13_code 48 = .ok (.astore_n 3, 1) := by decide +kernel
theorem d_Rows_inside_49 : decode prog_12_method_13_code 49 = .ok (.goto (-42), 3) := by decide +kernel
theorem d_Rows_inside_52 : decode prog_12_method_13_code 52 = .ok (.iload_n 2, 1) := by decide +kernel
theorem d_Rows_inside_53 : decode prog_12_method_13_code 53 = .ok (.ireturn, 1) := by decide +kernel
theorem d_Schema_init_0 : decode prog_13_method_1_code 0 = .ok (.aload_n 0, 1) := by decide +kernel
theorem d_Schema_init_1 : decode prog_13_method_1_code 1 = .ok (.invokespecial 3, 3) := by decide +kernel
theorem d_Schema_init_4 : decode prog_13_method_1_code 4 = .ok (.return_, 1) := by decide +kernel
theorem d_Schema_make1_0 : decode prog_13_method_2_code 0 = .ok (.new 9, 3) := by decide +kernel
theorem d_Schema_make1_3 : decode prog_13_method_2_code 3 = .ok (.dup, 1) := by decide +kernel
theorem d_Schema_make1_4 : decode prog_13_method_2_code 4 = .ok (.invokespecial 11, 3) := by decide +kernel
theorem d_Schema_make1_7 : decode prog_13_method_2_code 7 = .ok (.areturn, 1) := by decide +kernel
theorem d_Schema_make2_0 : decode prog_13_method_8_code 0 = .ok (.aload_n 0, 1) := by decide +kernel
theorem d_Schema_make2_1 : decode prog_13_method_8_code 1 = .ok (.invokevirtual 64, 3) := by decide +kernel
theorem d_Schema_make2_4 : decode prog_13_method_8_code 4 = .ok (.areturn, 1) := by decide +kernel
theorem d_Schema_add_0 : decode prog_13_method_3_code 0 = .ok (.aload_n 0, 1) := by decide +kernel
theorem d_Schema_add_1 : decode prog_13_method_3_code 1 = .ok (.iload_n 1, 1) := by decide +kernel
theorem d_Schema_add_2 : decode prog_13_method_3_code 2 = .ok (.invokevirtual 12, 3) := by decide +kernel
theorem d_Schema_add_5 : decode prog_13_method_3_code 5 = .ok (.checkcast 9, 3) := by decide +kernel
theorem d_Schema_add_8 : decode prog_13_method_3_code 8 = .ok (.astore 5, 2) := by decide +kernel
theorem d_Schema_add_10 : decode prog_13_method_3_code 10 = .ok (.aload 5, 2) := by decide +kernel
theorem d_Schema_add_12 : decode prog_13_method_3_code 12 = .ok (.iload_n 2, 1) := by decide +kernel
theorem d_Schema_add_13 : decode prog_13_method_3_code 13 = .ok (.putfield 18, 3) := by decide +kernel
theorem d_Schema_add_16 : decode prog_13_method_3_code 16 = .ok (.aload 5, 2) := by decide +kernel
theorem d_Schema_add_18 : decode prog_13_method_3_code 18 = .ok (.iload_n 2, 1) := by decide +kernel
theorem d_Schema_add_19 : decode prog_13_method_3_code 19 = .ok (.iconst 2, 1) := by decide +kernel
theorem d_Schema_add_20 : decode prog_13_method_3_code 20 = .ok (.if_icmp .ne 7, 3) := by decide +kernel
theorem d_Schema_add_23 : decode prog_13_method_3_code 23 = .ok (.iconst 0, 1) := by decide +kernel
theorem d_Schema_add_24 : decode prog_13_method_3_code 24 = .ok (.goto 4, 3) := by decide +kernel
theorem d_Schema_add_27 : decode prog_13_method_3_code 27 = .ok (.iload_n 3, 1) := by decide +kernel
theorem d_Schema_add_28 : decode prog_13_method_3_code 28 = .ok (.putfield 22, 3) := by decide +kernel
theorem d_Schema_add_31 : decode prog_13_method_3_code 31 = .ok (.aload 5, 2) := by decide +kernel
theorem d_Schema_add_33 : decode prog_13_method_3_code 33 = .ok (.iload_n 2, 1) := by decide +kernel
theorem d_Schema_add_34 : decode prog_13_method_3_code 34 = .ok (.iconst 2, 1) := by decide +kernel
theorem d_Schema_add_35 : decode prog_13_method_3_code 35 = .ok (.if_icmp .ne 7, 3) := by decide +kernel
theorem d_Schema_add_38 : decode prog_13_method_3_code 38 = .ok (.iconst 0, 1) := by decide +kernel
theorem d_Schema_add_39 : decode prog_13_method_3_code 39 = .ok (.goto 5, 3) := by decide +kernel
theorem d_Schema_add_42 : decode prog_13_method_3_code 42 = .ok (.iload 4, 2) := by decide +kernel
theorem d_Schema_add_44 : decode prog_13_method_3_code 44 = .ok (.putfield 25, 3) := by decide +kernel
theorem d_Schema_add_47 : decode prog_13_method_3_code 47 = .ok (.return_, 1) := by decide +kernel
theorem d_Schema_copy_0 : decode prog_13_method_4_code 0 = .ok (.aload_n 0, 1) := by decide +kernel
theorem d_Schema_copy_1 : decode prog_13_method_4_code 1 = .ok (.invokevirtual 28, 3) := by decide +kernel
theorem d_Schema_copy_4 : decode prog_13_method_4_code 4 = .ok (.iconst 0, 1) := by decide +kernel
theorem d_Schema_copy_5 : decode prog_13_method_4_code 5 = .ok (.istore_n 2, 1) := by decide +kernel
theorem d_Schema_copy_6 : decode prog_13_method_4_code 6 = .ok (.iload_n 2, 1) := by decide +kernel
theorem d_Schema_copy_7 : decode prog_13_method_4_code 7 = .ok (.aload_n 1, 1) := by decide +kernel
theorem d_Schema_copy_8 : decode prog_13_method_4_code 8 = .ok (.getfield 31, 3) := by decide +kernel
theorem d_Schema_copy_11 : decode prog_13_method_4_code 11 = .ok (.if_icmp .ge 38, 3) := by decide +kernel
theorem d_Schema_copy_14 : decode prog_13_method_4_code 14 = .ok (.aload_n 1, 1) := by decide +kernel
theorem d_Schema_copy_15 : decode prog_13_method_4_code 15 = .ok (.iload_n 2, 1) := by decide +kernel
theorem d_Schema_copy_16 : decode prog_13_method_4_code 16 = .ok (.invokevirtual 34, 3) := by decide +kernel
theorem d_Schema_copy_19 : decode prog_13_method_4_code 19 = .ok (.checkcast 9, 3) := by decide +kernel
theorem d_Schema_copy_22 : decode prog_13_method_4_code 22 = .ok (.astore_n 3, 1) := by decide +kernel
theorem d_Schema_copy_23 : decode prog_13_method_4_code 23 = .ok (.aload_n 0, 1) := by decide +kernel
theorem d_Schema_copy_24 : decode prog_13_method_4_code 24 = .ok (.aload_n 3, 1) := by decide +kernel
theorem d_Schema_copy_25 : decode prog_13_method_4_code 25 = .ok (.getfield 37, 3) := by decide +kernel
theorem d_Schema_copy_28 : decode prog_13_method_4_code 28 = .ok (.aload_n 3, 1) := by decide +kernel
theorem d_Schema_copy_29 : decode prog_13_method_4_code 29 = .ok (.getfield 18, 3) := by decide +kernel
theorem d_Schema_copy_32 : decode prog_13_method_4_code 32 = .ok (.aload_n 3, 1) := by decide +kernel
theorem d_Schema_copy_33 : decode prog_13_method_4_code 33 = .ok (.getfield 22, 3) := by decide +kernel
theorem d_Schema_copy_36 : decode prog_13_method_4_code 36 = .ok (.aload_n 3, 1) := by decide +kernel
theorem d_Schema_copy_37 : decode prog_13_method_4_code 37 = .ok (.getfield 25, 3) := by decide +kernel
theorem d_Schema_copy_40 : decode prog_13_method_4_code 40 = .ok (.invokevirtual 40, 3) := by decide +kernel
theorem d_Schema_copy_43 : decode prog_13_method_4_code 43 = .ok (.iinc 2 1, 3) := by decide +kernel
theorem d_Schema_copy_46 : decode prog_13_method_4_code 46 = .ok (.goto (-40), 3) := by decide +kernel
theorem d_Schema_copy_49 : decode prog_13_method_4_code 49 = .ok (.return_, 1) := by decide +kernel
theorem d_Schema_isLike_0 : decode prog_13_method_5_code 0 = .ok (.aload_n 0, 1) := by decide +kernel
theorem d_Schema_isLike_1 : decode prog_13_method_5_code 1 = .ok (.getfield 31, 3) := by decide +kernel
theorem d_Schema_isLike_4 : decode prog_13_method_5_code 4 = .ok (.aload_n 1, 1) := by decide +kernel
theorem d_Schema_isLike_5 : decode prog_13_method_5_code 5 = .ok (.getfield 31, 3) := by decide +kernel
theorem d_Schema_isLike_8 : decode prog_13_method_5_code 8 = .ok (.if_icmp .ne 7, 3) := by decide +kernel
theorem d_Schema_isLike_11 : decode prog_13_method_5_code 11 = .ok (.iconst 1, 1) := by decide +kernel
theorem d_Schema_isLike_12 : decode prog_13_method_5_code 12 = .ok (.goto 4, 3) := by decide +kernel
theorem d_Schema_isLike_15 : decode prog_13_method_5_code 15 = .ok (.iconst 0, 1) := by decide +kernel
theorem d_Schema_isLike_16 : decode prog_13_method_5_code 16 = .ok (.istore_n 2, 1) := by decide +kernel
theorem d_Schema_isLike_17 : decode prog_13_method_5_code 17 = .ok (.iconst 0, 1) := by decide +kernel
theorem d_Schema_isLike_18 : decode prog_13_method_5_code 18 = .ok (.istore_n 3, 1) := by decide +kernel
theorem d_Schema_isLike_19 : decode prog_13_method_5_code 19 = .ok (.iload_n 3, 1) := by decide +kernel
theorem d_Schema_isLike_20 : decode prog_13_method_5_code 20 = .ok (.aload_n 0, 1) := by decide +kernel
theorem d_Schema_isLike_21 : decode prog_13_method_5_code 21 = .ok (.getfield 31, 3) := by decide +kernel
theorem d_Schema_isLike_24 : decode prog_13_method_5_code 24 = .ok (.if_icmp .ge 33, 3) := by decide +kernel
theorem d_Schema_isLike_27 : decode prog_13_method_5_code 27 = .ok (.iload_n 2, 1) := by decide +kernel
theorem d_Schema_isLike_28 : decode prog_13_method_5_code 28 = .ok (.ifCond .eq 29, 3) := by decide +kernel
theorem d_Schema_isLike_31 : decode prog_13_method_5_code 31 = .ok (.aload_n 0, 1) := by decide +kernel
theorem d_Schema_isLike_32 : decode prog_13_method_5_code 32 = .ok (.iload_n 3, 1) := by decide +kernel
theorem d_Schema_isLike_33 : decode prog_13_method_5_code 33 = .ok (.invokevirtual 34, 3) := by decide +kernel
theorem d_Schema_isLike_36 : decode prog_13_method_5_code 36 = .ok (.checkcast 9, 3) := by decide +kernel
theorem d_Schema_isLike_39 : decode prog_13_method_5_code 39 = .ok (.aload_n 1, 1) := by decide +kernel
theorem d_Schema_isLike_40 : decode prog_13_method_5_code 40 = .ok (.iload_n 3, 1) := by decide +kernel
theorem d_Schema_isLike_41 : decode prog_13_method_5_code 41 = .ok (.invokevirtual 34, 3) := by decide +kernel
theorem d_Schema_isLike_44 : decode prog_13_method_5_code 44 = .ok (.checkcast 9, 3) := by decide +kernel
theorem d_Schema_isLike_47 : decode prog_13_method_5_code 47 = .ok (.invokevirtual 43, 3) := by decide +kernel
theorem d_Schema_isLike_50 : decode prog_13_method_5_code 50 = .ok (.istore_n 2, 1) := by decide +kernel
theorem d_Schema_isLike_51 : decode prog_13_method_5_code 51 = .ok (.iinc 3 1, 3) := by decide +kernel
theorem d_Schema_isLike_54 : decode prog_13_method_5_code 54 = .ok (.goto (-35), 3) := by decide +kernel
theorem d_Schema_isLike_57 : decode prog_13_method_5_code 57 = .ok (.iload_n 2, 1) := by decide +kernel
theorem d_Schema_isLike_58 : decode prog_13_method_5_code 58 = .ok (.ireturn, 1) := by decide +kernel
theorem d_Schema_isSort_0 : decode prog_13_method_6_code 0 = .ok (.aload_n 0, 1) := by decide +kernel
theorem d_Schema_isSort_1 : decode prog_13_method_6_code 1 = .ok (.iload_n 1, 1) := by decide +kernel
theorem d_Schema_isSort_2 : decode prog_13_method_6_code 2 = .ok (.invokevirtual 47, 3) := by decide +kernel
theorem d_Schema_isSort_5 : decode prog_13_method_6_code 5 = .ok (.checkcast 9, 3) := by decide +kernel
theorem d_Schema_isSort_8 : decode prog_13_method_6_code 8 = .ok (.astore_n 3, 1) := by decide +kernel
theorem d_Schema_isSort_9 : decode prog_13_method_6_code 9 = .ok (.aload_n 3, 1) := by decide +kernel
theorem d_Schema_isSort_10 : decode prog_13_method_6_code 10 = .ok (.ifnull 15, 3) := by decide +kernel
theorem d_Schema_isSort_13 : decode prog_13_method_6_code 13 = .ok (.aload_n 3, 1) := by decide +kernel
theorem d_Schema_isSort_14 : decode prog_13_method_6_code 14 = .ok (.getfield 18, 3) := by decide +kernel
theorem d_Schema_isSort_17 : decode prog_13_method_6_code 17 = .ok (.iload_n 2, 1) := by decide +kernel
theorem d_Schema_isSort_18 : decode prog_13_method_6_code 18 = .ok (.if_icmp .ne 7, 3) := by decide +kernel
theorem d_Schema_isSort_21 : decode prog_13_method_6_code 21 = .ok (.iconst 1, 1) := by decide +kernel
theorem d_Schema_isSort_22 : decode prog_13_method_6_code 22 = .ok (.goto 4, 3) := by decide +kernel
theorem d_Schema_isSort_25 : decode prog_13_method_6_code 25 = .ok (.iconst 0, 1) := by decide +kernel
theorem d_Schema_isSort_26 : decode prog_13_method_6_code 26 = .ok (.ireturn, 1) := by decide +kernel
theorem d_Schema_isFree_0 : decode prog_13_method_7_code 0 = .ok (.iload_n 1, 1) := by decide +kernel
theorem d_Schema_isFree_1 : decode prog_13_method_7_code 1 = .ok (.invokestatic 50, 3) := by decide +kernel
theorem d_Schema_isFree_4 : decode prog_13_method_7_code 4 = .ok (.ifCond .eq 28, 3) := by decide +kernel
theorem d_Schema_isFree_7 : decode prog_13_method_7_code 7 = .ok (.iload_n 1, 1) := by decide +kernel
theorem d_Schema_isFree_8 : decode prog_13_method_7_code 8 = .ok (.ifCond .eq 24, 3) := by decide +kernel
theorem d_Schema_isFree_11 : decode prog_13_method_7_code 11 = .ok (.aload_n 0, 1) := by decide +kernel
theorem d_Schema_isFree_12 : decode prog_13_method_7_code 12 = .ok (.iload_n 1, 1) := by decide +kernel
theorem d_Schema_isFree_13 : decode prog_13_method_7_code 13 = .ok (.invokevirtual 47, 3) := by decide +kernel
theorem d_Schema_isFree_16 : decode prog_13_method_7_code 16 = .ok (.ifnonnull 16, 3) := by decide +kernel
theorem d_Schema_isFree_19 : decode prog_13_method_7_code 19 = .ok (.aload_n 0, 1) := by decide +kernel
theorem d_Schema_isFree_20 : decode prog_13_method_7_code 20 = .ok (.getfield 31, 3) := by decide +kernel
theorem d_Schema_isFree_23 : decode prog_13_method_7_code 23 = .ok (.bipush 24, 2) := by decide +kernel
theorem d_Schema_isFree_25 : decode prog_13_method_7_code 25 = .ok (.if_icmp .ge 7, 3) := by decide +kernel
theorem d_Schema_isFree_28 : decode prog_13_method_7_code 28 = .ok (.iconst 1, 1) := by decide +kernel
theorem d_Schema_isFree_29 : decode prog_13_method_7_code 29 = .ok (.goto 4, 3) := by decide +kernel
theorem d_Schema_isFree_32 : decode prog_13_method_7_code 32 = .ok (.iconst 0, 1) := by decide +kernel
theorem d_Schema_isFree_33 : decode prog_13_method_7_code 33 = .ok (.istore_n 2, 1) := by decide +kernel
theorem d_Schema_isFree_34 : decode prog_13_method_7_code 34 = .ok (.iload_n 2, 1) := by decide +kernel
theorem d_Schema_isFree_35 : decode prog_13_method_7_code 35 = .ok (.ifCond .eq 26, 3) := by decide +kernel
theorem d_Schema_isFree_38 : decode prog_13_method_7_code 38 = .ok (.iload_n 1, 1) := by decide +kernel
theorem d_Schema_isFree_39 : decode prog_13_method_7_code 39 = .ok (.invokestatic 56, 3) := by decide +kernel
theorem d_Schema_isFree_42 : decode prog_13_method_7_code 42 = .ok (.ifCond .eq 15, 3) := by decide +kernel
theorem d_Schema_isFree_45 : decode prog_13_method_7_code 45 = .ok (.aload_n 0, 1) := by decide +kernel
theorem d_Schema_isFree_46 : decode prog_13_method_7_code 46 = .ok (.iload_n 1, 1) := by decide +kernel
theorem d_Schema_isFree_47 : decode prog_13_method_7_code 47 = .ok (.invokestatic 56, 3) := by decide +kernel
theorem d_Schema_isFree_50 : decode prog_13_method_7_code 50 = .ok (.iconst 2, 1) := by decide +kernel
theorem d_Schema_isFree_51 : decode prog_13_method_7_code 51 = .ok (.invokevirtual 60, 3) := by decide +kernel
theorem d_Schema_isFree_54 : decode prog_13_method_7_code 54 = .ok (.ifCond .eq 7, 3) := by decide +kernel
theorem d_Schema_isFree_57 : decode prog_13_method_7_code 57 = .ok (.iconst 1, 1) := by decide +kernel
theorem d_Schema_isFree_58 : decode prog_13_method_7_code 58 = .ok (.goto 4, 3) := by decide +kernel
theorem d_Schema_isFree_61 : decode prog_13_method_7_code 61 = .ok (.iconst 0, 1) := by decide +kernel
theorem d_Schema_isFree_62 : decode prog_13_method_7_code 62 = .ok (.ireturn, 1) := by decide +kernel
theorem d_Sign_init_0 : decode prog_14_method_1_code 0 = .ok (.aload_n 0, 1) := by decide +kernel
theorem d_Sign_init_1 : decode prog_14_method_1_code 1 = .ok (.invokespecial 1, 3) := by decide +kernel
theorem d_Sign_init_4 : decode prog_14_method_1_code 4 = .ok (.return_, 1) := by decide +kernel
theorem d_Sign_clear_0 : decode prog_14_method_2_code 0 = .ok (.aload_n 0, 1) := by decide +kernel
theorem d_Sign_clear_1 : decode prog_14_method_2_code 1 = .ok (.iconst 0, 1) := by decide +kernel
theorem d_Sign_clear_2 : decode prog_14_method_2_code 2 = .ok (.putfield 7, 3) := by decide +kernel
theorem d_Sign_clear_5 : decode prog_14_method_2_code 5 = .ok (.return_, 1) := by decide +kernel
theorem d_Signs_init_0 : decode prog_15_method_1_code 0 = .ok (.aload_n 0, 1) := by decide +kernel
theorem d_Signs_init_1 : decode prog_15_method_1_code 1 = .ok (.invokespecial 3, 3) := by decide +kernel
theorem d_Signs_init_4 : decode prog_15_method_1_code 4 = .ok (.return_, 1) := by decide +kernel
theorem d_Signs_make1_0 : decode prog_15_method_2_code 0 = .ok (.new 9, 3) := by decide +kernel
theorem d_Signs_make1_3 : decode prog_15_method_2_code 3 = .ok (.dup, 1) := by decide +kernel
theorem d_Signs_make1_4 : decode prog_15_method_2_code 4 = .ok (.invokespecial 11, 3) := by decide +kernel
theorem d_Signs_make1_7 : decode prog_15_method_2_code 7 = .ok (.areturn, 1) := by decide +kernel
theorem d_Signs_make2_0 : decode prog_15_method_4_code 0 = .ok (.aload_n 0, 1) := by decide +kernel
theorem d_Signs_make2_1 : decode prog_15_method_4_code 1 = .ok (.invokevirtual 42, 3) := by decide +kernel
theorem d_Signs_make2_4 : decode prog_15_method_4_code 4 = .ok (.areturn, 1) := by decide +kernel
theorem d_Signs_begin_0 : decode prog_15_method_3_code 0 = .ok (.aload_n 0, 1) := by decide +kernel
theorem d_Signs_begin_1 : decode prog_15_method_3_code 1 = .ok (.invokevirtual 12, 3) := by decide +kernel
theorem d_Signs_begin_4 : decode prog_15_method_3_code 4 = .ok (.iconst 0, 1) := by decide +kernel
theorem d_Signs_begin_5 : decode prog_15_method_3_code 5 = .ok (.istore_n 2, 1) := by decide +kernel
theorem d_Signs_begin_6 : decode prog_15_method_3_code 6 = .ok (.iload_n 2, 1) := by decide +kernel
theorem d_Signs_begin_7 : decode prog_15_method_3_code 7 = .ok (.aload_n 1, 1) := by decide +kernel
theorem d_Signs_begin_8 : decode prog_15_method_3_code 8 = .ok (.getfield 17, 3) := by decide +kernel
theorem d_Signs_begin_11 : decode prog_15_method_3_code 11 = .ok (.if_icmp .ge 51, 3) := by decide +kernel
theorem d_Signs_begin_14 : decode prog_15_method_3_code 14 = .ok (.aload_n 1, 1) := by decide +kernel
theorem d_Signs_begin_15 : decode prog_15_method_3_code 15 = .ok (.iload_n 2, 1) := by decide +kernel
theorem d_Signs_begin_16 : decode prog_15_method_3_code 16 = .ok (.invokevirtual 23, 3) := by decide +kernel
theorem d_Signs_begin_19 : decode prog_15_method_3_code 19 = .ok (.checkcast 27, 3) := by decide +kernel
theorem d_Signs_begin_22 : decode prog_15_method_3_code 22 = .ok (.getfield 29, 3) := by decide +kernel
theorem d_Signs_begin_25 : decode prog_15_method_3_code 25 = .ok (.iconst 2, 1) := by decide +kernel
theorem d_Signs_begin_26 : decode prog_15_method_3_code 26 = .ok (.if_icmp .eq 30, 3) := by decide +kernel
theorem d_Signs_begin_29 : decode prog_15_method_3_code 29 = .ok (.aload_n 0, 1) := by decide +kernel
theorem d_Signs_begin_30 : decode prog_15_method_3_code 30 = .ok (.getfield 32, 3) := by decide +kernel
theorem d_Signs_begin_33 : decode prog_15_method_3_code 33 = .ok (.istore_n 3, 1) := by decide +kernel
theorem d_Signs_begin_34 : decode prog_15_method_3_code 34 = .ok (.aload_n 0, 1) := by decide +kernel
theorem d_Signs_begin_35 : decode prog_15_method_3_code 35 = .ok (.aload_n 1, 1) := by decide +kernel
theorem d_Signs_begin_36 : decode prog_15_method_3_code 36 = .ok (.iload_n 2, 1) := by decide +kernel
theorem d_Signs_begin_37 : decode prog_15_method_3_code 37 = .ok (.invokevirtual 23, 3) := by decide +kernel
theorem d_Signs_begin_40 : decode prog_15_method_3_code 40 = .ok (.checkcast 27, 3) := by decide +kernel
theorem d_Signs_begin_43 : decode prog_15_method_3_code 43 = .ok (.getfield 33, 3) := by decide +kernel
theorem d_Signs_begin_46 : decode prog_15_method_3_code 46 = .ok (.invokevirtual 36, 3) := by decide +kernel
theorem d_Signs_begin_49 : decode prog_15_method_3_code 49 = .ok (.checkcast 9, 3) := by decide +kernel
theorem d_Signs_begin_52 : decode prog_15_method_3_code 52 = .ok (.iload_n 3, 1) := by decide +kernel
theorem d_Signs_begin_53 : decode prog_15_method_3_code 53 = .ok (.putfield 39, 3) := by decide +kernel
theorem d_Signs_begin_56 : decode prog_15_method_3_code 56 = .ok (.iinc 2 1, 3) := by decide +kernel
theorem d_Signs_begin_59 : decode prog_15_method_3_code 59 = .ok (.goto (-53), 3) := by decide +kernel
theorem d_Signs_begin_62 : decode prog_15_method_3_code 62 = .ok (.return_, 1) := by decide +kernel
theorem d_Step_init_0 : decode prog_16_method_1_code 0 = .ok (.aload_n 0, 1) := by decide +kernel
theorem d_Step_init_1 : decode prog_16_method_1_code 1 = .ok (.invokespecial 3, 3) := by decide +kernel
theorem d_Step_init_4 : decode prog_16_method_1_code 4 = .ok (.aload_n 0, 1) := by decide +kernel
theorem d_Step_init_5 : decode prog_16_method_1_code 5 = .ok (.bipush 8, 2) := by decide +kernel
theorem d_Step_init_7 : decode prog_16_method_1_code 7 = .ok (.anewarray 9, 3) := by decide +kernel
theorem d_Step_init_10 : decode prog_16_method_1_code 10 = .ok (.putfield 11, 3) := by decide +kernel
theorem d_Step_init_13 : decode prog_16_method_1_code 13 = .ok (.return_, 1) := by decide +kernel
theorem d_Step_joins_0 : decode prog_16_method_2_code 0 = .ok (.aload_n 0, 1) := by decide +kernel
theorem d_Step_joins_1 : decode prog_16_method_2_code 1 = .ok (.getfield 17, 3) := by decide +kernel
theorem d_Step_joins_4 : decode prog_16_method_2_code 4 = .ok (.iload_n 1, 1) := by decide +kernel
theorem d_Step_joins_5 : decode prog_16_method_2_code 5 = .ok (.if_icmp .ne 11, 3) := by decide +kernel
theorem d_Step_joins_8 : decode prog_16_method_2_code 8 = .ok (.aload_n 0, 1) := by decide +kernel
theorem d_Step_joins_9 : decode prog_16_method_2_code 9 = .ok (.getfield 21, 3) := by decide +kernel
theorem d_Step_joins_12 : decode prog_16_method_2_code 12 = .ok (.iload_n 2, 1) := by decide +kernel
theorem d_Step_joins_13 : decode prog_16_method_2_code 13 = .ok (.if_icmp .eq 19, 3) := by decide +kernel
theorem d_Step_joins_16 : decode prog_16_method_2_code 16 = .ok (.aload_n 0, 1) := by decide +kernel
theorem d_Step_joins_17 : decode prog_16_method_2_code 17 = .ok (.getfield 17, 3) := by decide +kernel
theorem d_Step_joins_20 : decode prog_16_method_2_code 20 = .ok (.iload_n 2, 1) := by decide +kernel
theorem d_Step_joins_21 : decode prog_16_method_2_code 21 = .ok (.if_icmp .ne 15, 3) := by decide +kernel
theorem d_Step_joins_24 : decode prog_16_method_2_code 24 = .ok (.aload_n 0, 1) := by decide +kernel
theorem d_Step_joins_25 : decode prog_16_method_2_code 25 = .ok (.getfield 21, 3) := by decide +kernel
theorem d_Step_joins_28 : decode prog_16_method_2_code 28 = .ok (.iload_n 1, 1) := by decide +kernel
theorem d_Step_joins_29 : decode prog_16_method_2_code 29 = .ok (.if_icmp .ne 7, 3) := by decide +kernel
theorem d_Step_joins_32 : decode prog_16_method_2_code 32 = .ok (.iconst 1, 1) := by decide +kernel
theorem d_Step_joins_33 : decode prog_16_method_2_code 33 = .ok (.goto 4, 3) := by decide +kernel
theorem d_Step_joins_36 : decode prog_16_method_2_code 36 = .ok (.iconst 0, 1) := by decide +kernel
theorem d_Step_joins_37 : decode prog_16_method_2_code 37 = .ok (.ireturn, 1) := by decide +kernel
theorem d_Terms_init_0 : decode prog_17_method_1_code 0 = .ok (.aload_n 0, 1) := by decide +kernel
theorem d_Terms_init_1 : decode prog_17_method_1_code 1 = .ok (.invokespecial 3, 3) := by decide +kernel
theorem d_Terms_init_4 : decode prog_17_method_1_code 4 = .ok (.aload_n 0, 1) := by decide +kernel
theorem d_Terms_init_5 : decode prog_17_method_1_code 5 = .ok (.sipush 3840, 3) := by decide +kernel
theorem d_Terms_init_8 : decode prog_17_method_1_code 8 = .ok (.newarray .int, 2) := by decide +kernel
theorem d_Terms_init_10 : decode prog_17_method_1_code 10 = .ok (.putfield 9, 3) := by decide +kernel
theorem d_Terms_init_13 : decode prog_17_method_1_code 13 = .ok (.return_, 1) := by decide +kernel
theorem d_Terms_begin_0 : decode prog_17_method_2_code 0 = .ok (.aload_n 0, 1) := by decide +kernel
theorem d_Terms_begin_1 : decode prog_17_method_2_code 1 = .ok (.iconst 0, 1) := by decide +kernel
theorem d_Terms_begin_2 : decode prog_17_method_2_code 2 = .ok (.putfield 15, 3) := by decide +kernel
theorem d_Terms_begin_5 : decode prog_17_method_2_code 5 = .ok (.iconst 0, 1) := by decide +kernel
theorem d_Terms_begin_6 : decode prog_17_method_2_code 6 = .ok (.istore_n 1, 1) := by decide +kernel
theorem d_Terms_begin_7 : decode prog_17_method_2_code 7 = .ok (.iload_n 1, 1) := by decide +kernel
theorem d_Terms_begin_8 : decode prog_17_method_2_code 8 = .ok (.bipush 24, 2) := by decide +kernel
theorem d_Terms_begin_10 : decode prog_17_method_2_code 10 = .ok (.if_icmp .ge 20, 3) := by decide +kernel
theorem d_Terms_begin_13 : decode prog_17_method_2_code 13 = .ok (.aload_n 0, 1) := by decide +kernel
theorem d_Terms_begin_14 : decode prog_17_method_2_code 14 = .ok (.iconst 0, 1) := by decide +kernel
theorem d_Terms_begin_15 : decode prog_17_method_2_code 15 = .ok (.iload_n 1, 1) := by decide +kernel
theorem d_Terms_begin_16 : decode prog_17_method_2_code 16 = .ok (.iconst 0, 1) := by decide +kernel
theorem d_Terms_begin_17 : decode prog_17_method_2_code 17 = .ok (.iconst 0, 1) := by decide +kernel
theorem d_Terms_begin_18 : decode prog_17_method_2_code 18 = .ok (.iconst 0, 1) := by decide +kernel
theorem d_Terms_begin_19 : decode prog_17_method_2_code 19 = .ok (.iconst 0, 1) := by decide +kernel
theorem d_Terms_begin_20 : decode prog_17_method_2_code 20 = .ok (.invokevirtual 19, 3) := by decide +kernel
theorem d_Terms_begin_23 : decode prog_17_method_2_code 23 = .ok (.pop, 1) := by decide +kernel
theorem d_Terms_begin_24 : decode prog_17_method_2_code 24 = .ok (.iinc 1 1, 3) := by decide +kernel
theorem d_Terms_begin_27 : decode prog_17_method_2_code 27 = .ok (.goto (-20), 3) := by decide +kernel
theorem d_Terms_begin_30 : decode prog_17_method_2_code 30 = .ok (.return_, 1) := by decide +kernel
theorem d_Terms_cell_0 : decode prog_17_method_3_code 0 = .ok (.aload_n 0, 1) := by decide +kernel
theorem d_Terms_cell_1 : decode prog_17_method_3_code 1 = .ok (.getfield 9, 3) := by decide +kernel
theorem d_Terms_cell_4 : decode prog_17_method_3_code 4 = .ok (.bipush 6, 2) := by decide +kernel
theorem d_Terms_cell_6 : decode prog_17_method_3_code 6 = .ok (.iload_n 1, 1) := by decide +kernel
theorem d_Terms_cell_7 : decode prog_17_method_3_code 7 = .ok (.imul, 1) := by decide +kernel
theorem d_Terms_cell_8 : decode prog_17_method_3_code 8 = .ok (.iload_n 2, 1) := by decide +kernel
theorem d_Terms_cell_9 : decode prog_17_method_3_code 9 = .ok (.iadd, 1) := by decide +kernel
theorem d_Terms_cell_10 : decode prog_17_method_3_code 10 = .ok (.iaload, 1) := by decide +kernel
theorem d_Terms_cell_11 : decode prog_17_method_3_code 11 = .ok (.ireturn, 1) := by decide +kernel
theorem d_Terms_is_0 : decode prog_17_method_4_code 0 = .ok (.aload_n 0, 1) := by decide +kernel
theorem d_Terms_is_1 : decode prog_17_method_4_code 1 = .ok (.iload_n 1, 1) := by decide +kernel
theorem d_Terms_is_2 : decode prog_17_method_4_code 2 = .ok (.iconst 0, 1) := by decide +kernel
theorem d_Terms_is_3 : decode prog_17_method_4_code 3 = .ok (.invokevirtual 23, 3) := by decide +kernel
theorem d_Terms_is_6 : decode prog_17_method_4_code 6 = .ok (.iload_n 2, 1) := by decide +kernel
theorem d_Terms_is_7 : decode prog_17_method_4_code 7 = .ok (.if_icmp .ne 7, 3) := by decide +kernel
theorem d_Terms_is_10 : decode prog_17_method_4_code 10 = .ok (.iconst 1, 1) := by decide +kernel
theorem d_Terms_is_11 : decode prog_17_method_4_code 11 = .ok (.goto 4, 3) := by decide +kernel
theorem d_Terms_is_14 : decode prog_17_method_4_code 14 = .ok (.iconst 0, 1) := by decide +kernel
theorem d_Terms_is_15 : decode prog_17_method_4_code 15 = .ok (.ireturn, 1) := by decide +kernel
